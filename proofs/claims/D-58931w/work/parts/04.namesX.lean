/-! PostChaiseYard -/
set_option maxRecDepth 100000
def RX1 : String := "PostChaiseYard"
def TX1 : u_T := fun k => match k with
  | 0 => ("PostChaiseYard", "words", "[Ljava/lang/String;", true)
  | 1 => ("PostChaiseYard", "state", "LPostChaiseYard$State;", false)
  | 2 => ("PostChaiseYard", "snapshot", "LPostChaiseYard$State;", false)
  | 3 => ("PostChaiseYard", "history", "Ljava/util/ArrayDeque;", true)
  | _ => ("PostChaiseYard", "buffer", "Ljava/lang/StringBuilder;", true)
def tyX1 : Nat → FieldType := fun k => match k with
  | 0 => .array (.object "java/lang/String")
  | 1 => .object "PostChaiseYard$State"
  | 2 => .object "PostChaiseYard$State"
  | 3 => .object "java/util/ArrayDeque"
  | _ => .object "java/lang/StringBuilder"
abbrev wsX10 : List Cond := u_ws RX1 TX1 5
theorem nmX1 : ∀ a, a < 5 → ∀ b, b < 5 → a ≠ b → (TX1 a).2.1 ≠ (TX1 b).2.1 := by decide +kernel
theorem tyX1_ok : ∀ k, k < 5 → parseFieldDescriptor (TX1 k).2.2.1 = some (tyX1 k) := by decide +kernel
abbrev cX1_init : ByteArray := prog_1_method_1_code
def yX1_init : MethodName := ⟨RX1, "<init>", "()V"⟩
def dkwX1_init_3 : List UInt8 := [181, 0, 39, 42, 187, 0, 43, 89, 183, 0, 45, 181, 0, 46, 177]
abbrev dktX1_init_3 : List UInt8 := dkwX1_init_3 ++ []
def dkwX1_init_2 : List UInt8 := [181, 0, 23, 42, 187, 0, 29, 89, 183, 0, 31, 181, 0, 32, 42, 187, 0, 36, 89, 183, 0, 38]
abbrev dktX1_init_2 : List UInt8 := dkwX1_init_2 ++ dktX1_init_3
def dkwX1_init_1 : List UInt8 := [83, 89, 6, 18, 15, 83, 89, 7, 18, 17, 83, 89, 8, 18, 19, 83, 89, 16, 6, 18, 21, 83]
abbrev dktX1_init_1 : List UInt8 := dkwX1_init_1 ++ dktX1_init_2
def dkwX1_init_0 : List UInt8 := [42, 183, 0, 1, 42, 16, 7, 189, 0, 7, 89, 3, 18, 9, 83, 89, 4, 18, 11, 83, 89, 5, 18, 13]
abbrev dktX1_init_0 : List UInt8 := dkwX1_init_0 ++ dktX1_init_1
theorem dksX1_init_0 : cX1_init.data.toList.drop 0 = dktX1_init_0 := by decide +kernel
theorem dksX1_init_1 : cX1_init.data.toList.drop 24 = dktX1_init_1 := dk_seg dksX1_init_0 24 rfl rfl
theorem dksX1_init_2 : cX1_init.data.toList.drop 46 = dktX1_init_2 := dk_seg dksX1_init_1 22 rfl rfl
theorem dksX1_init_3 : cX1_init.data.toList.drop 68 = dktX1_init_3 := dk_seg dksX1_init_2 22 rfl rfl
theorem dX1_init_0 : decode cX1_init 0 = .ok (.aload_n 0, 1) := dk_42 (dk_at dksX1_init_0 0 rfl rfl)
theorem dX1_init_1 : decode cX1_init 1 = .ok (.invokespecial 1, 3) := dk_183 0 1 (dk_at dksX1_init_0 1 rfl rfl)
theorem dX1_init_4 : decode cX1_init 4 = .ok (.aload_n 0, 1) := dk_42 (dk_at dksX1_init_0 4 rfl rfl)
theorem dX1_init_5 : decode cX1_init 5 = .ok (.bipush 7, 2) := dk_16 7 (dk_at dksX1_init_0 5 rfl rfl)
theorem dX1_init_7 : decode cX1_init 7 = .ok (.anewarray 7, 3) := dk_189 0 7 (dk_at dksX1_init_0 7 rfl rfl)
theorem dX1_init_10 : decode cX1_init 10 = .ok (.dup, 1) := dk_89 (dk_at dksX1_init_0 10 rfl rfl)
theorem dX1_init_11 : decode cX1_init 11 = .ok (.iconst 0, 1) := dk_3 (dk_at dksX1_init_0 11 rfl rfl)
theorem dX1_init_12 : decode cX1_init 12 = .ok (.ldc 9, 2) := dk_18 9 (dk_at dksX1_init_0 12 rfl rfl)
theorem dX1_init_14 : decode cX1_init 14 = .ok (.aastore, 1) := dk_83 (dk_at dksX1_init_0 14 rfl rfl)
theorem dX1_init_15 : decode cX1_init 15 = .ok (.dup, 1) := dk_89 (dk_at dksX1_init_0 15 rfl rfl)
theorem dX1_init_16 : decode cX1_init 16 = .ok (.iconst 1, 1) := dk_4 (dk_at dksX1_init_0 16 rfl rfl)
theorem dX1_init_17 : decode cX1_init 17 = .ok (.ldc 11, 2) := dk_18 11 (dk_at dksX1_init_0 17 rfl rfl)
theorem dX1_init_19 : decode cX1_init 19 = .ok (.aastore, 1) := dk_83 (dk_at dksX1_init_0 19 rfl rfl)
theorem dX1_init_20 : decode cX1_init 20 = .ok (.dup, 1) := dk_89 (dk_at dksX1_init_0 20 rfl rfl)
theorem dX1_init_21 : decode cX1_init 21 = .ok (.iconst 2, 1) := dk_5 (dk_at dksX1_init_0 21 rfl rfl)
theorem dX1_init_22 : decode cX1_init 22 = .ok (.ldc 13, 2) := dk_18 13 (dk_at dksX1_init_0 22 rfl rfl)
theorem dX1_init_24 : decode cX1_init 24 = .ok (.aastore, 1) := dk_83 (dk_at dksX1_init_1 0 rfl rfl)
theorem dX1_init_25 : decode cX1_init 25 = .ok (.dup, 1) := dk_89 (dk_at dksX1_init_1 1 rfl rfl)
theorem dX1_init_26 : decode cX1_init 26 = .ok (.iconst 3, 1) := dk_6 (dk_at dksX1_init_1 2 rfl rfl)
theorem dX1_init_27 : decode cX1_init 27 = .ok (.ldc 15, 2) := dk_18 15 (dk_at dksX1_init_1 3 rfl rfl)
theorem dX1_init_29 : decode cX1_init 29 = .ok (.aastore, 1) := dk_83 (dk_at dksX1_init_1 5 rfl rfl)
theorem dX1_init_30 : decode cX1_init 30 = .ok (.dup, 1) := dk_89 (dk_at dksX1_init_1 6 rfl rfl)
theorem dX1_init_31 : decode cX1_init 31 = .ok (.iconst 4, 1) := dk_7 (dk_at dksX1_init_1 7 rfl rfl)
theorem dX1_init_32 : decode cX1_init 32 = .ok (.ldc 17, 2) := dk_18 17 (dk_at dksX1_init_1 8 rfl rfl)
theorem dX1_init_34 : decode cX1_init 34 = .ok (.aastore, 1) := dk_83 (dk_at dksX1_init_1 10 rfl rfl)
theorem dX1_init_35 : decode cX1_init 35 = .ok (.dup, 1) := dk_89 (dk_at dksX1_init_1 11 rfl rfl)
theorem dX1_init_36 : decode cX1_init 36 = .ok (.iconst 5, 1) := dk_8 (dk_at dksX1_init_1 12 rfl rfl)
theorem dX1_init_37 : decode cX1_init 37 = .ok (.ldc 19, 2) := dk_18 19 (dk_at dksX1_init_1 13 rfl rfl)
theorem dX1_init_39 : decode cX1_init 39 = .ok (.aastore, 1) := dk_83 (dk_at dksX1_init_1 15 rfl rfl)
theorem dX1_init_40 : decode cX1_init 40 = .ok (.dup, 1) := dk_89 (dk_at dksX1_init_1 16 rfl rfl)
theorem dX1_init_41 : decode cX1_init 41 = .ok (.bipush 6, 2) := dk_16 6 (dk_at dksX1_init_1 17 rfl rfl)
theorem dX1_init_43 : decode cX1_init 43 = .ok (.ldc 21, 2) := dk_18 21 (dk_at dksX1_init_1 19 rfl rfl)
theorem dX1_init_45 : decode cX1_init 45 = .ok (.aastore, 1) := dk_83 (dk_at dksX1_init_1 21 rfl rfl)
theorem dX1_init_46 : decode cX1_init 46 = .ok (.putfield 23, 3) := dk_181 0 23 (dk_at dksX1_init_2 0 rfl rfl)
theorem dX1_init_49 : decode cX1_init 49 = .ok (.aload_n 0, 1) := dk_42 (dk_at dksX1_init_2 3 rfl rfl)
theorem dX1_init_50 : decode cX1_init 50 = .ok (.new 29, 3) := dk_187 0 29 (dk_at dksX1_init_2 4 rfl rfl)
theorem dX1_init_53 : decode cX1_init 53 = .ok (.dup, 1) := dk_89 (dk_at dksX1_init_2 7 rfl rfl)
theorem dX1_init_54 : decode cX1_init 54 = .ok (.invokespecial 31, 3) := dk_183 0 31 (dk_at dksX1_init_2 8 rfl rfl)
theorem dX1_init_57 : decode cX1_init 57 = .ok (.putfield 32, 3) := dk_181 0 32 (dk_at dksX1_init_2 11 rfl rfl)
theorem dX1_init_60 : decode cX1_init 60 = .ok (.aload_n 0, 1) := dk_42 (dk_at dksX1_init_2 14 rfl rfl)
theorem dX1_init_61 : decode cX1_init 61 = .ok (.new 36, 3) := dk_187 0 36 (dk_at dksX1_init_2 15 rfl rfl)
theorem dX1_init_64 : decode cX1_init 64 = .ok (.dup, 1) := dk_89 (dk_at dksX1_init_2 18 rfl rfl)
theorem dX1_init_65 : decode cX1_init 65 = .ok (.invokespecial 38, 3) := dk_183 0 38 (dk_at dksX1_init_2 19 rfl rfl)
theorem dX1_init_68 : decode cX1_init 68 = .ok (.putfield 39, 3) := dk_181 0 39 (dk_at dksX1_init_3 0 rfl rfl)
theorem dX1_init_71 : decode cX1_init 71 = .ok (.aload_n 0, 1) := dk_42 (dk_at dksX1_init_3 3 rfl rfl)
theorem dX1_init_72 : decode cX1_init 72 = .ok (.new 43, 3) := dk_187 0 43 (dk_at dksX1_init_3 4 rfl rfl)
theorem dX1_init_75 : decode cX1_init 75 = .ok (.dup, 1) := dk_89 (dk_at dksX1_init_3 7 rfl rfl)
theorem dX1_init_76 : decode cX1_init 76 = .ok (.invokespecial 45, 3) := dk_183 0 45 (dk_at dksX1_init_3 8 rfl rfl)
theorem dX1_init_79 : decode cX1_init 79 = .ok (.putfield 46, 3) := dk_181 0 46 (dk_at dksX1_init_3 11 rfl rfl)
theorem dX1_init_82 : decode cX1_init 82 = .ok (.return_, 1) := dk_177 (dk_at dksX1_init_3 14 rfl rfl)
abbrev cX1_time : ByteArray := prog_1_method_22_code
def yX1_time : MethodName := ⟨RX1, "time", "()I"⟩
def dkwX1_time_0 : List UInt8 := [42, 180, 0, 32, 180, 0, 199, 172]
abbrev dktX1_time_0 : List UInt8 := dkwX1_time_0 ++ []
theorem dksX1_time_0 : cX1_time.data.toList.drop 0 = dktX1_time_0 := by decide +kernel
theorem dX1_time_0 : decode cX1_time 0 = .ok (.aload_n 0, 1) := dk_42 (dk_at dksX1_time_0 0 rfl rfl)
theorem dX1_time_1 : decode cX1_time 1 = .ok (.getfield 32, 3) := dk_180 0 32 (dk_at dksX1_time_0 1 rfl rfl)
theorem dX1_time_4 : decode cX1_time 4 = .ok (.getfield 199, 3) := dk_180 0 199 (dk_at dksX1_time_0 4 rfl rfl)
theorem dX1_time_7 : decode cX1_time 7 = .ok (.ireturn, 1) := dk_172 (dk_at dksX1_time_0 7 rfl rfl)
abbrev cX1_pace : ByteArray := prog_1_method_23_code
def yX1_pace : MethodName := ⟨RX1, "pace", "()I"⟩
def dkwX1_pace_0 : List UInt8 := [42, 180, 0, 32, 180, 0, 193, 172]
abbrev dktX1_pace_0 : List UInt8 := dkwX1_pace_0 ++ []
theorem dksX1_pace_0 : cX1_pace.data.toList.drop 0 = dktX1_pace_0 := by decide +kernel
theorem dX1_pace_0 : decode cX1_pace 0 = .ok (.aload_n 0, 1) := dk_42 (dk_at dksX1_pace_0 0 rfl rfl)
theorem dX1_pace_1 : decode cX1_pace 1 = .ok (.getfield 32, 3) := dk_180 0 32 (dk_at dksX1_pace_0 1 rfl rfl)
theorem dX1_pace_4 : decode cX1_pace 4 = .ok (.getfield 193, 3) := dk_180 0 193 (dk_at dksX1_pace_0 4 rfl rfl)
theorem dX1_pace_7 : decode cX1_pace 7 = .ok (.ireturn, 1) := dk_172 (dk_at dksX1_pace_0 7 rfl rfl)
abbrev cX1_poleLimit : ByteArray := prog_1_method_24_code
def yX1_poleLimit : MethodName := ⟨RX1, "poleLimit", "()I"⟩
def dkwX1_poleLimit_0 : List UInt8 := [42, 180, 0, 32, 180, 0, 196, 172]
abbrev dktX1_poleLimit_0 : List UInt8 := dkwX1_poleLimit_0 ++ []
theorem dksX1_poleLimit_0 : cX1_poleLimit.data.toList.drop 0 = dktX1_poleLimit_0 := by decide +kernel
theorem dX1_poleLimit_0 : decode cX1_poleLimit 0 = .ok (.aload_n 0, 1) := dk_42 (dk_at dksX1_poleLimit_0 0 rfl rfl)
theorem dX1_poleLimit_1 : decode cX1_poleLimit 1 = .ok (.getfield 32, 3) := dk_180 0 32 (dk_at dksX1_poleLimit_0 1 rfl rfl)
theorem dX1_poleLimit_4 : decode cX1_poleLimit 4 = .ok (.getfield 196, 3) := dk_180 0 196 (dk_at dksX1_poleLimit_0 4 rfl rfl)
theorem dX1_poleLimit_7 : decode cX1_poleLimit 7 = .ok (.ireturn, 1) := dk_172 (dk_at dksX1_poleLimit_0 7 rfl rfl)
abbrev cX1_guestCount : ByteArray := prog_1_method_25_code
def yX1_guestCount : MethodName := ⟨RX1, "guestCount", "()I"⟩
def dkwX1_guestCount_0 : List UInt8 := [42, 180, 0, 32, 180, 0, 78, 185, 0, 82, 1, 0, 172]
abbrev dktX1_guestCount_0 : List UInt8 := dkwX1_guestCount_0 ++ []
theorem dksX1_guestCount_0 : cX1_guestCount.data.toList.drop 0 = dktX1_guestCount_0 := by decide +kernel
theorem dX1_guestCount_0 : decode cX1_guestCount 0 = .ok (.aload_n 0, 1) := dk_42 (dk_at dksX1_guestCount_0 0 rfl rfl)
theorem dX1_guestCount_1 : decode cX1_guestCount 1 = .ok (.getfield 32, 3) := dk_180 0 32 (dk_at dksX1_guestCount_0 1 rfl rfl)
theorem dX1_guestCount_4 : decode cX1_guestCount 4 = .ok (.getfield 78, 3) := dk_180 0 78 (dk_at dksX1_guestCount_0 4 rfl rfl)
theorem dX1_guestCount_7 : decode cX1_guestCount 7 = .ok (.invokeinterface 82 1, 5) := by decide +kernel
theorem dX1_guestCount_12 : decode cX1_guestCount 12 = .ok (.ireturn, 1) := dk_172 (dk_at dksX1_guestCount_0 12 rfl rfl)
abbrev cX1_lineLength : ByteArray := prog_1_method_35_code
def yX1_lineLength : MethodName := ⟨RX1, "lineLength", "()I"⟩
def dkwX1_lineLength_0 : List UInt8 := [42, 180, 0, 32, 180, 0, 234, 182, 0, 238, 172]
abbrev dktX1_lineLength_0 : List UInt8 := dkwX1_lineLength_0 ++ []
theorem dksX1_lineLength_0 : cX1_lineLength.data.toList.drop 0 = dktX1_lineLength_0 := by decide +kernel
theorem dX1_lineLength_0 : decode cX1_lineLength 0 = .ok (.aload_n 0, 1) := dk_42 (dk_at dksX1_lineLength_0 0 rfl rfl)
theorem dX1_lineLength_1 : decode cX1_lineLength 1 = .ok (.getfield 32, 3) := dk_180 0 32 (dk_at dksX1_lineLength_0 1 rfl rfl)
theorem dX1_lineLength_4 : decode cX1_lineLength 4 = .ok (.getfield 234, 3) := dk_180 0 234 (dk_at dksX1_lineLength_0 4 rfl rfl)
theorem dX1_lineLength_7 : decode cX1_lineLength 7 = .ok (.invokevirtual 238, 3) := dk_182 0 238 (dk_at dksX1_lineLength_0 7 rfl rfl)
theorem dX1_lineLength_10 : decode cX1_lineLength 10 = .ok (.ireturn, 1) := dk_172 (dk_at dksX1_lineLength_0 10 rfl rfl)
abbrev cX1_whyNoDeparture : ByteArray := prog_1_method_55_code
def yX1_whyNoDeparture : MethodName := ⟨RX1, "whyNoDeparture", "()I"⟩
def dkwX1_whyNoDeparture_0 : List UInt8 := [42, 180, 0, 32, 182, 1, 36, 172]
abbrev dktX1_whyNoDeparture_0 : List UInt8 := dkwX1_whyNoDeparture_0 ++ []
theorem dksX1_whyNoDeparture_0 : cX1_whyNoDeparture.data.toList.drop 0 = dktX1_whyNoDeparture_0 := by decide +kernel
theorem dX1_whyNoDeparture_0 : decode cX1_whyNoDeparture 0 = .ok (.aload_n 0, 1) := dk_42 (dk_at dksX1_whyNoDeparture_0 0 rfl rfl)
theorem dX1_whyNoDeparture_1 : decode cX1_whyNoDeparture 1 = .ok (.getfield 32, 3) := dk_180 0 32 (dk_at dksX1_whyNoDeparture_0 1 rfl rfl)
theorem dX1_whyNoDeparture_4 : decode cX1_whyNoDeparture 4 = .ok (.invokevirtual 292, 3) := dk_182 1 36 (dk_at dksX1_whyNoDeparture_0 4 rfl rfl)
theorem dX1_whyNoDeparture_7 : decode cX1_whyNoDeparture 7 = .ok (.ireturn, 1) := dk_172 (dk_at dksX1_whyNoDeparture_0 7 rfl rfl)
abbrev cX1_incomeByGuests : ByteArray := prog_1_method_58_code
def yX1_incomeByGuests : MethodName := ⟨RX1, "incomeByGuests", "()I"⟩
def dkwX1_incomeByGuests_2 : List UInt8 := [192, 0, 93, 182, 0, 231, 167, 0, 4, 3, 96, 60, 132, 2, 1, 167, 255, 200, 27, 172]
abbrev dktX1_incomeByGuests_2 : List UInt8 := dkwX1_incomeByGuests_2 ++ []
def dkwX1_incomeByGuests_1 : List UInt8 := [180, 0, 32, 28, 182, 1, 42, 153, 0, 25, 42, 180, 0, 32, 180, 0, 78, 28, 185, 0, 89, 2, 0]
abbrev dktX1_incomeByGuests_1 : List UInt8 := dkwX1_incomeByGuests_1 ++ dktX1_incomeByGuests_2
def dkwX1_incomeByGuests_0 : List UInt8 := [3, 60, 3, 61, 28, 42, 180, 0, 32, 180, 0, 78, 185, 0, 82, 1, 0, 162, 0, 46, 27, 42]
abbrev dktX1_incomeByGuests_0 : List UInt8 := dkwX1_incomeByGuests_0 ++ dktX1_incomeByGuests_1
theorem dksX1_incomeByGuests_0 : cX1_incomeByGuests.data.toList.drop 0 = dktX1_incomeByGuests_0 := by decide +kernel
theorem dksX1_incomeByGuests_1 : cX1_incomeByGuests.data.toList.drop 22 = dktX1_incomeByGuests_1 := dk_seg dksX1_incomeByGuests_0 22 rfl rfl
theorem dksX1_incomeByGuests_2 : cX1_incomeByGuests.data.toList.drop 45 = dktX1_incomeByGuests_2 := dk_seg dksX1_incomeByGuests_1 23 rfl rfl
theorem dX1_incomeByGuests_0 : decode cX1_incomeByGuests 0 = .ok (.iconst 0, 1) := dk_3 (dk_at dksX1_incomeByGuests_0 0 rfl rfl)
theorem dX1_incomeByGuests_1 : decode cX1_incomeByGuests 1 = .ok (.istore_n 1, 1) := dk_60 (dk_at dksX1_incomeByGuests_0 1 rfl rfl)
theorem dX1_incomeByGuests_2 : decode cX1_incomeByGuests 2 = .ok (.iconst 0, 1) := dk_3 (dk_at dksX1_incomeByGuests_0 2 rfl rfl)
theorem dX1_incomeByGuests_3 : decode cX1_incomeByGuests 3 = .ok (.istore_n 2, 1) := dk_61 (dk_at dksX1_incomeByGuests_0 3 rfl rfl)
theorem dX1_incomeByGuests_4 : decode cX1_incomeByGuests 4 = .ok (.iload_n 2, 1) := dk_28 (dk_at dksX1_incomeByGuests_0 4 rfl rfl)
theorem dX1_incomeByGuests_5 : decode cX1_incomeByGuests 5 = .ok (.aload_n 0, 1) := dk_42 (dk_at dksX1_incomeByGuests_0 5 rfl rfl)
theorem dX1_incomeByGuests_6 : decode cX1_incomeByGuests 6 = .ok (.getfield 32, 3) := dk_180 0 32 (dk_at dksX1_incomeByGuests_0 6 rfl rfl)
theorem dX1_incomeByGuests_9 : decode cX1_incomeByGuests 9 = .ok (.getfield 78, 3) := dk_180 0 78 (dk_at dksX1_incomeByGuests_0 9 rfl rfl)
theorem dX1_incomeByGuests_12 : decode cX1_incomeByGuests 12 = .ok (.invokeinterface 82 1, 5) := by decide +kernel
theorem dX1_incomeByGuests_17 : decode cX1_incomeByGuests 17 = .ok (.if_icmp .ge 46, 3) := dk_162 0 46 (dk_at dksX1_incomeByGuests_0 17 rfl rfl)
theorem dX1_incomeByGuests_20 : decode cX1_incomeByGuests 20 = .ok (.iload_n 1, 1) := dk_27 (dk_at dksX1_incomeByGuests_0 20 rfl rfl)
theorem dX1_incomeByGuests_21 : decode cX1_incomeByGuests 21 = .ok (.aload_n 0, 1) := dk_42 (dk_at dksX1_incomeByGuests_0 21 rfl rfl)
theorem dX1_incomeByGuests_22 : decode cX1_incomeByGuests 22 = .ok (.getfield 32, 3) := dk_180 0 32 (dk_at dksX1_incomeByGuests_1 0 rfl rfl)
theorem dX1_incomeByGuests_25 : decode cX1_incomeByGuests 25 = .ok (.iload_n 2, 1) := dk_28 (dk_at dksX1_incomeByGuests_1 3 rfl rfl)
theorem dX1_incomeByGuests_26 : decode cX1_incomeByGuests 26 = .ok (.invokevirtual 298, 3) := dk_182 1 42 (dk_at dksX1_incomeByGuests_1 4 rfl rfl)
theorem dX1_incomeByGuests_29 : decode cX1_incomeByGuests 29 = .ok (.ifCond .eq 25, 3) := dk_153 0 25 (dk_at dksX1_incomeByGuests_1 7 rfl rfl)
theorem dX1_incomeByGuests_32 : decode cX1_incomeByGuests 32 = .ok (.aload_n 0, 1) := dk_42 (dk_at dksX1_incomeByGuests_1 10 rfl rfl)
theorem dX1_incomeByGuests_33 : decode cX1_incomeByGuests 33 = .ok (.getfield 32, 3) := dk_180 0 32 (dk_at dksX1_incomeByGuests_1 11 rfl rfl)
theorem dX1_incomeByGuests_36 : decode cX1_incomeByGuests 36 = .ok (.getfield 78, 3) := dk_180 0 78 (dk_at dksX1_incomeByGuests_1 14 rfl rfl)
theorem dX1_incomeByGuests_39 : decode cX1_incomeByGuests 39 = .ok (.iload_n 2, 1) := dk_28 (dk_at dksX1_incomeByGuests_1 17 rfl rfl)
theorem dX1_incomeByGuests_40 : decode cX1_incomeByGuests 40 = .ok (.invokeinterface 89 2, 5) := by decide +kernel
theorem dX1_incomeByGuests_45 : decode cX1_incomeByGuests 45 = .ok (.checkcast 93, 3) := dk_192 0 93 (dk_at dksX1_incomeByGuests_2 0 rfl rfl)
theorem dX1_incomeByGuests_48 : decode cX1_incomeByGuests 48 = .ok (.invokevirtual 231, 3) := dk_182 0 231 (dk_at dksX1_incomeByGuests_2 3 rfl rfl)
theorem dX1_incomeByGuests_51 : decode cX1_incomeByGuests 51 = .ok (.goto 4, 3) := dk_167 0 4 (dk_at dksX1_incomeByGuests_2 6 rfl rfl)
theorem dX1_incomeByGuests_54 : decode cX1_incomeByGuests 54 = .ok (.iconst 0, 1) := dk_3 (dk_at dksX1_incomeByGuests_2 9 rfl rfl)
theorem dX1_incomeByGuests_55 : decode cX1_incomeByGuests 55 = .ok (.iadd, 1) := dk_96 (dk_at dksX1_incomeByGuests_2 10 rfl rfl)
theorem dX1_incomeByGuests_56 : decode cX1_incomeByGuests 56 = .ok (.istore_n 1, 1) := dk_60 (dk_at dksX1_incomeByGuests_2 11 rfl rfl)
theorem dX1_incomeByGuests_57 : decode cX1_incomeByGuests 57 = .ok (.iinc 2 1, 3) := dk_132 2 1 (dk_at dksX1_incomeByGuests_2 12 rfl rfl)
theorem dX1_incomeByGuests_60 : decode cX1_incomeByGuests 60 = .ok (.goto (-56), 3) := dk_167 255 200 (dk_at dksX1_incomeByGuests_2 15 rfl rfl)
theorem dX1_incomeByGuests_63 : decode cX1_incomeByGuests 63 = .ok (.iload_n 1, 1) := dk_27 (dk_at dksX1_incomeByGuests_2 18 rfl rfl)
theorem dX1_incomeByGuests_64 : decode cX1_incomeByGuests 64 = .ok (.ireturn, 1) := dk_172 (dk_at dksX1_incomeByGuests_2 19 rfl rfl)
abbrev cX1_milesOf : ByteArray := prog_1_method_2_code
def yX1_milesOf : MethodName := ⟨RX1, "milesOf", "(I)I"⟩
def dkwX1_milesOf_2 : List UInt8 := [16, 6, 172, 16, 9, 172, 16, 12, 172, 16, 16, 172]
abbrev dktX1_milesOf_2 : List UInt8 := dkwX1_milesOf_2 ++ []
def dkwX1_milesOf_1 : List UInt8 := [170, 0, 0, 0, 0, 0, 36, 0, 0, 0, 0, 0, 0, 0, 2, 0, 0, 0, 27, 0, 0, 0, 30, 0, 0, 0, 33]
abbrev dktX1_milesOf_1 : List UInt8 := dkwX1_milesOf_1 ++ dktX1_milesOf_2
def dkwX1_milesOf_0 : List UInt8 := [26]
abbrev dktX1_milesOf_0 : List UInt8 := dkwX1_milesOf_0 ++ dktX1_milesOf_1
theorem dksX1_milesOf_0 : cX1_milesOf.data.toList.drop 0 = dktX1_milesOf_0 := by decide +kernel
theorem dksX1_milesOf_1 : cX1_milesOf.data.toList.drop 1 = dktX1_milesOf_1 := dk_seg dksX1_milesOf_0 1 rfl rfl
theorem dksX1_milesOf_2 : cX1_milesOf.data.toList.drop 28 = dktX1_milesOf_2 := dk_seg dksX1_milesOf_1 27 rfl rfl
theorem dX1_milesOf_0 : decode cX1_milesOf 0 = .ok (.iload_n 0, 1) := dk_26 (dk_at dksX1_milesOf_0 0 rfl rfl)
theorem dX1_milesOf_1 : decode cX1_milesOf 1 = .ok (.tableswitch 36 0 2 #[27, 30, 33], 27) := by decide +kernel
theorem dX1_milesOf_28 : decode cX1_milesOf 28 = .ok (.bipush 6, 2) := dk_16 6 (dk_at dksX1_milesOf_2 0 rfl rfl)
theorem dX1_milesOf_30 : decode cX1_milesOf 30 = .ok (.ireturn, 1) := dk_172 (dk_at dksX1_milesOf_2 2 rfl rfl)
theorem dX1_milesOf_31 : decode cX1_milesOf 31 = .ok (.bipush 9, 2) := dk_16 9 (dk_at dksX1_milesOf_2 3 rfl rfl)
theorem dX1_milesOf_33 : decode cX1_milesOf 33 = .ok (.ireturn, 1) := dk_172 (dk_at dksX1_milesOf_2 5 rfl rfl)
theorem dX1_milesOf_34 : decode cX1_milesOf 34 = .ok (.bipush 12, 2) := dk_16 12 (dk_at dksX1_milesOf_2 6 rfl rfl)
theorem dX1_milesOf_36 : decode cX1_milesOf 36 = .ok (.ireturn, 1) := dk_172 (dk_at dksX1_milesOf_2 8 rfl rfl)
theorem dX1_milesOf_37 : decode cX1_milesOf 37 = .ok (.bipush 16, 2) := dk_16 16 (dk_at dksX1_milesOf_2 9 rfl rfl)
theorem dX1_milesOf_39 : decode cX1_milesOf 39 = .ok (.ireturn, 1) := dk_172 (dk_at dksX1_milesOf_2 11 rfl rfl)
abbrev cX1_incomeByRoads : ByteArray := prog_1_method_59_code
def yX1_incomeByRoads : MethodName := ⟨RX1, "incomeByRoads", "()I"⟩
def dkwX1_incomeByRoads_1 : List UInt8 := [192, 1, 50, 182, 1, 60, 96, 60, 132, 2, 1, 167, 255, 225, 27, 172]
abbrev dktX1_incomeByRoads_1 : List UInt8 := dkwX1_incomeByRoads_1 ++ []
def dkwX1_incomeByRoads_0 : List UInt8 := [3, 60, 3, 61, 28, 7, 162, 0, 32, 27, 42, 180, 0, 32, 180, 1, 45, 28, 184, 1, 49, 182, 1, 55]
abbrev dktX1_incomeByRoads_0 : List UInt8 := dkwX1_incomeByRoads_0 ++ dktX1_incomeByRoads_1
theorem dksX1_incomeByRoads_0 : cX1_incomeByRoads.data.toList.drop 0 = dktX1_incomeByRoads_0 := by decide +kernel
theorem dksX1_incomeByRoads_1 : cX1_incomeByRoads.data.toList.drop 24 = dktX1_incomeByRoads_1 := dk_seg dksX1_incomeByRoads_0 24 rfl rfl
theorem dX1_incomeByRoads_0 : decode cX1_incomeByRoads 0 = .ok (.iconst 0, 1) := dk_3 (dk_at dksX1_incomeByRoads_0 0 rfl rfl)
theorem dX1_incomeByRoads_1 : decode cX1_incomeByRoads 1 = .ok (.istore_n 1, 1) := dk_60 (dk_at dksX1_incomeByRoads_0 1 rfl rfl)
theorem dX1_incomeByRoads_2 : decode cX1_incomeByRoads 2 = .ok (.iconst 0, 1) := dk_3 (dk_at dksX1_incomeByRoads_0 2 rfl rfl)
theorem dX1_incomeByRoads_3 : decode cX1_incomeByRoads 3 = .ok (.istore_n 2, 1) := dk_61 (dk_at dksX1_incomeByRoads_0 3 rfl rfl)
theorem dX1_incomeByRoads_4 : decode cX1_incomeByRoads 4 = .ok (.iload_n 2, 1) := dk_28 (dk_at dksX1_incomeByRoads_0 4 rfl rfl)
theorem dX1_incomeByRoads_5 : decode cX1_incomeByRoads 5 = .ok (.iconst 4, 1) := dk_7 (dk_at dksX1_incomeByRoads_0 5 rfl rfl)
theorem dX1_incomeByRoads_6 : decode cX1_incomeByRoads 6 = .ok (.if_icmp .ge 32, 3) := dk_162 0 32 (dk_at dksX1_incomeByRoads_0 6 rfl rfl)
theorem dX1_incomeByRoads_9 : decode cX1_incomeByRoads 9 = .ok (.iload_n 1, 1) := dk_27 (dk_at dksX1_incomeByRoads_0 9 rfl rfl)
theorem dX1_incomeByRoads_10 : decode cX1_incomeByRoads 10 = .ok (.aload_n 0, 1) := dk_42 (dk_at dksX1_incomeByRoads_0 10 rfl rfl)
theorem dX1_incomeByRoads_11 : decode cX1_incomeByRoads 11 = .ok (.getfield 32, 3) := dk_180 0 32 (dk_at dksX1_incomeByRoads_0 11 rfl rfl)
theorem dX1_incomeByRoads_14 : decode cX1_incomeByRoads 14 = .ok (.getfield 301, 3) := dk_180 1 45 (dk_at dksX1_incomeByRoads_0 14 rfl rfl)
theorem dX1_incomeByRoads_17 : decode cX1_incomeByRoads 17 = .ok (.iload_n 2, 1) := dk_28 (dk_at dksX1_incomeByRoads_0 17 rfl rfl)
theorem dX1_incomeByRoads_18 : decode cX1_incomeByRoads 18 = .ok (.invokestatic 305, 3) := dk_184 1 49 (dk_at dksX1_incomeByRoads_0 18 rfl rfl)
theorem dX1_incomeByRoads_21 : decode cX1_incomeByRoads 21 = .ok (.invokevirtual 311, 3) := dk_182 1 55 (dk_at dksX1_incomeByRoads_0 21 rfl rfl)
theorem dX1_incomeByRoads_24 : decode cX1_incomeByRoads 24 = .ok (.checkcast 306, 3) := dk_192 1 50 (dk_at dksX1_incomeByRoads_1 0 rfl rfl)
theorem dX1_incomeByRoads_27 : decode cX1_incomeByRoads 27 = .ok (.invokevirtual 316, 3) := dk_182 1 60 (dk_at dksX1_incomeByRoads_1 3 rfl rfl)
theorem dX1_incomeByRoads_30 : decode cX1_incomeByRoads 30 = .ok (.iadd, 1) := dk_96 (dk_at dksX1_incomeByRoads_1 6 rfl rfl)
theorem dX1_incomeByRoads_31 : decode cX1_incomeByRoads 31 = .ok (.istore_n 1, 1) := dk_60 (dk_at dksX1_incomeByRoads_1 7 rfl rfl)
theorem dX1_incomeByRoads_32 : decode cX1_incomeByRoads 32 = .ok (.iinc 2 1, 3) := dk_132 2 1 (dk_at dksX1_incomeByRoads_1 8 rfl rfl)
theorem dX1_incomeByRoads_35 : decode cX1_incomeByRoads 35 = .ok (.goto (-31), 3) := dk_167 255 225 (dk_at dksX1_incomeByRoads_1 11 rfl rfl)
theorem dX1_incomeByRoads_38 : decode cX1_incomeByRoads 38 = .ok (.iload_n 1, 1) := dk_27 (dk_at dksX1_incomeByRoads_1 14 rfl rfl)
theorem dX1_incomeByRoads_39 : decode cX1_incomeByRoads 39 = .ok (.ireturn, 1) := dk_172 (dk_at dksX1_incomeByRoads_1 15 rfl rfl)
abbrev cX1_spentOnPoles : ByteArray := prog_1_method_61_code
def yX1_spentOnPoles : MethodName := ⟨RX1, "spentOnPoles", "()I"⟩
def dkwX1_spentOnPoles_0 : List UInt8 := [42, 180, 0, 32, 180, 1, 63, 172]
abbrev dktX1_spentOnPoles_0 : List UInt8 := dkwX1_spentOnPoles_0 ++ []
theorem dksX1_spentOnPoles_0 : cX1_spentOnPoles.data.toList.drop 0 = dktX1_spentOnPoles_0 := by decide +kernel
theorem dX1_spentOnPoles_0 : decode cX1_spentOnPoles 0 = .ok (.aload_n 0, 1) := dk_42 (dk_at dksX1_spentOnPoles_0 0 rfl rfl)
theorem dX1_spentOnPoles_1 : decode cX1_spentOnPoles 1 = .ok (.getfield 32, 3) := dk_180 0 32 (dk_at dksX1_spentOnPoles_0 1 rfl rfl)
theorem dX1_spentOnPoles_4 : decode cX1_spentOnPoles 4 = .ok (.getfield 319, 3) := dk_180 1 63 (dk_at dksX1_spentOnPoles_0 4 rfl rfl)
theorem dX1_spentOnPoles_7 : decode cX1_spentOnPoles 7 = .ok (.ireturn, 1) := dk_172 (dk_at dksX1_spentOnPoles_0 7 rfl rfl)
abbrev cX1_milesByPairs : ByteArray := prog_1_method_62_code
def yX1_milesByPairs : MethodName := ⟨RX1, "milesByPairs", "()I"⟩
def dkwX1_milesByPairs_1 : List UInt8 := [192, 0, 98, 180, 0, 247, 96, 60, 132, 2, 1, 167, 255, 226, 27, 172]
abbrev dktX1_milesByPairs_1 : List UInt8 := dkwX1_milesByPairs_1 ++ []
def dkwX1_milesByPairs_0 : List UInt8 := [3, 60, 3, 61, 28, 8, 162, 0, 31, 27, 42, 180, 0, 32, 180, 0, 95, 28, 185, 0, 89, 2, 0]
abbrev dktX1_milesByPairs_0 : List UInt8 := dkwX1_milesByPairs_0 ++ dktX1_milesByPairs_1
theorem dksX1_milesByPairs_0 : cX1_milesByPairs.data.toList.drop 0 = dktX1_milesByPairs_0 := by decide +kernel
theorem dksX1_milesByPairs_1 : cX1_milesByPairs.data.toList.drop 23 = dktX1_milesByPairs_1 := dk_seg dksX1_milesByPairs_0 23 rfl rfl
theorem dX1_milesByPairs_0 : decode cX1_milesByPairs 0 = .ok (.iconst 0, 1) := dk_3 (dk_at dksX1_milesByPairs_0 0 rfl rfl)
theorem dX1_milesByPairs_1 : decode cX1_milesByPairs 1 = .ok (.istore_n 1, 1) := dk_60 (dk_at dksX1_milesByPairs_0 1 rfl rfl)
theorem dX1_milesByPairs_2 : decode cX1_milesByPairs 2 = .ok (.iconst 0, 1) := dk_3 (dk_at dksX1_milesByPairs_0 2 rfl rfl)
theorem dX1_milesByPairs_3 : decode cX1_milesByPairs 3 = .ok (.istore_n 2, 1) := dk_61 (dk_at dksX1_milesByPairs_0 3 rfl rfl)
theorem dX1_milesByPairs_4 : decode cX1_milesByPairs 4 = .ok (.iload_n 2, 1) := dk_28 (dk_at dksX1_milesByPairs_0 4 rfl rfl)
theorem dX1_milesByPairs_5 : decode cX1_milesByPairs 5 = .ok (.iconst 5, 1) := dk_8 (dk_at dksX1_milesByPairs_0 5 rfl rfl)
theorem dX1_milesByPairs_6 : decode cX1_milesByPairs 6 = .ok (.if_icmp .ge 31, 3) := dk_162 0 31 (dk_at dksX1_milesByPairs_0 6 rfl rfl)
theorem dX1_milesByPairs_9 : decode cX1_milesByPairs 9 = .ok (.iload_n 1, 1) := dk_27 (dk_at dksX1_milesByPairs_0 9 rfl rfl)
theorem dX1_milesByPairs_10 : decode cX1_milesByPairs 10 = .ok (.aload_n 0, 1) := dk_42 (dk_at dksX1_milesByPairs_0 10 rfl rfl)
theorem dX1_milesByPairs_11 : decode cX1_milesByPairs 11 = .ok (.getfield 32, 3) := dk_180 0 32 (dk_at dksX1_milesByPairs_0 11 rfl rfl)
theorem dX1_milesByPairs_14 : decode cX1_milesByPairs 14 = .ok (.getfield 95, 3) := dk_180 0 95 (dk_at dksX1_milesByPairs_0 14 rfl rfl)
theorem dX1_milesByPairs_17 : decode cX1_milesByPairs 17 = .ok (.iload_n 2, 1) := dk_28 (dk_at dksX1_milesByPairs_0 17 rfl rfl)
theorem dX1_milesByPairs_18 : decode cX1_milesByPairs 18 = .ok (.invokeinterface 89 2, 5) := by decide +kernel
theorem dX1_milesByPairs_23 : decode cX1_milesByPairs 23 = .ok (.checkcast 98, 3) := dk_192 0 98 (dk_at dksX1_milesByPairs_1 0 rfl rfl)
theorem dX1_milesByPairs_26 : decode cX1_milesByPairs 26 = .ok (.getfield 247, 3) := dk_180 0 247 (dk_at dksX1_milesByPairs_1 3 rfl rfl)
theorem dX1_milesByPairs_29 : decode cX1_milesByPairs 29 = .ok (.iadd, 1) := dk_96 (dk_at dksX1_milesByPairs_1 6 rfl rfl)
theorem dX1_milesByPairs_30 : decode cX1_milesByPairs 30 = .ok (.istore_n 1, 1) := dk_60 (dk_at dksX1_milesByPairs_1 7 rfl rfl)
theorem dX1_milesByPairs_31 : decode cX1_milesByPairs 31 = .ok (.iinc 2 1, 3) := dk_132 2 1 (dk_at dksX1_milesByPairs_1 8 rfl rfl)
theorem dX1_milesByPairs_34 : decode cX1_milesByPairs 34 = .ok (.goto (-30), 3) := dk_167 255 226 (dk_at dksX1_milesByPairs_1 11 rfl rfl)
theorem dX1_milesByPairs_37 : decode cX1_milesByPairs 37 = .ok (.iload_n 1, 1) := dk_27 (dk_at dksX1_milesByPairs_1 14 rfl rfl)
theorem dX1_milesByPairs_38 : decode cX1_milesByPairs 38 = .ok (.ireturn, 1) := dk_172 (dk_at dksX1_milesByPairs_1 15 rfl rfl)
abbrev cX1_milesByChaises : ByteArray := prog_1_method_63_code
def yX1_milesByChaises : MethodName := ⟨RX1, "milesByChaises", "()I"⟩
def dkwX1_milesByChaises_1 : List UInt8 := [192, 0, 108, 180, 1, 15, 96, 60, 132, 2, 1, 167, 255, 226, 27, 172]
abbrev dktX1_milesByChaises_1 : List UInt8 := dkwX1_milesByChaises_1 ++ []
def dkwX1_milesByChaises_0 : List UInt8 := [3, 60, 3, 61, 28, 6, 162, 0, 31, 27, 42, 180, 0, 32, 180, 0, 105, 28, 185, 0, 89, 2, 0]
abbrev dktX1_milesByChaises_0 : List UInt8 := dkwX1_milesByChaises_0 ++ dktX1_milesByChaises_1
theorem dksX1_milesByChaises_0 : cX1_milesByChaises.data.toList.drop 0 = dktX1_milesByChaises_0 := by decide +kernel
theorem dksX1_milesByChaises_1 : cX1_milesByChaises.data.toList.drop 23 = dktX1_milesByChaises_1 := dk_seg dksX1_milesByChaises_0 23 rfl rfl
theorem dX1_milesByChaises_0 : decode cX1_milesByChaises 0 = .ok (.iconst 0, 1) := dk_3 (dk_at dksX1_milesByChaises_0 0 rfl rfl)
theorem dX1_milesByChaises_1 : decode cX1_milesByChaises 1 = .ok (.istore_n 1, 1) := dk_60 (dk_at dksX1_milesByChaises_0 1 rfl rfl)
theorem dX1_milesByChaises_2 : decode cX1_milesByChaises 2 = .ok (.iconst 0, 1) := dk_3 (dk_at dksX1_milesByChaises_0 2 rfl rfl)
theorem dX1_milesByChaises_3 : decode cX1_milesByChaises 3 = .ok (.istore_n 2, 1) := dk_61 (dk_at dksX1_milesByChaises_0 3 rfl rfl)
theorem dX1_milesByChaises_4 : decode cX1_milesByChaises 4 = .ok (.iload_n 2, 1) := dk_28 (dk_at dksX1_milesByChaises_0 4 rfl rfl)
theorem dX1_milesByChaises_5 : decode cX1_milesByChaises 5 = .ok (.iconst 3, 1) := dk_6 (dk_at dksX1_milesByChaises_0 5 rfl rfl)
theorem dX1_milesByChaises_6 : decode cX1_milesByChaises 6 = .ok (.if_icmp .ge 31, 3) := dk_162 0 31 (dk_at dksX1_milesByChaises_0 6 rfl rfl)
theorem dX1_milesByChaises_9 : decode cX1_milesByChaises 9 = .ok (.iload_n 1, 1) := dk_27 (dk_at dksX1_milesByChaises_0 9 rfl rfl)
theorem dX1_milesByChaises_10 : decode cX1_milesByChaises 10 = .ok (.aload_n 0, 1) := dk_42 (dk_at dksX1_milesByChaises_0 10 rfl rfl)
theorem dX1_milesByChaises_11 : decode cX1_milesByChaises 11 = .ok (.getfield 32, 3) := dk_180 0 32 (dk_at dksX1_milesByChaises_0 11 rfl rfl)
theorem dX1_milesByChaises_14 : decode cX1_milesByChaises 14 = .ok (.getfield 105, 3) := dk_180 0 105 (dk_at dksX1_milesByChaises_0 14 rfl rfl)
theorem dX1_milesByChaises_17 : decode cX1_milesByChaises 17 = .ok (.iload_n 2, 1) := dk_28 (dk_at dksX1_milesByChaises_0 17 rfl rfl)
theorem dX1_milesByChaises_18 : decode cX1_milesByChaises 18 = .ok (.invokeinterface 89 2, 5) := by decide +kernel
theorem dX1_milesByChaises_23 : decode cX1_milesByChaises 23 = .ok (.checkcast 108, 3) := dk_192 0 108 (dk_at dksX1_milesByChaises_1 0 rfl rfl)
theorem dX1_milesByChaises_26 : decode cX1_milesByChaises 26 = .ok (.getfield 271, 3) := dk_180 1 15 (dk_at dksX1_milesByChaises_1 3 rfl rfl)
theorem dX1_milesByChaises_29 : decode cX1_milesByChaises 29 = .ok (.iadd, 1) := dk_96 (dk_at dksX1_milesByChaises_1 6 rfl rfl)
theorem dX1_milesByChaises_30 : decode cX1_milesByChaises 30 = .ok (.istore_n 1, 1) := dk_60 (dk_at dksX1_milesByChaises_1 7 rfl rfl)
theorem dX1_milesByChaises_31 : decode cX1_milesByChaises 31 = .ok (.iinc 2 1, 3) := dk_132 2 1 (dk_at dksX1_milesByChaises_1 8 rfl rfl)
theorem dX1_milesByChaises_34 : decode cX1_milesByChaises 34 = .ok (.goto (-30), 3) := dk_167 255 226 (dk_at dksX1_milesByChaises_1 11 rfl rfl)
theorem dX1_milesByChaises_37 : decode cX1_milesByChaises 37 = .ok (.iload_n 1, 1) := dk_27 (dk_at dksX1_milesByChaises_1 14 rfl rfl)
theorem dX1_milesByChaises_38 : decode cX1_milesByChaises 38 = .ok (.ireturn, 1) := dk_172 (dk_at dksX1_milesByChaises_1 15 rfl rfl)
abbrev cX1_brokenPoles : ByteArray := prog_1_method_64_code
def yX1_brokenPoles : MethodName := ⟨RX1, "brokenPoles", "()I"⟩
def dkwX1_brokenPoles_0 : List UInt8 := [42, 180, 0, 32, 180, 1, 66, 172]
abbrev dktX1_brokenPoles_0 : List UInt8 := dkwX1_brokenPoles_0 ++ []
theorem dksX1_brokenPoles_0 : cX1_brokenPoles.data.toList.drop 0 = dktX1_brokenPoles_0 := by decide +kernel
theorem dX1_brokenPoles_0 : decode cX1_brokenPoles 0 = .ok (.aload_n 0, 1) := dk_42 (dk_at dksX1_brokenPoles_0 0 rfl rfl)
theorem dX1_brokenPoles_1 : decode cX1_brokenPoles 1 = .ok (.getfield 32, 3) := dk_180 0 32 (dk_at dksX1_brokenPoles_0 1 rfl rfl)
theorem dX1_brokenPoles_4 : decode cX1_brokenPoles 4 = .ok (.getfield 322, 3) := dk_180 1 66 (dk_at dksX1_brokenPoles_0 4 rfl rfl)
theorem dX1_brokenPoles_7 : decode cX1_brokenPoles 7 = .ok (.ireturn, 1) := dk_172 (dk_at dksX1_brokenPoles_0 7 rfl rfl)
abbrev cX1_meanWait : ByteArray := prog_1_method_65_code
def yX1_meanWait : MethodName := ⟨RX1, "meanWait", "()D"⟩
def dkwX1_meanWait_3 : List UInt8 := [167, 255, 191, 28, 154, 0, 7, 14, 167, 0, 8, 27, 135, 28, 135, 111, 175]
abbrev dktX1_meanWait_3 : List UInt8 := dkwX1_meanWait_3 ++ []
def dkwX1_meanWait_2 : List UInt8 := [60, 28, 42, 180, 0, 32, 29, 182, 1, 42, 153, 0, 7, 4, 167, 0, 4, 3, 96, 61, 132, 3, 1]
abbrev dktX1_meanWait_2 : List UInt8 := dkwX1_meanWait_2 ++ dktX1_meanWait_3
def dkwX1_meanWait_1 : List UInt8 := [180, 0, 32, 29, 182, 1, 42, 153, 0, 15, 42, 180, 0, 32, 180, 1, 69, 29, 46, 167, 0, 4, 3, 96]
abbrev dktX1_meanWait_1 : List UInt8 := dkwX1_meanWait_1 ++ dktX1_meanWait_2
def dkwX1_meanWait_0 : List UInt8 := [3, 60, 3, 61, 3, 62, 29, 42, 180, 0, 32, 180, 0, 78, 185, 0, 82, 1, 0, 162, 0, 55, 27, 42]
abbrev dktX1_meanWait_0 : List UInt8 := dkwX1_meanWait_0 ++ dktX1_meanWait_1
theorem dksX1_meanWait_0 : cX1_meanWait.data.toList.drop 0 = dktX1_meanWait_0 := by decide +kernel
theorem dksX1_meanWait_1 : cX1_meanWait.data.toList.drop 24 = dktX1_meanWait_1 := dk_seg dksX1_meanWait_0 24 rfl rfl
theorem dksX1_meanWait_2 : cX1_meanWait.data.toList.drop 48 = dktX1_meanWait_2 := dk_seg dksX1_meanWait_1 24 rfl rfl
theorem dksX1_meanWait_3 : cX1_meanWait.data.toList.drop 71 = dktX1_meanWait_3 := dk_seg dksX1_meanWait_2 23 rfl rfl
theorem dX1_meanWait_0 : decode cX1_meanWait 0 = .ok (.iconst 0, 1) := dk_3 (dk_at dksX1_meanWait_0 0 rfl rfl)
theorem dX1_meanWait_1 : decode cX1_meanWait 1 = .ok (.istore_n 1, 1) := dk_60 (dk_at dksX1_meanWait_0 1 rfl rfl)
theorem dX1_meanWait_2 : decode cX1_meanWait 2 = .ok (.iconst 0, 1) := dk_3 (dk_at dksX1_meanWait_0 2 rfl rfl)
theorem dX1_meanWait_3 : decode cX1_meanWait 3 = .ok (.istore_n 2, 1) := dk_61 (dk_at dksX1_meanWait_0 3 rfl rfl)
theorem dX1_meanWait_4 : decode cX1_meanWait 4 = .ok (.iconst 0, 1) := dk_3 (dk_at dksX1_meanWait_0 4 rfl rfl)
theorem dX1_meanWait_5 : decode cX1_meanWait 5 = .ok (.istore_n 3, 1) := dk_62 (dk_at dksX1_meanWait_0 5 rfl rfl)
theorem dX1_meanWait_6 : decode cX1_meanWait 6 = .ok (.iload_n 3, 1) := dk_29 (dk_at dksX1_meanWait_0 6 rfl rfl)
theorem dX1_meanWait_7 : decode cX1_meanWait 7 = .ok (.aload_n 0, 1) := dk_42 (dk_at dksX1_meanWait_0 7 rfl rfl)
theorem dX1_meanWait_8 : decode cX1_meanWait 8 = .ok (.getfield 32, 3) := dk_180 0 32 (dk_at dksX1_meanWait_0 8 rfl rfl)
theorem dX1_meanWait_11 : decode cX1_meanWait 11 = .ok (.getfield 78, 3) := dk_180 0 78 (dk_at dksX1_meanWait_0 11 rfl rfl)
theorem dX1_meanWait_14 : decode cX1_meanWait 14 = .ok (.invokeinterface 82 1, 5) := by decide +kernel
theorem dX1_meanWait_19 : decode cX1_meanWait 19 = .ok (.if_icmp .ge 55, 3) := dk_162 0 55 (dk_at dksX1_meanWait_0 19 rfl rfl)
theorem dX1_meanWait_22 : decode cX1_meanWait 22 = .ok (.iload_n 1, 1) := dk_27 (dk_at dksX1_meanWait_0 22 rfl rfl)
theorem dX1_meanWait_23 : decode cX1_meanWait 23 = .ok (.aload_n 0, 1) := dk_42 (dk_at dksX1_meanWait_0 23 rfl rfl)
theorem dX1_meanWait_24 : decode cX1_meanWait 24 = .ok (.getfield 32, 3) := dk_180 0 32 (dk_at dksX1_meanWait_1 0 rfl rfl)
theorem dX1_meanWait_27 : decode cX1_meanWait 27 = .ok (.iload_n 3, 1) := dk_29 (dk_at dksX1_meanWait_1 3 rfl rfl)
theorem dX1_meanWait_28 : decode cX1_meanWait 28 = .ok (.invokevirtual 298, 3) := dk_182 1 42 (dk_at dksX1_meanWait_1 4 rfl rfl)
theorem dX1_meanWait_31 : decode cX1_meanWait 31 = .ok (.ifCond .eq 15, 3) := dk_153 0 15 (dk_at dksX1_meanWait_1 7 rfl rfl)
theorem dX1_meanWait_34 : decode cX1_meanWait 34 = .ok (.aload_n 0, 1) := dk_42 (dk_at dksX1_meanWait_1 10 rfl rfl)
theorem dX1_meanWait_35 : decode cX1_meanWait 35 = .ok (.getfield 32, 3) := dk_180 0 32 (dk_at dksX1_meanWait_1 11 rfl rfl)
theorem dX1_meanWait_38 : decode cX1_meanWait 38 = .ok (.getfield 325, 3) := dk_180 1 69 (dk_at dksX1_meanWait_1 14 rfl rfl)
theorem dX1_meanWait_41 : decode cX1_meanWait 41 = .ok (.iload_n 3, 1) := dk_29 (dk_at dksX1_meanWait_1 17 rfl rfl)
theorem dX1_meanWait_42 : decode cX1_meanWait 42 = .ok (.iaload, 1) := dk_46 (dk_at dksX1_meanWait_1 18 rfl rfl)
theorem dX1_meanWait_43 : decode cX1_meanWait 43 = .ok (.goto 4, 3) := dk_167 0 4 (dk_at dksX1_meanWait_1 19 rfl rfl)
theorem dX1_meanWait_46 : decode cX1_meanWait 46 = .ok (.iconst 0, 1) := dk_3 (dk_at dksX1_meanWait_1 22 rfl rfl)
theorem dX1_meanWait_47 : decode cX1_meanWait 47 = .ok (.iadd, 1) := dk_96 (dk_at dksX1_meanWait_1 23 rfl rfl)
theorem dX1_meanWait_48 : decode cX1_meanWait 48 = .ok (.istore_n 1, 1) := dk_60 (dk_at dksX1_meanWait_2 0 rfl rfl)
theorem dX1_meanWait_49 : decode cX1_meanWait 49 = .ok (.iload_n 2, 1) := dk_28 (dk_at dksX1_meanWait_2 1 rfl rfl)
theorem dX1_meanWait_50 : decode cX1_meanWait 50 = .ok (.aload_n 0, 1) := dk_42 (dk_at dksX1_meanWait_2 2 rfl rfl)
theorem dX1_meanWait_51 : decode cX1_meanWait 51 = .ok (.getfield 32, 3) := dk_180 0 32 (dk_at dksX1_meanWait_2 3 rfl rfl)
theorem dX1_meanWait_54 : decode cX1_meanWait 54 = .ok (.iload_n 3, 1) := dk_29 (dk_at dksX1_meanWait_2 6 rfl rfl)
theorem dX1_meanWait_55 : decode cX1_meanWait 55 = .ok (.invokevirtual 298, 3) := dk_182 1 42 (dk_at dksX1_meanWait_2 7 rfl rfl)
theorem dX1_meanWait_58 : decode cX1_meanWait 58 = .ok (.ifCond .eq 7, 3) := dk_153 0 7 (dk_at dksX1_meanWait_2 10 rfl rfl)
theorem dX1_meanWait_61 : decode cX1_meanWait 61 = .ok (.iconst 1, 1) := dk_4 (dk_at dksX1_meanWait_2 13 rfl rfl)
theorem dX1_meanWait_62 : decode cX1_meanWait 62 = .ok (.goto 4, 3) := dk_167 0 4 (dk_at dksX1_meanWait_2 14 rfl rfl)
theorem dX1_meanWait_65 : decode cX1_meanWait 65 = .ok (.iconst 0, 1) := dk_3 (dk_at dksX1_meanWait_2 17 rfl rfl)
theorem dX1_meanWait_66 : decode cX1_meanWait 66 = .ok (.iadd, 1) := dk_96 (dk_at dksX1_meanWait_2 18 rfl rfl)
theorem dX1_meanWait_67 : decode cX1_meanWait 67 = .ok (.istore_n 2, 1) := dk_61 (dk_at dksX1_meanWait_2 19 rfl rfl)
theorem dX1_meanWait_68 : decode cX1_meanWait 68 = .ok (.iinc 3 1, 3) := dk_132 3 1 (dk_at dksX1_meanWait_2 20 rfl rfl)
theorem dX1_meanWait_71 : decode cX1_meanWait 71 = .ok (.goto (-65), 3) := dk_167 255 191 (dk_at dksX1_meanWait_3 0 rfl rfl)
theorem dX1_meanWait_74 : decode cX1_meanWait 74 = .ok (.iload_n 2, 1) := dk_28 (dk_at dksX1_meanWait_3 3 rfl rfl)
theorem dX1_meanWait_75 : decode cX1_meanWait 75 = .ok (.ifCond .ne 7, 3) := dk_154 0 7 (dk_at dksX1_meanWait_3 4 rfl rfl)
theorem dX1_meanWait_78 : decode cX1_meanWait 78 = .ok (.dconst 0, 1) := dk_14 (dk_at dksX1_meanWait_3 7 rfl rfl)
theorem dX1_meanWait_79 : decode cX1_meanWait 79 = .ok (.goto 8, 3) := dk_167 0 8 (dk_at dksX1_meanWait_3 8 rfl rfl)
theorem dX1_meanWait_82 : decode cX1_meanWait 82 = .ok (.iload_n 1, 1) := dk_27 (dk_at dksX1_meanWait_3 11 rfl rfl)
theorem dX1_meanWait_83 : decode cX1_meanWait 83 = .ok (.i2d, 1) := dk_135 (dk_at dksX1_meanWait_3 12 rfl rfl)
theorem dX1_meanWait_84 : decode cX1_meanWait 84 = .ok (.iload_n 2, 1) := dk_28 (dk_at dksX1_meanWait_3 13 rfl rfl)
theorem dX1_meanWait_85 : decode cX1_meanWait 85 = .ok (.i2d, 1) := dk_135 (dk_at dksX1_meanWait_3 14 rfl rfl)
theorem dX1_meanWait_86 : decode cX1_meanWait 86 = .ok (.ddiv, 1) := dk_111 (dk_at dksX1_meanWait_3 15 rfl rfl)
theorem dX1_meanWait_87 : decode cX1_meanWait 87 = .ok (.dreturn, 1) := dk_175 (dk_at dksX1_meanWait_3 16 rfl rfl)
abbrev cX1_clearText : ByteArray := prog_1_method_67_code
def yX1_clearText : MethodName := ⟨RX1, "clearText", "()I"⟩
def dkwX1_clearText_0 : List UInt8 := [42, 180, 0, 46, 182, 1, 73, 60, 42, 180, 0, 46, 3, 182, 1, 80, 27, 172]
abbrev dktX1_clearText_0 : List UInt8 := dkwX1_clearText_0 ++ []
theorem dksX1_clearText_0 : cX1_clearText.data.toList.drop 0 = dktX1_clearText_0 := by decide +kernel
theorem dX1_clearText_0 : decode cX1_clearText 0 = .ok (.aload_n 0, 1) := dk_42 (dk_at dksX1_clearText_0 0 rfl rfl)
theorem dX1_clearText_1 : decode cX1_clearText 1 = .ok (.getfield 46, 3) := dk_180 0 46 (dk_at dksX1_clearText_0 1 rfl rfl)
theorem dX1_clearText_4 : decode cX1_clearText 4 = .ok (.invokevirtual 329, 3) := dk_182 1 73 (dk_at dksX1_clearText_0 4 rfl rfl)
theorem dX1_clearText_7 : decode cX1_clearText 7 = .ok (.istore_n 1, 1) := dk_60 (dk_at dksX1_clearText_0 7 rfl rfl)
theorem dX1_clearText_8 : decode cX1_clearText 8 = .ok (.aload_n 0, 1) := dk_42 (dk_at dksX1_clearText_0 8 rfl rfl)
theorem dX1_clearText_9 : decode cX1_clearText 9 = .ok (.getfield 46, 3) := dk_180 0 46 (dk_at dksX1_clearText_0 9 rfl rfl)
theorem dX1_clearText_12 : decode cX1_clearText 12 = .ok (.iconst 0, 1) := dk_3 (dk_at dksX1_clearText_0 12 rfl rfl)
theorem dX1_clearText_13 : decode cX1_clearText 13 = .ok (.invokevirtual 336, 3) := dk_182 1 80 (dk_at dksX1_clearText_0 13 rfl rfl)
theorem dX1_clearText_16 : decode cX1_clearText 16 = .ok (.iload_n 1, 1) := dk_27 (dk_at dksX1_clearText_0 16 rfl rfl)
theorem dX1_clearText_17 : decode cX1_clearText 17 = .ok (.ireturn, 1) := dk_172 (dk_at dksX1_clearText_0 17 rfl rfl)
abbrev cX1_textLength : ByteArray := prog_1_method_68_code
def yX1_textLength : MethodName := ⟨RX1, "textLength", "()I"⟩
def dkwX1_textLength_0 : List UInt8 := [42, 180, 0, 46, 182, 1, 73, 172]
abbrev dktX1_textLength_0 : List UInt8 := dkwX1_textLength_0 ++ []
theorem dksX1_textLength_0 : cX1_textLength.data.toList.drop 0 = dktX1_textLength_0 := by decide +kernel
theorem dX1_textLength_0 : decode cX1_textLength 0 = .ok (.aload_n 0, 1) := dk_42 (dk_at dksX1_textLength_0 0 rfl rfl)
theorem dX1_textLength_1 : decode cX1_textLength 1 = .ok (.getfield 46, 3) := dk_180 0 46 (dk_at dksX1_textLength_0 1 rfl rfl)
theorem dX1_textLength_4 : decode cX1_textLength 4 = .ok (.invokevirtual 329, 3) := dk_182 1 73 (dk_at dksX1_textLength_0 4 rfl rfl)
theorem dX1_textLength_7 : decode cX1_textLength 7 = .ok (.ireturn, 1) := dk_172 (dk_at dksX1_textLength_0 7 rfl rfl)
abbrev cX1_isValid : ByteArray := prog_1_method_69_code
def yX1_isValid : MethodName := ⟨RX1, "isValid", "()Z"⟩
def dkwX1_isValid_0 : List UInt8 := [187, 1, 84, 89, 42, 183, 1, 86, 182, 1, 89, 172]
abbrev dktX1_isValid_0 : List UInt8 := dkwX1_isValid_0 ++ []
theorem dksX1_isValid_0 : cX1_isValid.data.toList.drop 0 = dktX1_isValid_0 := by decide +kernel
theorem dX1_isValid_0 : decode cX1_isValid 0 = .ok (.new 340, 3) := dk_187 1 84 (dk_at dksX1_isValid_0 0 rfl rfl)
theorem dX1_isValid_3 : decode cX1_isValid 3 = .ok (.dup, 1) := dk_89 (dk_at dksX1_isValid_0 3 rfl rfl)
theorem dX1_isValid_4 : decode cX1_isValid 4 = .ok (.aload_n 0, 1) := dk_42 (dk_at dksX1_isValid_0 4 rfl rfl)
theorem dX1_isValid_5 : decode cX1_isValid 5 = .ok (.invokespecial 342, 3) := dk_183 1 86 (dk_at dksX1_isValid_0 5 rfl rfl)
theorem dX1_isValid_8 : decode cX1_isValid 8 = .ok (.invokevirtual 345, 3) := dk_182 1 89 (dk_at dksX1_isValid_0 8 rfl rfl)
theorem dX1_isValid_11 : decode cX1_isValid 11 = .ok (.ireturn, 1) := dk_172 (dk_at dksX1_isValid_0 11 rfl rfl)
abbrev cX1_errorPosition : ByteArray := prog_1_method_70_code
def yX1_errorPosition : MethodName := ⟨RX1, "errorPosition", "()I"⟩
def dkwX1_errorPosition_0 : List UInt8 := [187, 1, 84, 89, 42, 183, 1, 86, 76, 43, 182, 1, 89, 87, 43, 180, 1, 92, 172]
abbrev dktX1_errorPosition_0 : List UInt8 := dkwX1_errorPosition_0 ++ []
theorem dksX1_errorPosition_0 : cX1_errorPosition.data.toList.drop 0 = dktX1_errorPosition_0 := by decide +kernel
theorem dX1_errorPosition_0 : decode cX1_errorPosition 0 = .ok (.new 340, 3) := dk_187 1 84 (dk_at dksX1_errorPosition_0 0 rfl rfl)
theorem dX1_errorPosition_3 : decode cX1_errorPosition 3 = .ok (.dup, 1) := dk_89 (dk_at dksX1_errorPosition_0 3 rfl rfl)
theorem dX1_errorPosition_4 : decode cX1_errorPosition 4 = .ok (.aload_n 0, 1) := dk_42 (dk_at dksX1_errorPosition_0 4 rfl rfl)
theorem dX1_errorPosition_5 : decode cX1_errorPosition 5 = .ok (.invokespecial 342, 3) := dk_183 1 86 (dk_at dksX1_errorPosition_0 5 rfl rfl)
theorem dX1_errorPosition_8 : decode cX1_errorPosition 8 = .ok (.astore_n 1, 1) := dk_76 (dk_at dksX1_errorPosition_0 8 rfl rfl)
theorem dX1_errorPosition_9 : decode cX1_errorPosition 9 = .ok (.aload_n 1, 1) := dk_43 (dk_at dksX1_errorPosition_0 9 rfl rfl)
theorem dX1_errorPosition_10 : decode cX1_errorPosition 10 = .ok (.invokevirtual 345, 3) := dk_182 1 89 (dk_at dksX1_errorPosition_0 10 rfl rfl)
theorem dX1_errorPosition_13 : decode cX1_errorPosition 13 = .ok (.pop, 1) := dk_87 (dk_at dksX1_errorPosition_0 13 rfl rfl)
theorem dX1_errorPosition_14 : decode cX1_errorPosition 14 = .ok (.aload_n 1, 1) := dk_43 (dk_at dksX1_errorPosition_0 14 rfl rfl)
theorem dX1_errorPosition_15 : decode cX1_errorPosition 15 = .ok (.getfield 348, 3) := dk_180 1 92 (dk_at dksX1_errorPosition_0 15 rfl rfl)
theorem dX1_errorPosition_18 : decode cX1_errorPosition 18 = .ok (.ireturn, 1) := dk_172 (dk_at dksX1_errorPosition_0 18 rfl rfl)
abbrev cX1_savedStates : ByteArray := prog_1_method_73_code
def yX1_savedStates : MethodName := ⟨RX1, "savedStates", "()I"⟩
def dkwX1_savedStates_0 : List UInt8 := [42, 180, 0, 39, 182, 0, 50, 172]
abbrev dktX1_savedStates_0 : List UInt8 := dkwX1_savedStates_0 ++ []
theorem dksX1_savedStates_0 : cX1_savedStates.data.toList.drop 0 = dktX1_savedStates_0 := by decide +kernel
theorem dX1_savedStates_0 : decode cX1_savedStates 0 = .ok (.aload_n 0, 1) := dk_42 (dk_at dksX1_savedStates_0 0 rfl rfl)
theorem dX1_savedStates_1 : decode cX1_savedStates 1 = .ok (.getfield 39, 3) := dk_180 0 39 (dk_at dksX1_savedStates_0 1 rfl rfl)
theorem dX1_savedStates_4 : decode cX1_savedStates 4 = .ok (.invokevirtual 50, 3) := dk_182 0 50 (dk_at dksX1_savedStates_0 4 rfl rfl)
theorem dX1_savedStates_7 : decode cX1_savedStates 7 = .ok (.ireturn, 1) := dk_172 (dk_at dksX1_savedStates_0 7 rfl rfl)
abbrev cX1_takeSnapshot : ByteArray := prog_1_method_74_code
def yX1_takeSnapshot : MethodName := ⟨RX1, "takeSnapshot", "()I"⟩
def dkwX1_takeSnapshot_0 : List UInt8 := [42, 42, 180, 0, 32, 182, 0, 58, 181, 1, 119, 42, 180, 0, 32, 180, 0, 199, 172]
abbrev dktX1_takeSnapshot_0 : List UInt8 := dkwX1_takeSnapshot_0 ++ []
theorem dksX1_takeSnapshot_0 : cX1_takeSnapshot.data.toList.drop 0 = dktX1_takeSnapshot_0 := by decide +kernel
theorem dX1_takeSnapshot_0 : decode cX1_takeSnapshot 0 = .ok (.aload_n 0, 1) := dk_42 (dk_at dksX1_takeSnapshot_0 0 rfl rfl)
theorem dX1_takeSnapshot_1 : decode cX1_takeSnapshot 1 = .ok (.aload_n 0, 1) := dk_42 (dk_at dksX1_takeSnapshot_0 1 rfl rfl)
theorem dX1_takeSnapshot_2 : decode cX1_takeSnapshot 2 = .ok (.getfield 32, 3) := dk_180 0 32 (dk_at dksX1_takeSnapshot_0 2 rfl rfl)
theorem dX1_takeSnapshot_5 : decode cX1_takeSnapshot 5 = .ok (.invokevirtual 58, 3) := dk_182 0 58 (dk_at dksX1_takeSnapshot_0 5 rfl rfl)
theorem dX1_takeSnapshot_8 : decode cX1_takeSnapshot 8 = .ok (.putfield 375, 3) := dk_181 1 119 (dk_at dksX1_takeSnapshot_0 8 rfl rfl)
theorem dX1_takeSnapshot_11 : decode cX1_takeSnapshot 11 = .ok (.aload_n 0, 1) := dk_42 (dk_at dksX1_takeSnapshot_0 11 rfl rfl)
theorem dX1_takeSnapshot_12 : decode cX1_takeSnapshot 12 = .ok (.getfield 32, 3) := dk_180 0 32 (dk_at dksX1_takeSnapshot_0 12 rfl rfl)
theorem dX1_takeSnapshot_15 : decode cX1_takeSnapshot 15 = .ok (.getfield 199, 3) := dk_180 0 199 (dk_at dksX1_takeSnapshot_0 15 rfl rfl)
theorem dX1_takeSnapshot_18 : decode cX1_takeSnapshot 18 = .ok (.ireturn, 1) := dk_172 (dk_at dksX1_takeSnapshot_0 18 rfl rfl)
abbrev cX1_arrive : ByteArray := prog_1_method_13_code
def yX1_arrive : MethodName := ⟨RX1, "arrive", "(II)I"⟩
def dkwX1_arrive_1 : List UInt8 := [182, 0, 122, 42, 180, 0, 32, 27, 28, 182, 0, 125, 172]
abbrev dktX1_arrive_1 : List UInt8 := dkwX1_arrive_1 ++ []
def dkwX1_arrive_0 : List UInt8 := [27, 3, 5, 184, 0, 110, 28, 7, 184, 0, 85, 42, 180, 0, 32, 182, 0, 114, 184, 0, 118, 42]
abbrev dktX1_arrive_0 : List UInt8 := dkwX1_arrive_0 ++ dktX1_arrive_1
theorem dksX1_arrive_0 : cX1_arrive.data.toList.drop 0 = dktX1_arrive_0 := by decide +kernel
theorem dksX1_arrive_1 : cX1_arrive.data.toList.drop 22 = dktX1_arrive_1 := dk_seg dksX1_arrive_0 22 rfl rfl
theorem dX1_arrive_0 : decode cX1_arrive 0 = .ok (.iload_n 1, 1) := dk_27 (dk_at dksX1_arrive_0 0 rfl rfl)
theorem dX1_arrive_1 : decode cX1_arrive 1 = .ok (.iconst 0, 1) := dk_3 (dk_at dksX1_arrive_0 1 rfl rfl)
theorem dX1_arrive_2 : decode cX1_arrive 2 = .ok (.iconst 2, 1) := dk_5 (dk_at dksX1_arrive_0 2 rfl rfl)
theorem dX1_arrive_3 : decode cX1_arrive 3 = .ok (.invokestatic 110, 3) := dk_184 0 110 (dk_at dksX1_arrive_0 3 rfl rfl)
theorem dX1_arrive_6 : decode cX1_arrive 6 = .ok (.iload_n 2, 1) := dk_28 (dk_at dksX1_arrive_0 6 rfl rfl)
theorem dX1_arrive_7 : decode cX1_arrive 7 = .ok (.iconst 4, 1) := dk_7 (dk_at dksX1_arrive_0 7 rfl rfl)
theorem dX1_arrive_8 : decode cX1_arrive 8 = .ok (.invokestatic 85, 3) := dk_184 0 85 (dk_at dksX1_arrive_0 8 rfl rfl)
theorem dX1_arrive_11 : decode cX1_arrive 11 = .ok (.aload_n 0, 1) := dk_42 (dk_at dksX1_arrive_0 11 rfl rfl)
theorem dX1_arrive_12 : decode cX1_arrive 12 = .ok (.getfield 32, 3) := dk_180 0 32 (dk_at dksX1_arrive_0 12 rfl rfl)
theorem dX1_arrive_15 : decode cX1_arrive 15 = .ok (.invokevirtual 114, 3) := dk_182 0 114 (dk_at dksX1_arrive_0 15 rfl rfl)
theorem dX1_arrive_18 : decode cX1_arrive 18 = .ok (.invokestatic 118, 3) := dk_184 0 118 (dk_at dksX1_arrive_0 18 rfl rfl)
theorem dX1_arrive_21 : decode cX1_arrive 21 = .ok (.aload_n 0, 1) := dk_42 (dk_at dksX1_arrive_0 21 rfl rfl)
theorem dX1_arrive_22 : decode cX1_arrive 22 = .ok (.invokevirtual 122, 3) := dk_182 0 122 (dk_at dksX1_arrive_1 0 rfl rfl)
theorem dX1_arrive_25 : decode cX1_arrive 25 = .ok (.aload_n 0, 1) := dk_42 (dk_at dksX1_arrive_1 3 rfl rfl)
theorem dX1_arrive_26 : decode cX1_arrive 26 = .ok (.getfield 32, 3) := dk_180 0 32 (dk_at dksX1_arrive_1 4 rfl rfl)
theorem dX1_arrive_29 : decode cX1_arrive 29 = .ok (.iload_n 1, 1) := dk_27 (dk_at dksX1_arrive_1 7 rfl rfl)
theorem dX1_arrive_30 : decode cX1_arrive 30 = .ok (.iload_n 2, 1) := dk_28 (dk_at dksX1_arrive_1 8 rfl rfl)
theorem dX1_arrive_31 : decode cX1_arrive 31 = .ok (.invokevirtual 125, 3) := dk_182 0 125 (dk_at dksX1_arrive_1 9 rfl rfl)
theorem dX1_arrive_34 : decode cX1_arrive 34 = .ok (.ireturn, 1) := dk_172 (dk_at dksX1_arrive_1 12 rfl rfl)
abbrev cX1_checkRange : ByteArray := prog_1_method_6_code
def yX1_checkRange : MethodName := ⟨RX1, "checkRange", "(III)V"⟩
def dkwX1_checkRange_0 : List UInt8 := [26, 27, 161, 0, 8, 26, 28, 164, 0, 11, 187, 0, 69, 89, 183, 0, 71, 191, 177]
abbrev dktX1_checkRange_0 : List UInt8 := dkwX1_checkRange_0 ++ []
theorem dksX1_checkRange_0 : cX1_checkRange.data.toList.drop 0 = dktX1_checkRange_0 := by decide +kernel
theorem dX1_checkRange_0 : decode cX1_checkRange 0 = .ok (.iload_n 0, 1) := dk_26 (dk_at dksX1_checkRange_0 0 rfl rfl)
theorem dX1_checkRange_1 : decode cX1_checkRange 1 = .ok (.iload_n 1, 1) := dk_27 (dk_at dksX1_checkRange_0 1 rfl rfl)
theorem dX1_checkRange_2 : decode cX1_checkRange 2 = .ok (.if_icmp .lt 8, 3) := dk_161 0 8 (dk_at dksX1_checkRange_0 2 rfl rfl)
theorem dX1_checkRange_5 : decode cX1_checkRange 5 = .ok (.iload_n 0, 1) := dk_26 (dk_at dksX1_checkRange_0 5 rfl rfl)
theorem dX1_checkRange_6 : decode cX1_checkRange 6 = .ok (.iload_n 2, 1) := dk_28 (dk_at dksX1_checkRange_0 6 rfl rfl)
theorem dX1_checkRange_7 : decode cX1_checkRange 7 = .ok (.if_icmp .le 11, 3) := dk_164 0 11 (dk_at dksX1_checkRange_0 7 rfl rfl)
theorem dX1_checkRange_10 : decode cX1_checkRange 10 = .ok (.new 69, 3) := dk_187 0 69 (dk_at dksX1_checkRange_0 10 rfl rfl)
theorem dX1_checkRange_13 : decode cX1_checkRange 13 = .ok (.dup, 1) := dk_89 (dk_at dksX1_checkRange_0 13 rfl rfl)
theorem dX1_checkRange_14 : decode cX1_checkRange 14 = .ok (.invokespecial 71, 3) := dk_183 0 71 (dk_at dksX1_checkRange_0 14 rfl rfl)
theorem dX1_checkRange_17 : decode cX1_checkRange 17 = .ok (.athrow, 1) := dk_191 (dk_at dksX1_checkRange_0 17 rfl rfl)
theorem dX1_checkRange_18 : decode cX1_checkRange 18 = .ok (.return_, 1) := dk_177 (dk_at dksX1_checkRange_0 18 rfl rfl)
abbrev cX1_checkNumber : ByteArray := prog_1_method_5_code
def yX1_checkNumber : MethodName := ⟨RX1, "checkNumber", "(II)V"⟩
def dkwX1_checkNumber_0 : List UInt8 := [26, 155, 0, 8, 26, 27, 161, 0, 11, 187, 0, 66, 89, 183, 0, 68, 191, 177]
abbrev dktX1_checkNumber_0 : List UInt8 := dkwX1_checkNumber_0 ++ []
theorem dksX1_checkNumber_0 : cX1_checkNumber.data.toList.drop 0 = dktX1_checkNumber_0 := by decide +kernel
theorem dX1_checkNumber_0 : decode cX1_checkNumber 0 = .ok (.iload_n 0, 1) := dk_26 (dk_at dksX1_checkNumber_0 0 rfl rfl)
theorem dX1_checkNumber_1 : decode cX1_checkNumber 1 = .ok (.ifCond .lt 8, 3) := dk_155 0 8 (dk_at dksX1_checkNumber_0 1 rfl rfl)
theorem dX1_checkNumber_4 : decode cX1_checkNumber 4 = .ok (.iload_n 0, 1) := dk_26 (dk_at dksX1_checkNumber_0 4 rfl rfl)
theorem dX1_checkNumber_5 : decode cX1_checkNumber 5 = .ok (.iload_n 1, 1) := dk_27 (dk_at dksX1_checkNumber_0 5 rfl rfl)
theorem dX1_checkNumber_6 : decode cX1_checkNumber 6 = .ok (.if_icmp .lt 11, 3) := dk_161 0 11 (dk_at dksX1_checkNumber_0 6 rfl rfl)
theorem dX1_checkNumber_9 : decode cX1_checkNumber 9 = .ok (.new 66, 3) := dk_187 0 66 (dk_at dksX1_checkNumber_0 9 rfl rfl)
theorem dX1_checkNumber_12 : decode cX1_checkNumber 12 = .ok (.dup, 1) := dk_89 (dk_at dksX1_checkNumber_0 12 rfl rfl)
theorem dX1_checkNumber_13 : decode cX1_checkNumber 13 = .ok (.invokespecial 68, 3) := dk_183 0 68 (dk_at dksX1_checkNumber_0 13 rfl rfl)
theorem dX1_checkNumber_16 : decode cX1_checkNumber 16 = .ok (.athrow, 1) := dk_191 (dk_at dksX1_checkNumber_0 16 rfl rfl)
theorem dX1_checkNumber_17 : decode cX1_checkNumber 17 = .ok (.return_, 1) := dk_177 (dk_at dksX1_checkNumber_0 17 rfl rfl)
abbrev cX1_checkState : ByteArray := prog_1_method_7_code
def yX1_checkState : MethodName := ⟨RX1, "checkState", "(Z)V"⟩
def dkwX1_checkState_0 : List UInt8 := [26, 154, 0, 11, 187, 0, 72, 89, 183, 0, 74, 191, 177]
abbrev dktX1_checkState_0 : List UInt8 := dkwX1_checkState_0 ++ []
theorem dksX1_checkState_0 : cX1_checkState.data.toList.drop 0 = dktX1_checkState_0 := by decide +kernel
theorem dX1_checkState_0 : decode cX1_checkState 0 = .ok (.iload_n 0, 1) := dk_26 (dk_at dksX1_checkState_0 0 rfl rfl)
theorem dX1_checkState_1 : decode cX1_checkState 1 = .ok (.ifCond .ne 11, 3) := dk_154 0 11 (dk_at dksX1_checkState_0 1 rfl rfl)
theorem dX1_checkState_4 : decode cX1_checkState 4 = .ok (.new 72, 3) := dk_187 0 72 (dk_at dksX1_checkState_0 4 rfl rfl)
theorem dX1_checkState_7 : decode cX1_checkState 7 = .ok (.dup, 1) := dk_89 (dk_at dksX1_checkState_0 7 rfl rfl)
theorem dX1_checkState_8 : decode cX1_checkState 8 = .ok (.invokespecial 74, 3) := dk_183 0 74 (dk_at dksX1_checkState_0 8 rfl rfl)
theorem dX1_checkState_11 : decode cX1_checkState 11 = .ok (.athrow, 1) := dk_191 (dk_at dksX1_checkState_0 11 rfl rfl)
theorem dX1_checkState_12 : decode cX1_checkState 12 = .ok (.return_, 1) := dk_177 (dk_at dksX1_checkState_0 12 rfl rfl)
abbrev cX1_save : ByteArray := prog_1_method_4_code
def yX1_save : MethodName := ⟨RX1, "save", "()V"⟩
def dkwX1_save_1 : List UInt8 := [180, 0, 32, 182, 0, 58, 182, 0, 62, 177]
abbrev dktX1_save_1 : List UInt8 := dkwX1_save_1 ++ []
def dkwX1_save_0 : List UInt8 := [42, 180, 0, 39, 182, 0, 50, 8, 160, 0, 11, 42, 180, 0, 39, 182, 0, 54, 87, 42, 180, 0, 39, 42]
abbrev dktX1_save_0 : List UInt8 := dkwX1_save_0 ++ dktX1_save_1
theorem dksX1_save_0 : cX1_save.data.toList.drop 0 = dktX1_save_0 := by decide +kernel
theorem dksX1_save_1 : cX1_save.data.toList.drop 24 = dktX1_save_1 := dk_seg dksX1_save_0 24 rfl rfl
theorem dX1_save_0 : decode cX1_save 0 = .ok (.aload_n 0, 1) := dk_42 (dk_at dksX1_save_0 0 rfl rfl)
theorem dX1_save_1 : decode cX1_save 1 = .ok (.getfield 39, 3) := dk_180 0 39 (dk_at dksX1_save_0 1 rfl rfl)
theorem dX1_save_4 : decode cX1_save 4 = .ok (.invokevirtual 50, 3) := dk_182 0 50 (dk_at dksX1_save_0 4 rfl rfl)
theorem dX1_save_7 : decode cX1_save 7 = .ok (.iconst 5, 1) := dk_8 (dk_at dksX1_save_0 7 rfl rfl)
theorem dX1_save_8 : decode cX1_save 8 = .ok (.if_icmp .ne 11, 3) := dk_160 0 11 (dk_at dksX1_save_0 8 rfl rfl)
theorem dX1_save_11 : decode cX1_save 11 = .ok (.aload_n 0, 1) := dk_42 (dk_at dksX1_save_0 11 rfl rfl)
theorem dX1_save_12 : decode cX1_save 12 = .ok (.getfield 39, 3) := dk_180 0 39 (dk_at dksX1_save_0 12 rfl rfl)
theorem dX1_save_15 : decode cX1_save 15 = .ok (.invokevirtual 54, 3) := dk_182 0 54 (dk_at dksX1_save_0 15 rfl rfl)
theorem dX1_save_18 : decode cX1_save 18 = .ok (.pop, 1) := dk_87 (dk_at dksX1_save_0 18 rfl rfl)
theorem dX1_save_19 : decode cX1_save 19 = .ok (.aload_n 0, 1) := dk_42 (dk_at dksX1_save_0 19 rfl rfl)
theorem dX1_save_20 : decode cX1_save 20 = .ok (.getfield 39, 3) := dk_180 0 39 (dk_at dksX1_save_0 20 rfl rfl)
theorem dX1_save_23 : decode cX1_save 23 = .ok (.aload_n 0, 1) := dk_42 (dk_at dksX1_save_0 23 rfl rfl)
theorem dX1_save_24 : decode cX1_save 24 = .ok (.getfield 32, 3) := dk_180 0 32 (dk_at dksX1_save_1 0 rfl rfl)
theorem dX1_save_27 : decode cX1_save 27 = .ok (.invokevirtual 58, 3) := dk_182 0 58 (dk_at dksX1_save_1 3 rfl rfl)
theorem dX1_save_30 : decode cX1_save 30 = .ok (.invokevirtual 62, 3) := dk_182 0 62 (dk_at dksX1_save_1 6 rfl rfl)
theorem dX1_save_33 : decode cX1_save 33 = .ok (.return_, 1) := dk_177 (dk_at dksX1_save_1 9 rfl rfl)
abbrev cX1_giveUp : ByteArray := prog_1_method_14_code
def yX1_giveUp : MethodName := ⟨RX1, "giveUp", "(I)I"⟩
def dkwX1_giveUp_0 : List UInt8 := [42, 27, 178, 0, 129, 182, 0, 135, 184, 0, 118, 42, 182, 0, 122, 42, 180, 0, 32, 27, 182, 0, 139, 172]
abbrev dktX1_giveUp_0 : List UInt8 := dkwX1_giveUp_0 ++ []
theorem dksX1_giveUp_0 : cX1_giveUp.data.toList.drop 0 = dktX1_giveUp_0 := by decide +kernel
theorem dX1_giveUp_0 : decode cX1_giveUp 0 = .ok (.aload_n 0, 1) := dk_42 (dk_at dksX1_giveUp_0 0 rfl rfl)
theorem dX1_giveUp_1 : decode cX1_giveUp 1 = .ok (.iload_n 1, 1) := dk_27 (dk_at dksX1_giveUp_0 1 rfl rfl)
theorem dX1_giveUp_2 : decode cX1_giveUp 2 = .ok (.getstatic 129, 3) := dk_178 0 129 (dk_at dksX1_giveUp_0 2 rfl rfl)
theorem dX1_giveUp_5 : decode cX1_giveUp 5 = .ok (.invokevirtual 135, 3) := dk_182 0 135 (dk_at dksX1_giveUp_0 5 rfl rfl)
theorem dX1_giveUp_8 : decode cX1_giveUp 8 = .ok (.invokestatic 118, 3) := dk_184 0 118 (dk_at dksX1_giveUp_0 8 rfl rfl)
theorem dX1_giveUp_11 : decode cX1_giveUp 11 = .ok (.aload_n 0, 1) := dk_42 (dk_at dksX1_giveUp_0 11 rfl rfl)
theorem dX1_giveUp_12 : decode cX1_giveUp 12 = .ok (.invokevirtual 122, 3) := dk_182 0 122 (dk_at dksX1_giveUp_0 12 rfl rfl)
theorem dX1_giveUp_15 : decode cX1_giveUp 15 = .ok (.aload_n 0, 1) := dk_42 (dk_at dksX1_giveUp_0 15 rfl rfl)
theorem dX1_giveUp_16 : decode cX1_giveUp 16 = .ok (.getfield 32, 3) := dk_180 0 32 (dk_at dksX1_giveUp_0 16 rfl rfl)
theorem dX1_giveUp_19 : decode cX1_giveUp 19 = .ok (.iload_n 1, 1) := dk_27 (dk_at dksX1_giveUp_0 19 rfl rfl)
theorem dX1_giveUp_20 : decode cX1_giveUp 20 = .ok (.invokevirtual 139, 3) := dk_182 0 139 (dk_at dksX1_giveUp_0 20 rfl rfl)
theorem dX1_giveUp_23 : decode cX1_giveUp 23 = .ok (.ireturn, 1) := dk_172 (dk_at dksX1_giveUp_0 23 rfl rfl)
abbrev cX1_isStatus : ByteArray := prog_1_method_28_code
def yX1_isStatus : MethodName := ⟨RX1, "isStatus", "(ILPostChaiseYard$Status;)Z"⟩
def dkwX1_isStatus_1 : List UInt8 := [3, 172]
abbrev dktX1_isStatus_1 : List UInt8 := dkwX1_isStatus_1 ++ []
def dkwX1_isStatus_0 : List UInt8 := [42, 180, 0, 32, 180, 0, 212, 42, 27, 182, 0, 202, 180, 0, 216, 50, 44, 166, 0, 7, 4, 167, 0, 4]
abbrev dktX1_isStatus_0 : List UInt8 := dkwX1_isStatus_0 ++ dktX1_isStatus_1
theorem dksX1_isStatus_0 : cX1_isStatus.data.toList.drop 0 = dktX1_isStatus_0 := by decide +kernel
theorem dksX1_isStatus_1 : cX1_isStatus.data.toList.drop 24 = dktX1_isStatus_1 := dk_seg dksX1_isStatus_0 24 rfl rfl
theorem dX1_isStatus_0 : decode cX1_isStatus 0 = .ok (.aload_n 0, 1) := dk_42 (dk_at dksX1_isStatus_0 0 rfl rfl)
theorem dX1_isStatus_1 : decode cX1_isStatus 1 = .ok (.getfield 32, 3) := dk_180 0 32 (dk_at dksX1_isStatus_0 1 rfl rfl)
theorem dX1_isStatus_4 : decode cX1_isStatus 4 = .ok (.getfield 212, 3) := dk_180 0 212 (dk_at dksX1_isStatus_0 4 rfl rfl)
theorem dX1_isStatus_7 : decode cX1_isStatus 7 = .ok (.aload_n 0, 1) := dk_42 (dk_at dksX1_isStatus_0 7 rfl rfl)
theorem dX1_isStatus_8 : decode cX1_isStatus 8 = .ok (.iload_n 1, 1) := dk_27 (dk_at dksX1_isStatus_0 8 rfl rfl)
theorem dX1_isStatus_9 : decode cX1_isStatus 9 = .ok (.invokevirtual 202, 3) := dk_182 0 202 (dk_at dksX1_isStatus_0 9 rfl rfl)
theorem dX1_isStatus_12 : decode cX1_isStatus 12 = .ok (.getfield 216, 3) := dk_180 0 216 (dk_at dksX1_isStatus_0 12 rfl rfl)
theorem dX1_isStatus_15 : decode cX1_isStatus 15 = .ok (.aaload, 1) := dk_50 (dk_at dksX1_isStatus_0 15 rfl rfl)
theorem dX1_isStatus_16 : decode cX1_isStatus 16 = .ok (.aload_n 2, 1) := dk_44 (dk_at dksX1_isStatus_0 16 rfl rfl)
theorem dX1_isStatus_17 : decode cX1_isStatus 17 = .ok (.if_acmp .ne 7, 3) := dk_166 0 7 (dk_at dksX1_isStatus_0 17 rfl rfl)
theorem dX1_isStatus_20 : decode cX1_isStatus 20 = .ok (.iconst 1, 1) := dk_4 (dk_at dksX1_isStatus_0 20 rfl rfl)
theorem dX1_isStatus_21 : decode cX1_isStatus 21 = .ok (.goto 4, 3) := dk_167 0 4 (dk_at dksX1_isStatus_0 21 rfl rfl)
theorem dX1_isStatus_24 : decode cX1_isStatus 24 = .ok (.iconst 0, 1) := dk_3 (dk_at dksX1_isStatus_1 0 rfl rfl)
theorem dX1_isStatus_25 : decode cX1_isStatus 25 = .ok (.ireturn, 1) := dk_172 (dk_at dksX1_isStatus_1 1 rfl rfl)
abbrev cX1_guest : ByteArray := prog_1_method_9_code
def yX1_guest : MethodName := ⟨RX1, "guest", "(I)LPostChaiseYard$Guest;"⟩
def dkwX1_guest_1 : List UInt8 := [185, 0, 89, 2, 0, 192, 0, 93, 176]
abbrev dktX1_guest_1 : List UInt8 := dkwX1_guest_1 ++ []
def dkwX1_guest_0 : List UInt8 := [27, 42, 180, 0, 32, 180, 0, 78, 185, 0, 82, 1, 0, 184, 0, 85, 42, 180, 0, 32, 180, 0, 78, 27]
abbrev dktX1_guest_0 : List UInt8 := dkwX1_guest_0 ++ dktX1_guest_1
theorem dksX1_guest_0 : cX1_guest.data.toList.drop 0 = dktX1_guest_0 := by decide +kernel
theorem dksX1_guest_1 : cX1_guest.data.toList.drop 24 = dktX1_guest_1 := dk_seg dksX1_guest_0 24 rfl rfl
theorem dX1_guest_0 : decode cX1_guest 0 = .ok (.iload_n 1, 1) := dk_27 (dk_at dksX1_guest_0 0 rfl rfl)
theorem dX1_guest_1 : decode cX1_guest 1 = .ok (.aload_n 0, 1) := dk_42 (dk_at dksX1_guest_0 1 rfl rfl)
theorem dX1_guest_2 : decode cX1_guest 2 = .ok (.getfield 32, 3) := dk_180 0 32 (dk_at dksX1_guest_0 2 rfl rfl)
theorem dX1_guest_5 : decode cX1_guest 5 = .ok (.getfield 78, 3) := dk_180 0 78 (dk_at dksX1_guest_0 5 rfl rfl)
theorem dX1_guest_8 : decode cX1_guest 8 = .ok (.invokeinterface 82 1, 5) := by decide +kernel
theorem dX1_guest_13 : decode cX1_guest 13 = .ok (.invokestatic 85, 3) := dk_184 0 85 (dk_at dksX1_guest_0 13 rfl rfl)
theorem dX1_guest_16 : decode cX1_guest 16 = .ok (.aload_n 0, 1) := dk_42 (dk_at dksX1_guest_0 16 rfl rfl)
theorem dX1_guest_17 : decode cX1_guest 17 = .ok (.getfield 32, 3) := dk_180 0 32 (dk_at dksX1_guest_0 17 rfl rfl)
theorem dX1_guest_20 : decode cX1_guest 20 = .ok (.getfield 78, 3) := dk_180 0 78 (dk_at dksX1_guest_0 20 rfl rfl)
theorem dX1_guest_23 : decode cX1_guest 23 = .ok (.iload_n 1, 1) := dk_27 (dk_at dksX1_guest_0 23 rfl rfl)
theorem dX1_guest_24 : decode cX1_guest 24 = .ok (.invokeinterface 89 2, 5) := by decide +kernel
theorem dX1_guest_29 : decode cX1_guest 29 = .ok (.checkcast 93, 3) := dk_192 0 93 (dk_at dksX1_guest_1 5 rfl rfl)
theorem dX1_guest_32 : decode cX1_guest 32 = .ok (.areturn, 1) := dk_176 (dk_at dksX1_guest_1 8 rfl rfl)
abbrev cX1_pass : ByteArray := prog_1_method_15_code
def yX1_pass : MethodName := ⟨RX1, "pass", "(I)I"⟩
def dkwX1_pass_1 : List UInt8 := [180, 0, 32, 27, 182, 0, 147, 172]
abbrev dktX1_pass_1 : List UInt8 := dkwX1_pass_1 ++ []
def dkwX1_pass_0 : List UInt8 := [27, 4, 16, 99, 184, 0, 110, 42, 180, 0, 32, 27, 182, 0, 143, 184, 0, 118, 42, 182, 0, 122, 42]
abbrev dktX1_pass_0 : List UInt8 := dkwX1_pass_0 ++ dktX1_pass_1
theorem dksX1_pass_0 : cX1_pass.data.toList.drop 0 = dktX1_pass_0 := by decide +kernel
theorem dksX1_pass_1 : cX1_pass.data.toList.drop 23 = dktX1_pass_1 := dk_seg dksX1_pass_0 23 rfl rfl
theorem dX1_pass_0 : decode cX1_pass 0 = .ok (.iload_n 1, 1) := dk_27 (dk_at dksX1_pass_0 0 rfl rfl)
theorem dX1_pass_1 : decode cX1_pass 1 = .ok (.iconst 1, 1) := dk_4 (dk_at dksX1_pass_0 1 rfl rfl)
theorem dX1_pass_2 : decode cX1_pass 2 = .ok (.bipush 99, 2) := dk_16 99 (dk_at dksX1_pass_0 2 rfl rfl)
theorem dX1_pass_4 : decode cX1_pass 4 = .ok (.invokestatic 110, 3) := dk_184 0 110 (dk_at dksX1_pass_0 4 rfl rfl)
theorem dX1_pass_7 : decode cX1_pass 7 = .ok (.aload_n 0, 1) := dk_42 (dk_at dksX1_pass_0 7 rfl rfl)
theorem dX1_pass_8 : decode cX1_pass 8 = .ok (.getfield 32, 3) := dk_180 0 32 (dk_at dksX1_pass_0 8 rfl rfl)
theorem dX1_pass_11 : decode cX1_pass 11 = .ok (.iload_n 1, 1) := dk_27 (dk_at dksX1_pass_0 11 rfl rfl)
theorem dX1_pass_12 : decode cX1_pass 12 = .ok (.invokevirtual 143, 3) := dk_182 0 143 (dk_at dksX1_pass_0 12 rfl rfl)
theorem dX1_pass_15 : decode cX1_pass 15 = .ok (.invokestatic 118, 3) := dk_184 0 118 (dk_at dksX1_pass_0 15 rfl rfl)
theorem dX1_pass_18 : decode cX1_pass 18 = .ok (.aload_n 0, 1) := dk_42 (dk_at dksX1_pass_0 18 rfl rfl)
theorem dX1_pass_19 : decode cX1_pass 19 = .ok (.invokevirtual 122, 3) := dk_182 0 122 (dk_at dksX1_pass_0 19 rfl rfl)
theorem dX1_pass_22 : decode cX1_pass 22 = .ok (.aload_n 0, 1) := dk_42 (dk_at dksX1_pass_0 22 rfl rfl)
theorem dX1_pass_23 : decode cX1_pass 23 = .ok (.getfield 32, 3) := dk_180 0 32 (dk_at dksX1_pass_1 0 rfl rfl)
theorem dX1_pass_26 : decode cX1_pass 26 = .ok (.iload_n 1, 1) := dk_27 (dk_at dksX1_pass_1 3 rfl rfl)
theorem dX1_pass_27 : decode cX1_pass 27 = .ok (.invokevirtual 147, 3) := dk_182 0 147 (dk_at dksX1_pass_1 4 rfl rfl)
theorem dX1_pass_30 : decode cX1_pass 30 = .ok (.ireturn, 1) := dk_172 (dk_at dksX1_pass_1 7 rfl rfl)
abbrev cX1_quartersFor : ByteArray := prog_1_method_3_code
def yX1_quartersFor : MethodName := ⟨RX1, "quartersFor", "(II)I"⟩
def dkwX1_quartersFor_0 : List UInt8 := [26, 27, 96, 4, 100, 27, 108, 172]
abbrev dktX1_quartersFor_0 : List UInt8 := dkwX1_quartersFor_0 ++ []
theorem dksX1_quartersFor_0 : cX1_quartersFor.data.toList.drop 0 = dktX1_quartersFor_0 := by decide +kernel
theorem dX1_quartersFor_0 : decode cX1_quartersFor 0 = .ok (.iload_n 0, 1) := dk_26 (dk_at dksX1_quartersFor_0 0 rfl rfl)
theorem dX1_quartersFor_1 : decode cX1_quartersFor 1 = .ok (.iload_n 1, 1) := dk_27 (dk_at dksX1_quartersFor_0 1 rfl rfl)
theorem dX1_quartersFor_2 : decode cX1_quartersFor 2 = .ok (.iadd, 1) := dk_96 (dk_at dksX1_quartersFor_0 2 rfl rfl)
theorem dX1_quartersFor_3 : decode cX1_quartersFor 3 = .ok (.iconst 1, 1) := dk_4 (dk_at dksX1_quartersFor_0 3 rfl rfl)
theorem dX1_quartersFor_4 : decode cX1_quartersFor 4 = .ok (.isub, 1) := dk_100 (dk_at dksX1_quartersFor_0 4 rfl rfl)
theorem dX1_quartersFor_5 : decode cX1_quartersFor 5 = .ok (.iload_n 1, 1) := dk_27 (dk_at dksX1_quartersFor_0 5 rfl rfl)
theorem dX1_quartersFor_6 : decode cX1_quartersFor 6 = .ok (.idiv, 1) := dk_108 (dk_at dksX1_quartersFor_0 6 rfl rfl)
theorem dX1_quartersFor_7 : decode cX1_quartersFor 7 = .ok (.ireturn, 1) := dk_172 (dk_at dksX1_quartersFor_0 7 rfl rfl)
abbrev cX1_addRest : ByteArray := prog_1_method_16_code
def yX1_addRest : MethodName := ⟨RX1, "addRest", "(II)I"⟩
def dkwX1_addRest_2 : List UInt8 := [180, 0, 158, 28, 96, 181, 0, 158, 45, 180, 0, 158, 172]
abbrev dktX1_addRest_2 : List UInt8 := dkwX1_addRest_2 ++ []
def dkwX1_addRest_1 : List UInt8 := [28, 96, 17, 0, 200, 163, 0, 7, 4, 167, 0, 4, 3, 184, 0, 118, 42, 182, 0, 122, 45, 89]
abbrev dktX1_addRest_1 : List UInt8 := dkwX1_addRest_1 ++ dktX1_addRest_2
def dkwX1_addRest_0 : List UInt8 := [42, 27, 182, 0, 150, 78, 28, 4, 16, 99, 184, 0, 110, 45, 180, 0, 154, 154, 0, 19, 45, 180, 0, 158]
abbrev dktX1_addRest_0 : List UInt8 := dkwX1_addRest_0 ++ dktX1_addRest_1
theorem dksX1_addRest_0 : cX1_addRest.data.toList.drop 0 = dktX1_addRest_0 := by decide +kernel
theorem dksX1_addRest_1 : cX1_addRest.data.toList.drop 24 = dktX1_addRest_1 := dk_seg dksX1_addRest_0 24 rfl rfl
theorem dksX1_addRest_2 : cX1_addRest.data.toList.drop 46 = dktX1_addRest_2 := dk_seg dksX1_addRest_1 22 rfl rfl
theorem dX1_addRest_0 : decode cX1_addRest 0 = .ok (.aload_n 0, 1) := dk_42 (dk_at dksX1_addRest_0 0 rfl rfl)
theorem dX1_addRest_1 : decode cX1_addRest 1 = .ok (.iload_n 1, 1) := dk_27 (dk_at dksX1_addRest_0 1 rfl rfl)
theorem dX1_addRest_2 : decode cX1_addRest 2 = .ok (.invokevirtual 150, 3) := dk_182 0 150 (dk_at dksX1_addRest_0 2 rfl rfl)
theorem dX1_addRest_5 : decode cX1_addRest 5 = .ok (.astore_n 3, 1) := dk_78 (dk_at dksX1_addRest_0 5 rfl rfl)
theorem dX1_addRest_6 : decode cX1_addRest 6 = .ok (.iload_n 2, 1) := dk_28 (dk_at dksX1_addRest_0 6 rfl rfl)
theorem dX1_addRest_7 : decode cX1_addRest 7 = .ok (.iconst 1, 1) := dk_4 (dk_at dksX1_addRest_0 7 rfl rfl)
theorem dX1_addRest_8 : decode cX1_addRest 8 = .ok (.bipush 99, 2) := dk_16 99 (dk_at dksX1_addRest_0 8 rfl rfl)
theorem dX1_addRest_10 : decode cX1_addRest 10 = .ok (.invokestatic 110, 3) := dk_184 0 110 (dk_at dksX1_addRest_0 10 rfl rfl)
theorem dX1_addRest_13 : decode cX1_addRest 13 = .ok (.aload_n 3, 1) := dk_45 (dk_at dksX1_addRest_0 13 rfl rfl)
theorem dX1_addRest_14 : decode cX1_addRest 14 = .ok (.getfield 154, 3) := dk_180 0 154 (dk_at dksX1_addRest_0 14 rfl rfl)
theorem dX1_addRest_17 : decode cX1_addRest 17 = .ok (.ifCond .ne 19, 3) := dk_154 0 19 (dk_at dksX1_addRest_0 17 rfl rfl)
theorem dX1_addRest_20 : decode cX1_addRest 20 = .ok (.aload_n 3, 1) := dk_45 (dk_at dksX1_addRest_0 20 rfl rfl)
theorem dX1_addRest_21 : decode cX1_addRest 21 = .ok (.getfield 158, 3) := dk_180 0 158 (dk_at dksX1_addRest_0 21 rfl rfl)
theorem dX1_addRest_24 : decode cX1_addRest 24 = .ok (.iload_n 2, 1) := dk_28 (dk_at dksX1_addRest_1 0 rfl rfl)
theorem dX1_addRest_25 : decode cX1_addRest 25 = .ok (.iadd, 1) := dk_96 (dk_at dksX1_addRest_1 1 rfl rfl)
theorem dX1_addRest_26 : decode cX1_addRest 26 = .ok (.sipush 200, 3) := dk_17 0 200 (dk_at dksX1_addRest_1 2 rfl rfl)
theorem dX1_addRest_29 : decode cX1_addRest 29 = .ok (.if_icmp .gt 7, 3) := dk_163 0 7 (dk_at dksX1_addRest_1 5 rfl rfl)
theorem dX1_addRest_32 : decode cX1_addRest 32 = .ok (.iconst 1, 1) := dk_4 (dk_at dksX1_addRest_1 8 rfl rfl)
theorem dX1_addRest_33 : decode cX1_addRest 33 = .ok (.goto 4, 3) := dk_167 0 4 (dk_at dksX1_addRest_1 9 rfl rfl)
theorem dX1_addRest_36 : decode cX1_addRest 36 = .ok (.iconst 0, 1) := dk_3 (dk_at dksX1_addRest_1 12 rfl rfl)
theorem dX1_addRest_37 : decode cX1_addRest 37 = .ok (.invokestatic 118, 3) := dk_184 0 118 (dk_at dksX1_addRest_1 13 rfl rfl)
theorem dX1_addRest_40 : decode cX1_addRest 40 = .ok (.aload_n 0, 1) := dk_42 (dk_at dksX1_addRest_1 16 rfl rfl)
theorem dX1_addRest_41 : decode cX1_addRest 41 = .ok (.invokevirtual 122, 3) := dk_182 0 122 (dk_at dksX1_addRest_1 17 rfl rfl)
theorem dX1_addRest_44 : decode cX1_addRest 44 = .ok (.aload_n 3, 1) := dk_45 (dk_at dksX1_addRest_1 20 rfl rfl)
theorem dX1_addRest_45 : decode cX1_addRest 45 = .ok (.dup, 1) := dk_89 (dk_at dksX1_addRest_1 21 rfl rfl)
theorem dX1_addRest_46 : decode cX1_addRest 46 = .ok (.getfield 158, 3) := dk_180 0 158 (dk_at dksX1_addRest_2 0 rfl rfl)
theorem dX1_addRest_49 : decode cX1_addRest 49 = .ok (.iload_n 2, 1) := dk_28 (dk_at dksX1_addRest_2 3 rfl rfl)
theorem dX1_addRest_50 : decode cX1_addRest 50 = .ok (.iadd, 1) := dk_96 (dk_at dksX1_addRest_2 4 rfl rfl)
theorem dX1_addRest_51 : decode cX1_addRest 51 = .ok (.putfield 158, 3) := dk_181 0 158 (dk_at dksX1_addRest_2 5 rfl rfl)
theorem dX1_addRest_54 : decode cX1_addRest 54 = .ok (.aload_n 3, 1) := dk_45 (dk_at dksX1_addRest_2 8 rfl rfl)
theorem dX1_addRest_55 : decode cX1_addRest 55 = .ok (.getfield 158, 3) := dk_180 0 158 (dk_at dksX1_addRest_2 9 rfl rfl)
theorem dX1_addRest_58 : decode cX1_addRest 58 = .ok (.ireturn, 1) := dk_172 (dk_at dksX1_addRest_2 12 rfl rfl)
abbrev cX1_pair : ByteArray := prog_1_method_10_code
def yX1_pair : MethodName := ⟨RX1, "pair", "(I)LPostChaiseYard$Pair;"⟩
def dkwX1_pair_0 : List UInt8 := [27, 8, 184, 0, 85, 42, 180, 0, 32, 180, 0, 95, 27, 185, 0, 89, 2, 0, 192, 0, 98, 176]
abbrev dktX1_pair_0 : List UInt8 := dkwX1_pair_0 ++ []
theorem dksX1_pair_0 : cX1_pair.data.toList.drop 0 = dktX1_pair_0 := by decide +kernel
theorem dX1_pair_0 : decode cX1_pair 0 = .ok (.iload_n 1, 1) := dk_27 (dk_at dksX1_pair_0 0 rfl rfl)
theorem dX1_pair_1 : decode cX1_pair 1 = .ok (.iconst 5, 1) := dk_8 (dk_at dksX1_pair_0 1 rfl rfl)
theorem dX1_pair_2 : decode cX1_pair 2 = .ok (.invokestatic 85, 3) := dk_184 0 85 (dk_at dksX1_pair_0 2 rfl rfl)
theorem dX1_pair_5 : decode cX1_pair 5 = .ok (.aload_n 0, 1) := dk_42 (dk_at dksX1_pair_0 5 rfl rfl)
theorem dX1_pair_6 : decode cX1_pair 6 = .ok (.getfield 32, 3) := dk_180 0 32 (dk_at dksX1_pair_0 6 rfl rfl)
theorem dX1_pair_9 : decode cX1_pair 9 = .ok (.getfield 95, 3) := dk_180 0 95 (dk_at dksX1_pair_0 9 rfl rfl)
theorem dX1_pair_12 : decode cX1_pair 12 = .ok (.iload_n 1, 1) := dk_27 (dk_at dksX1_pair_0 12 rfl rfl)
theorem dX1_pair_13 : decode cX1_pair 13 = .ok (.invokeinterface 89 2, 5) := by decide +kernel
theorem dX1_pair_18 : decode cX1_pair 18 = .ok (.checkcast 98, 3) := dk_192 0 98 (dk_at dksX1_pair_0 18 rfl rfl)
theorem dX1_pair_21 : decode cX1_pair 21 = .ok (.areturn, 1) := dk_176 (dk_at dksX1_pair_0 21 rfl rfl)
abbrev cX1_sendToBed : ByteArray := prog_1_method_17_code
def yX1_sendToBed : MethodName := ⟨RX1, "sendToBed", "(I)I"⟩
def dkwX1_sendToBed_1 : List UInt8 := [3, 184, 0, 118, 42, 182, 0, 122, 42, 180, 0, 32, 27, 182, 0, 173, 172]
abbrev dktX1_sendToBed_1 : List UInt8 := dkwX1_sendToBed_1 ++ []
def dkwX1_sendToBed_0 : List UInt8 := [42, 180, 0, 32, 180, 0, 162, 42, 27, 182, 0, 165, 185, 0, 169, 2, 0, 155, 0, 7, 4, 167, 0, 4]
abbrev dktX1_sendToBed_0 : List UInt8 := dkwX1_sendToBed_0 ++ dktX1_sendToBed_1
theorem dksX1_sendToBed_0 : cX1_sendToBed.data.toList.drop 0 = dktX1_sendToBed_0 := by decide +kernel
theorem dksX1_sendToBed_1 : cX1_sendToBed.data.toList.drop 24 = dktX1_sendToBed_1 := dk_seg dksX1_sendToBed_0 24 rfl rfl
theorem dX1_sendToBed_0 : decode cX1_sendToBed 0 = .ok (.aload_n 0, 1) := dk_42 (dk_at dksX1_sendToBed_0 0 rfl rfl)
theorem dX1_sendToBed_1 : decode cX1_sendToBed 1 = .ok (.getfield 32, 3) := dk_180 0 32 (dk_at dksX1_sendToBed_0 1 rfl rfl)
theorem dX1_sendToBed_4 : decode cX1_sendToBed 4 = .ok (.getfield 162, 3) := dk_180 0 162 (dk_at dksX1_sendToBed_0 4 rfl rfl)
theorem dX1_sendToBed_7 : decode cX1_sendToBed 7 = .ok (.aload_n 0, 1) := dk_42 (dk_at dksX1_sendToBed_0 7 rfl rfl)
theorem dX1_sendToBed_8 : decode cX1_sendToBed 8 = .ok (.iload_n 1, 1) := dk_27 (dk_at dksX1_sendToBed_0 8 rfl rfl)
theorem dX1_sendToBed_9 : decode cX1_sendToBed 9 = .ok (.invokevirtual 165, 3) := dk_182 0 165 (dk_at dksX1_sendToBed_0 9 rfl rfl)
theorem dX1_sendToBed_12 : decode cX1_sendToBed 12 = .ok (.invokeinterface 169 2, 5) := by decide +kernel
theorem dX1_sendToBed_17 : decode cX1_sendToBed 17 = .ok (.ifCond .lt 7, 3) := dk_155 0 7 (dk_at dksX1_sendToBed_0 17 rfl rfl)
theorem dX1_sendToBed_20 : decode cX1_sendToBed 20 = .ok (.iconst 1, 1) := dk_4 (dk_at dksX1_sendToBed_0 20 rfl rfl)
theorem dX1_sendToBed_21 : decode cX1_sendToBed 21 = .ok (.goto 4, 3) := dk_167 0 4 (dk_at dksX1_sendToBed_0 21 rfl rfl)
theorem dX1_sendToBed_24 : decode cX1_sendToBed 24 = .ok (.iconst 0, 1) := dk_3 (dk_at dksX1_sendToBed_1 0 rfl rfl)
theorem dX1_sendToBed_25 : decode cX1_sendToBed 25 = .ok (.invokestatic 118, 3) := dk_184 0 118 (dk_at dksX1_sendToBed_1 1 rfl rfl)
theorem dX1_sendToBed_28 : decode cX1_sendToBed 28 = .ok (.aload_n 0, 1) := dk_42 (dk_at dksX1_sendToBed_1 4 rfl rfl)
theorem dX1_sendToBed_29 : decode cX1_sendToBed 29 = .ok (.invokevirtual 122, 3) := dk_182 0 122 (dk_at dksX1_sendToBed_1 5 rfl rfl)
theorem dX1_sendToBed_32 : decode cX1_sendToBed 32 = .ok (.aload_n 0, 1) := dk_42 (dk_at dksX1_sendToBed_1 8 rfl rfl)
theorem dX1_sendToBed_33 : decode cX1_sendToBed 33 = .ok (.getfield 32, 3) := dk_180 0 32 (dk_at dksX1_sendToBed_1 9 rfl rfl)
theorem dX1_sendToBed_36 : decode cX1_sendToBed 36 = .ok (.iload_n 1, 1) := dk_27 (dk_at dksX1_sendToBed_1 12 rfl rfl)
theorem dX1_sendToBed_37 : decode cX1_sendToBed 37 = .ok (.invokevirtual 173, 3) := dk_182 0 173 (dk_at dksX1_sendToBed_1 13 rfl rfl)
theorem dX1_sendToBed_40 : decode cX1_sendToBed 40 = .ok (.ireturn, 1) := dk_172 (dk_at dksX1_sendToBed_1 16 rfl rfl)
abbrev cX1_boy : ByteArray := prog_1_method_11_code
def yX1_boy : MethodName := ⟨RX1, "boy", "(I)LPostChaiseYard$Boy;"⟩
def dkwX1_boy_0 : List UInt8 := [27, 7, 184, 0, 85, 42, 180, 0, 32, 180, 0, 100, 27, 185, 0, 89, 2, 0, 192, 0, 103, 176]
abbrev dktX1_boy_0 : List UInt8 := dkwX1_boy_0 ++ []
theorem dksX1_boy_0 : cX1_boy.data.toList.drop 0 = dktX1_boy_0 := by decide +kernel
theorem dX1_boy_0 : decode cX1_boy 0 = .ok (.iload_n 1, 1) := dk_27 (dk_at dksX1_boy_0 0 rfl rfl)
theorem dX1_boy_1 : decode cX1_boy 1 = .ok (.iconst 4, 1) := dk_7 (dk_at dksX1_boy_0 1 rfl rfl)
theorem dX1_boy_2 : decode cX1_boy 2 = .ok (.invokestatic 85, 3) := dk_184 0 85 (dk_at dksX1_boy_0 2 rfl rfl)
theorem dX1_boy_5 : decode cX1_boy 5 = .ok (.aload_n 0, 1) := dk_42 (dk_at dksX1_boy_0 5 rfl rfl)
theorem dX1_boy_6 : decode cX1_boy 6 = .ok (.getfield 32, 3) := dk_180 0 32 (dk_at dksX1_boy_0 6 rfl rfl)
theorem dX1_boy_9 : decode cX1_boy 9 = .ok (.getfield 100, 3) := dk_180 0 100 (dk_at dksX1_boy_0 9 rfl rfl)
theorem dX1_boy_12 : decode cX1_boy 12 = .ok (.iload_n 1, 1) := dk_27 (dk_at dksX1_boy_0 12 rfl rfl)
theorem dX1_boy_13 : decode cX1_boy 13 = .ok (.invokeinterface 89 2, 5) := by decide +kernel
theorem dX1_boy_18 : decode cX1_boy 18 = .ok (.checkcast 103, 3) := dk_192 0 103 (dk_at dksX1_boy_0 18 rfl rfl)
theorem dX1_boy_21 : decode cX1_boy 21 = .ok (.areturn, 1) := dk_176 (dk_at dksX1_boy_0 21 rfl rfl)
abbrev cX1_callBoy : ByteArray := prog_1_method_18_code
def yX1_callBoy : MethodName := ⟨RX1, "callBoy", "(I)I"⟩
def dkwX1_callBoy_0 : List UInt8 := [42, 27, 182, 0, 165, 180, 0, 176, 184, 0, 118, 42, 182, 0, 122, 42, 180, 0, 32, 27, 182, 0, 179, 172]
abbrev dktX1_callBoy_0 : List UInt8 := dkwX1_callBoy_0 ++ []
theorem dksX1_callBoy_0 : cX1_callBoy.data.toList.drop 0 = dktX1_callBoy_0 := by decide +kernel
theorem dX1_callBoy_0 : decode cX1_callBoy 0 = .ok (.aload_n 0, 1) := dk_42 (dk_at dksX1_callBoy_0 0 rfl rfl)
theorem dX1_callBoy_1 : decode cX1_callBoy 1 = .ok (.iload_n 1, 1) := dk_27 (dk_at dksX1_callBoy_0 1 rfl rfl)
theorem dX1_callBoy_2 : decode cX1_callBoy 2 = .ok (.invokevirtual 165, 3) := dk_182 0 165 (dk_at dksX1_callBoy_0 2 rfl rfl)
theorem dX1_callBoy_5 : decode cX1_callBoy 5 = .ok (.getfield 176, 3) := dk_180 0 176 (dk_at dksX1_callBoy_0 5 rfl rfl)
theorem dX1_callBoy_8 : decode cX1_callBoy 8 = .ok (.invokestatic 118, 3) := dk_184 0 118 (dk_at dksX1_callBoy_0 8 rfl rfl)
theorem dX1_callBoy_11 : decode cX1_callBoy 11 = .ok (.aload_n 0, 1) := dk_42 (dk_at dksX1_callBoy_0 11 rfl rfl)
theorem dX1_callBoy_12 : decode cX1_callBoy 12 = .ok (.invokevirtual 122, 3) := dk_182 0 122 (dk_at dksX1_callBoy_0 12 rfl rfl)
theorem dX1_callBoy_15 : decode cX1_callBoy 15 = .ok (.aload_n 0, 1) := dk_42 (dk_at dksX1_callBoy_0 15 rfl rfl)
theorem dX1_callBoy_16 : decode cX1_callBoy 16 = .ok (.getfield 32, 3) := dk_180 0 32 (dk_at dksX1_callBoy_0 16 rfl rfl)
theorem dX1_callBoy_19 : decode cX1_callBoy 19 = .ok (.iload_n 1, 1) := dk_27 (dk_at dksX1_callBoy_0 19 rfl rfl)
theorem dX1_callBoy_20 : decode cX1_callBoy 20 = .ok (.invokevirtual 179, 3) := dk_182 0 179 (dk_at dksX1_callBoy_0 20 rfl rfl)
theorem dX1_callBoy_23 : decode cX1_callBoy 23 = .ok (.ireturn, 1) := dk_172 (dk_at dksX1_callBoy_0 23 rfl rfl)
abbrev cX1_putOnPole : ByteArray := prog_1_method_19_code
def yX1_putOnPole : MethodName := ⟨RX1, "putOnPole", "(I)I"⟩
def dkwX1_putOnPole_1 : List UInt8 := [180, 0, 32, 27, 182, 0, 190, 172]
abbrev dktX1_putOnPole_1 : List UInt8 := dkwX1_putOnPole_1 ++ []
def dkwX1_putOnPole_0 : List UInt8 := [42, 27, 182, 0, 182, 180, 0, 186, 199, 0, 7, 4, 167, 0, 4, 3, 184, 0, 118, 42, 182, 0, 122, 42]
abbrev dktX1_putOnPole_0 : List UInt8 := dkwX1_putOnPole_0 ++ dktX1_putOnPole_1
theorem dksX1_putOnPole_0 : cX1_putOnPole.data.toList.drop 0 = dktX1_putOnPole_0 := by decide +kernel
theorem dksX1_putOnPole_1 : cX1_putOnPole.data.toList.drop 24 = dktX1_putOnPole_1 := dk_seg dksX1_putOnPole_0 24 rfl rfl
theorem dX1_putOnPole_0 : decode cX1_putOnPole 0 = .ok (.aload_n 0, 1) := dk_42 (dk_at dksX1_putOnPole_0 0 rfl rfl)
theorem dX1_putOnPole_1 : decode cX1_putOnPole 1 = .ok (.iload_n 1, 1) := dk_27 (dk_at dksX1_putOnPole_0 1 rfl rfl)
theorem dX1_putOnPole_2 : decode cX1_putOnPole 2 = .ok (.invokevirtual 182, 3) := dk_182 0 182 (dk_at dksX1_putOnPole_0 2 rfl rfl)
theorem dX1_putOnPole_5 : decode cX1_putOnPole 5 = .ok (.getfield 186, 3) := dk_180 0 186 (dk_at dksX1_putOnPole_0 5 rfl rfl)
theorem dX1_putOnPole_8 : decode cX1_putOnPole 8 = .ok (.ifnonnull 7, 3) := dk_199 0 7 (dk_at dksX1_putOnPole_0 8 rfl rfl)
theorem dX1_putOnPole_11 : decode cX1_putOnPole 11 = .ok (.iconst 1, 1) := dk_4 (dk_at dksX1_putOnPole_0 11 rfl rfl)
theorem dX1_putOnPole_12 : decode cX1_putOnPole 12 = .ok (.goto 4, 3) := dk_167 0 4 (dk_at dksX1_putOnPole_0 12 rfl rfl)
theorem dX1_putOnPole_15 : decode cX1_putOnPole 15 = .ok (.iconst 0, 1) := dk_3 (dk_at dksX1_putOnPole_0 15 rfl rfl)
theorem dX1_putOnPole_16 : decode cX1_putOnPole 16 = .ok (.invokestatic 118, 3) := dk_184 0 118 (dk_at dksX1_putOnPole_0 16 rfl rfl)
theorem dX1_putOnPole_19 : decode cX1_putOnPole 19 = .ok (.aload_n 0, 1) := dk_42 (dk_at dksX1_putOnPole_0 19 rfl rfl)
theorem dX1_putOnPole_20 : decode cX1_putOnPole 20 = .ok (.invokevirtual 122, 3) := dk_182 0 122 (dk_at dksX1_putOnPole_0 20 rfl rfl)
theorem dX1_putOnPole_23 : decode cX1_putOnPole 23 = .ok (.aload_n 0, 1) := dk_42 (dk_at dksX1_putOnPole_0 23 rfl rfl)
theorem dX1_putOnPole_24 : decode cX1_putOnPole 24 = .ok (.getfield 32, 3) := dk_180 0 32 (dk_at dksX1_putOnPole_1 0 rfl rfl)
theorem dX1_putOnPole_27 : decode cX1_putOnPole 27 = .ok (.iload_n 1, 1) := dk_27 (dk_at dksX1_putOnPole_1 3 rfl rfl)
theorem dX1_putOnPole_28 : decode cX1_putOnPole 28 = .ok (.invokevirtual 190, 3) := dk_182 0 190 (dk_at dksX1_putOnPole_1 4 rfl rfl)
theorem dX1_putOnPole_31 : decode cX1_putOnPole 31 = .ok (.ireturn, 1) := dk_172 (dk_at dksX1_putOnPole_1 7 rfl rfl)
abbrev cX1_chaise : ByteArray := prog_1_method_12_code
def yX1_chaise : MethodName := ⟨RX1, "chaise", "(I)LPostChaiseYard$Chaise;"⟩
def dkwX1_chaise_0 : List UInt8 := [27, 6, 184, 0, 85, 42, 180, 0, 32, 180, 0, 105, 27, 185, 0, 89, 2, 0, 192, 0, 108, 176]
abbrev dktX1_chaise_0 : List UInt8 := dkwX1_chaise_0 ++ []
theorem dksX1_chaise_0 : cX1_chaise.data.toList.drop 0 = dktX1_chaise_0 := by decide +kernel
theorem dX1_chaise_0 : decode cX1_chaise 0 = .ok (.iload_n 1, 1) := dk_27 (dk_at dksX1_chaise_0 0 rfl rfl)
theorem dX1_chaise_1 : decode cX1_chaise 1 = .ok (.iconst 3, 1) := dk_6 (dk_at dksX1_chaise_0 1 rfl rfl)
theorem dX1_chaise_2 : decode cX1_chaise 2 = .ok (.invokestatic 85, 3) := dk_184 0 85 (dk_at dksX1_chaise_0 2 rfl rfl)
theorem dX1_chaise_5 : decode cX1_chaise 5 = .ok (.aload_n 0, 1) := dk_42 (dk_at dksX1_chaise_0 5 rfl rfl)
theorem dX1_chaise_6 : decode cX1_chaise 6 = .ok (.getfield 32, 3) := dk_180 0 32 (dk_at dksX1_chaise_0 6 rfl rfl)
theorem dX1_chaise_9 : decode cX1_chaise 9 = .ok (.getfield 105, 3) := dk_180 0 105 (dk_at dksX1_chaise_0 9 rfl rfl)
theorem dX1_chaise_12 : decode cX1_chaise 12 = .ok (.iload_n 1, 1) := dk_27 (dk_at dksX1_chaise_0 12 rfl rfl)
theorem dX1_chaise_13 : decode cX1_chaise 13 = .ok (.invokeinterface 89 2, 5) := by decide +kernel
theorem dX1_chaise_18 : decode cX1_chaise 18 = .ok (.checkcast 108, 3) := dk_192 0 108 (dk_at dksX1_chaise_0 18 rfl rfl)
theorem dX1_chaise_21 : decode cX1_chaise 21 = .ok (.areturn, 1) := dk_176 (dk_at dksX1_chaise_0 21 rfl rfl)
abbrev cX1_setPace : ByteArray := prog_1_method_20_code
def yX1_setPace : MethodName := ⟨RX1, "setPace", "(I)I"⟩
def dkwX1_setPace_1 : List UInt8 := [181, 0, 193, 28, 172]
abbrev dktX1_setPace_1 : List UInt8 := dkwX1_setPace_1 ++ []
def dkwX1_setPace_0 : List UInt8 := [27, 5, 8, 184, 0, 110, 42, 182, 0, 122, 42, 180, 0, 32, 180, 0, 193, 61, 42, 180, 0, 32, 27]
abbrev dktX1_setPace_0 : List UInt8 := dkwX1_setPace_0 ++ dktX1_setPace_1
theorem dksX1_setPace_0 : cX1_setPace.data.toList.drop 0 = dktX1_setPace_0 := by decide +kernel
theorem dksX1_setPace_1 : cX1_setPace.data.toList.drop 23 = dktX1_setPace_1 := dk_seg dksX1_setPace_0 23 rfl rfl
theorem dX1_setPace_0 : decode cX1_setPace 0 = .ok (.iload_n 1, 1) := dk_27 (dk_at dksX1_setPace_0 0 rfl rfl)
theorem dX1_setPace_1 : decode cX1_setPace 1 = .ok (.iconst 2, 1) := dk_5 (dk_at dksX1_setPace_0 1 rfl rfl)
theorem dX1_setPace_2 : decode cX1_setPace 2 = .ok (.iconst 5, 1) := dk_8 (dk_at dksX1_setPace_0 2 rfl rfl)
theorem dX1_setPace_3 : decode cX1_setPace 3 = .ok (.invokestatic 110, 3) := dk_184 0 110 (dk_at dksX1_setPace_0 3 rfl rfl)
theorem dX1_setPace_6 : decode cX1_setPace 6 = .ok (.aload_n 0, 1) := dk_42 (dk_at dksX1_setPace_0 6 rfl rfl)
theorem dX1_setPace_7 : decode cX1_setPace 7 = .ok (.invokevirtual 122, 3) := dk_182 0 122 (dk_at dksX1_setPace_0 7 rfl rfl)
theorem dX1_setPace_10 : decode cX1_setPace 10 = .ok (.aload_n 0, 1) := dk_42 (dk_at dksX1_setPace_0 10 rfl rfl)
theorem dX1_setPace_11 : decode cX1_setPace 11 = .ok (.getfield 32, 3) := dk_180 0 32 (dk_at dksX1_setPace_0 11 rfl rfl)
theorem dX1_setPace_14 : decode cX1_setPace 14 = .ok (.getfield 193, 3) := dk_180 0 193 (dk_at dksX1_setPace_0 14 rfl rfl)
theorem dX1_setPace_17 : decode cX1_setPace 17 = .ok (.istore_n 2, 1) := dk_61 (dk_at dksX1_setPace_0 17 rfl rfl)
theorem dX1_setPace_18 : decode cX1_setPace 18 = .ok (.aload_n 0, 1) := dk_42 (dk_at dksX1_setPace_0 18 rfl rfl)
theorem dX1_setPace_19 : decode cX1_setPace 19 = .ok (.getfield 32, 3) := dk_180 0 32 (dk_at dksX1_setPace_0 19 rfl rfl)
theorem dX1_setPace_22 : decode cX1_setPace 22 = .ok (.iload_n 1, 1) := dk_27 (dk_at dksX1_setPace_0 22 rfl rfl)
theorem dX1_setPace_23 : decode cX1_setPace 23 = .ok (.putfield 193, 3) := dk_181 0 193 (dk_at dksX1_setPace_1 0 rfl rfl)
theorem dX1_setPace_26 : decode cX1_setPace 26 = .ok (.iload_n 2, 1) := dk_28 (dk_at dksX1_setPace_1 3 rfl rfl)
theorem dX1_setPace_27 : decode cX1_setPace 27 = .ok (.ireturn, 1) := dk_172 (dk_at dksX1_setPace_1 4 rfl rfl)
abbrev cX1_setPoleLimit : ByteArray := prog_1_method_21_code
def yX1_setPoleLimit : MethodName := ⟨RX1, "setPoleLimit", "(I)I"⟩
def dkwX1_setPoleLimit_1 : List UInt8 := [180, 0, 32, 27, 181, 0, 196, 28, 172]
abbrev dktX1_setPoleLimit_1 : List UInt8 := dkwX1_setPoleLimit_1 ++ []
def dkwX1_setPoleLimit_0 : List UInt8 := [27, 16, 20, 17, 0, 200, 184, 0, 110, 42, 182, 0, 122, 42, 180, 0, 32, 180, 0, 196, 61, 42]
abbrev dktX1_setPoleLimit_0 : List UInt8 := dkwX1_setPoleLimit_0 ++ dktX1_setPoleLimit_1
theorem dksX1_setPoleLimit_0 : cX1_setPoleLimit.data.toList.drop 0 = dktX1_setPoleLimit_0 := by decide +kernel
theorem dksX1_setPoleLimit_1 : cX1_setPoleLimit.data.toList.drop 22 = dktX1_setPoleLimit_1 := dk_seg dksX1_setPoleLimit_0 22 rfl rfl
theorem dX1_setPoleLimit_0 : decode cX1_setPoleLimit 0 = .ok (.iload_n 1, 1) := dk_27 (dk_at dksX1_setPoleLimit_0 0 rfl rfl)
theorem dX1_setPoleLimit_1 : decode cX1_setPoleLimit 1 = .ok (.bipush 20, 2) := dk_16 20 (dk_at dksX1_setPoleLimit_0 1 rfl rfl)
theorem dX1_setPoleLimit_3 : decode cX1_setPoleLimit 3 = .ok (.sipush 200, 3) := dk_17 0 200 (dk_at dksX1_setPoleLimit_0 3 rfl rfl)
theorem dX1_setPoleLimit_6 : decode cX1_setPoleLimit 6 = .ok (.invokestatic 110, 3) := dk_184 0 110 (dk_at dksX1_setPoleLimit_0 6 rfl rfl)
theorem dX1_setPoleLimit_9 : decode cX1_setPoleLimit 9 = .ok (.aload_n 0, 1) := dk_42 (dk_at dksX1_setPoleLimit_0 9 rfl rfl)
theorem dX1_setPoleLimit_10 : decode cX1_setPoleLimit 10 = .ok (.invokevirtual 122, 3) := dk_182 0 122 (dk_at dksX1_setPoleLimit_0 10 rfl rfl)
theorem dX1_setPoleLimit_13 : decode cX1_setPoleLimit 13 = .ok (.aload_n 0, 1) := dk_42 (dk_at dksX1_setPoleLimit_0 13 rfl rfl)
theorem dX1_setPoleLimit_14 : decode cX1_setPoleLimit 14 = .ok (.getfield 32, 3) := dk_180 0 32 (dk_at dksX1_setPoleLimit_0 14 rfl rfl)
theorem dX1_setPoleLimit_17 : decode cX1_setPoleLimit 17 = .ok (.getfield 196, 3) := dk_180 0 196 (dk_at dksX1_setPoleLimit_0 17 rfl rfl)
theorem dX1_setPoleLimit_20 : decode cX1_setPoleLimit 20 = .ok (.istore_n 2, 1) := dk_61 (dk_at dksX1_setPoleLimit_0 20 rfl rfl)
theorem dX1_setPoleLimit_21 : decode cX1_setPoleLimit 21 = .ok (.aload_n 0, 1) := dk_42 (dk_at dksX1_setPoleLimit_0 21 rfl rfl)
theorem dX1_setPoleLimit_22 : decode cX1_setPoleLimit 22 = .ok (.getfield 32, 3) := dk_180 0 32 (dk_at dksX1_setPoleLimit_1 0 rfl rfl)
theorem dX1_setPoleLimit_25 : decode cX1_setPoleLimit 25 = .ok (.iload_n 1, 1) := dk_27 (dk_at dksX1_setPoleLimit_1 3 rfl rfl)
theorem dX1_setPoleLimit_26 : decode cX1_setPoleLimit 26 = .ok (.putfield 196, 3) := dk_181 0 196 (dk_at dksX1_setPoleLimit_1 4 rfl rfl)
theorem dX1_setPoleLimit_29 : decode cX1_setPoleLimit 29 = .ok (.iload_n 2, 1) := dk_28 (dk_at dksX1_setPoleLimit_1 7 rfl rfl)
theorem dX1_setPoleLimit_30 : decode cX1_setPoleLimit 30 = .ok (.ireturn, 1) := dk_172 (dk_at dksX1_setPoleLimit_1 8 rfl rfl)
abbrev cX1_rankOf : ByteArray := prog_1_method_26_code
def yX1_rankOf : MethodName := ⟨RX1, "rankOf", "(I)I"⟩
def dkwX1_rankOf_0 : List UInt8 := [42, 27, 182, 0, 202, 180, 0, 206, 172]
abbrev dktX1_rankOf_0 : List UInt8 := dkwX1_rankOf_0 ++ []
theorem dksX1_rankOf_0 : cX1_rankOf.data.toList.drop 0 = dktX1_rankOf_0 := by decide +kernel
theorem dX1_rankOf_0 : decode cX1_rankOf 0 = .ok (.aload_n 0, 1) := dk_42 (dk_at dksX1_rankOf_0 0 rfl rfl)
theorem dX1_rankOf_1 : decode cX1_rankOf 1 = .ok (.iload_n 1, 1) := dk_27 (dk_at dksX1_rankOf_0 1 rfl rfl)
theorem dX1_rankOf_2 : decode cX1_rankOf 2 = .ok (.invokevirtual 202, 3) := dk_182 0 202 (dk_at dksX1_rankOf_0 2 rfl rfl)
theorem dX1_rankOf_5 : decode cX1_rankOf 5 = .ok (.getfield 206, 3) := dk_180 0 206 (dk_at dksX1_rankOf_0 5 rfl rfl)
theorem dX1_rankOf_8 : decode cX1_rankOf 8 = .ok (.ireturn, 1) := dk_172 (dk_at dksX1_rankOf_0 8 rfl rfl)
abbrev cX1_roadOf : ByteArray := prog_1_method_27_code
def yX1_roadOf : MethodName := ⟨RX1, "roadOf", "(I)I"⟩
def dkwX1_roadOf_0 : List UInt8 := [42, 27, 182, 0, 202, 180, 0, 209, 172]
abbrev dktX1_roadOf_0 : List UInt8 := dkwX1_roadOf_0 ++ []
theorem dksX1_roadOf_0 : cX1_roadOf.data.toList.drop 0 = dktX1_roadOf_0 := by decide +kernel
theorem dX1_roadOf_0 : decode cX1_roadOf 0 = .ok (.aload_n 0, 1) := dk_42 (dk_at dksX1_roadOf_0 0 rfl rfl)
theorem dX1_roadOf_1 : decode cX1_roadOf 1 = .ok (.iload_n 1, 1) := dk_27 (dk_at dksX1_roadOf_0 1 rfl rfl)
theorem dX1_roadOf_2 : decode cX1_roadOf 2 = .ok (.invokevirtual 202, 3) := dk_182 0 202 (dk_at dksX1_roadOf_0 2 rfl rfl)
theorem dX1_roadOf_5 : decode cX1_roadOf 5 = .ok (.getfield 209, 3) := dk_180 0 209 (dk_at dksX1_roadOf_0 5 rfl rfl)
theorem dX1_roadOf_8 : decode cX1_roadOf 8 = .ok (.ireturn, 1) := dk_172 (dk_at dksX1_roadOf_0 8 rfl rfl)
abbrev cX1_isWaiting : ByteArray := prog_1_method_29_code
def yX1_isWaiting : MethodName := ⟨RX1, "isWaiting", "(I)Z"⟩
def dkwX1_isWaiting_0 : List UInt8 := [42, 27, 178, 0, 129, 182, 0, 135, 172]
abbrev dktX1_isWaiting_0 : List UInt8 := dkwX1_isWaiting_0 ++ []
theorem dksX1_isWaiting_0 : cX1_isWaiting.data.toList.drop 0 = dktX1_isWaiting_0 := by decide +kernel
theorem dX1_isWaiting_0 : decode cX1_isWaiting 0 = .ok (.aload_n 0, 1) := dk_42 (dk_at dksX1_isWaiting_0 0 rfl rfl)
theorem dX1_isWaiting_1 : decode cX1_isWaiting 1 = .ok (.iload_n 1, 1) := dk_27 (dk_at dksX1_isWaiting_0 1 rfl rfl)
theorem dX1_isWaiting_2 : decode cX1_isWaiting 2 = .ok (.getstatic 129, 3) := dk_178 0 129 (dk_at dksX1_isWaiting_0 2 rfl rfl)
theorem dX1_isWaiting_5 : decode cX1_isWaiting 5 = .ok (.invokevirtual 135, 3) := dk_182 0 135 (dk_at dksX1_isWaiting_0 5 rfl rfl)
theorem dX1_isWaiting_8 : decode cX1_isWaiting 8 = .ok (.ireturn, 1) := dk_172 (dk_at dksX1_isWaiting_0 8 rfl rfl)
abbrev cX1_isUnderWay : ByteArray := prog_1_method_30_code
def yX1_isUnderWay : MethodName := ⟨RX1, "isUnderWay", "(I)Z"⟩
def dkwX1_isUnderWay_0 : List UInt8 := [42, 27, 178, 0, 219, 182, 0, 135, 172]
abbrev dktX1_isUnderWay_0 : List UInt8 := dkwX1_isUnderWay_0 ++ []
theorem dksX1_isUnderWay_0 : cX1_isUnderWay.data.toList.drop 0 = dktX1_isUnderWay_0 := by decide +kernel
theorem dX1_isUnderWay_0 : decode cX1_isUnderWay 0 = .ok (.aload_n 0, 1) := dk_42 (dk_at dksX1_isUnderWay_0 0 rfl rfl)
theorem dX1_isUnderWay_1 : decode cX1_isUnderWay 1 = .ok (.iload_n 1, 1) := dk_27 (dk_at dksX1_isUnderWay_0 1 rfl rfl)
theorem dX1_isUnderWay_2 : decode cX1_isUnderWay 2 = .ok (.getstatic 219, 3) := dk_178 0 219 (dk_at dksX1_isUnderWay_0 2 rfl rfl)
theorem dX1_isUnderWay_5 : decode cX1_isUnderWay 5 = .ok (.invokevirtual 135, 3) := dk_182 0 135 (dk_at dksX1_isUnderWay_0 5 rfl rfl)
theorem dX1_isUnderWay_8 : decode cX1_isUnderWay 8 = .ok (.ireturn, 1) := dk_172 (dk_at dksX1_isUnderWay_0 8 rfl rfl)
abbrev cX1_hasArrived : ByteArray := prog_1_method_31_code
def yX1_hasArrived : MethodName := ⟨RX1, "hasArrived", "(I)Z"⟩
def dkwX1_hasArrived_0 : List UInt8 := [42, 27, 178, 0, 222, 182, 0, 135, 172]
abbrev dktX1_hasArrived_0 : List UInt8 := dkwX1_hasArrived_0 ++ []
theorem dksX1_hasArrived_0 : cX1_hasArrived.data.toList.drop 0 = dktX1_hasArrived_0 := by decide +kernel
theorem dX1_hasArrived_0 : decode cX1_hasArrived 0 = .ok (.aload_n 0, 1) := dk_42 (dk_at dksX1_hasArrived_0 0 rfl rfl)
theorem dX1_hasArrived_1 : decode cX1_hasArrived 1 = .ok (.iload_n 1, 1) := dk_27 (dk_at dksX1_hasArrived_0 1 rfl rfl)
theorem dX1_hasArrived_2 : decode cX1_hasArrived 2 = .ok (.getstatic 222, 3) := dk_178 0 222 (dk_at dksX1_hasArrived_0 2 rfl rfl)
theorem dX1_hasArrived_5 : decode cX1_hasArrived 5 = .ok (.invokevirtual 135, 3) := dk_182 0 135 (dk_at dksX1_hasArrived_0 5 rfl rfl)
theorem dX1_hasArrived_8 : decode cX1_hasArrived 8 = .ok (.ireturn, 1) := dk_172 (dk_at dksX1_hasArrived_0 8 rfl rfl)
abbrev cX1_hasGivenUp : ByteArray := prog_1_method_32_code
def yX1_hasGivenUp : MethodName := ⟨RX1, "hasGivenUp", "(I)Z"⟩
def dkwX1_hasGivenUp_0 : List UInt8 := [42, 27, 178, 0, 225, 182, 0, 135, 172]
abbrev dktX1_hasGivenUp_0 : List UInt8 := dkwX1_hasGivenUp_0 ++ []
theorem dksX1_hasGivenUp_0 : cX1_hasGivenUp.data.toList.drop 0 = dktX1_hasGivenUp_0 := by decide +kernel
theorem dX1_hasGivenUp_0 : decode cX1_hasGivenUp 0 = .ok (.aload_n 0, 1) := dk_42 (dk_at dksX1_hasGivenUp_0 0 rfl rfl)
theorem dX1_hasGivenUp_1 : decode cX1_hasGivenUp 1 = .ok (.iload_n 1, 1) := dk_27 (dk_at dksX1_hasGivenUp_0 1 rfl rfl)
theorem dX1_hasGivenUp_2 : decode cX1_hasGivenUp 2 = .ok (.getstatic 225, 3) := dk_178 0 225 (dk_at dksX1_hasGivenUp_0 2 rfl rfl)
theorem dX1_hasGivenUp_5 : decode cX1_hasGivenUp 5 = .ok (.invokevirtual 135, 3) := dk_182 0 135 (dk_at dksX1_hasGivenUp_0 5 rfl rfl)
theorem dX1_hasGivenUp_8 : decode cX1_hasGivenUp 8 = .ok (.ireturn, 1) := dk_172 (dk_at dksX1_hasGivenUp_0 8 rfl rfl)
abbrev cX1_waitOf : ByteArray := prog_1_method_33_code
def yX1_waitOf : MethodName := ⟨RX1, "waitOf", "(I)I"⟩
def dkwX1_waitOf_0 : List UInt8 := [42, 180, 0, 32, 42, 27, 182, 0, 202, 180, 0, 216, 182, 0, 228, 172]
abbrev dktX1_waitOf_0 : List UInt8 := dkwX1_waitOf_0 ++ []
theorem dksX1_waitOf_0 : cX1_waitOf.data.toList.drop 0 = dktX1_waitOf_0 := by decide +kernel
theorem dX1_waitOf_0 : decode cX1_waitOf 0 = .ok (.aload_n 0, 1) := dk_42 (dk_at dksX1_waitOf_0 0 rfl rfl)
theorem dX1_waitOf_1 : decode cX1_waitOf 1 = .ok (.getfield 32, 3) := dk_180 0 32 (dk_at dksX1_waitOf_0 1 rfl rfl)
theorem dX1_waitOf_4 : decode cX1_waitOf 4 = .ok (.aload_n 0, 1) := dk_42 (dk_at dksX1_waitOf_0 4 rfl rfl)
theorem dX1_waitOf_5 : decode cX1_waitOf 5 = .ok (.iload_n 1, 1) := dk_27 (dk_at dksX1_waitOf_0 5 rfl rfl)
theorem dX1_waitOf_6 : decode cX1_waitOf 6 = .ok (.invokevirtual 202, 3) := dk_182 0 202 (dk_at dksX1_waitOf_0 6 rfl rfl)
theorem dX1_waitOf_9 : decode cX1_waitOf 9 = .ok (.getfield 216, 3) := dk_180 0 216 (dk_at dksX1_waitOf_0 9 rfl rfl)
theorem dX1_waitOf_12 : decode cX1_waitOf 12 = .ok (.invokevirtual 228, 3) := dk_182 0 228 (dk_at dksX1_waitOf_0 12 rfl rfl)
theorem dX1_waitOf_15 : decode cX1_waitOf 15 = .ok (.ireturn, 1) := dk_172 (dk_at dksX1_waitOf_0 15 rfl rfl)
abbrev cX1_fareOf : ByteArray := prog_1_method_34_code
def yX1_fareOf : MethodName := ⟨RX1, "fareOf", "(I)I"⟩
def dkwX1_fareOf_0 : List UInt8 := [42, 27, 182, 0, 202, 182, 0, 231, 172]
abbrev dktX1_fareOf_0 : List UInt8 := dkwX1_fareOf_0 ++ []
theorem dksX1_fareOf_0 : cX1_fareOf.data.toList.drop 0 = dktX1_fareOf_0 := by decide +kernel
theorem dX1_fareOf_0 : decode cX1_fareOf 0 = .ok (.aload_n 0, 1) := dk_42 (dk_at dksX1_fareOf_0 0 rfl rfl)
theorem dX1_fareOf_1 : decode cX1_fareOf 1 = .ok (.iload_n 1, 1) := dk_27 (dk_at dksX1_fareOf_0 1 rfl rfl)
theorem dX1_fareOf_2 : decode cX1_fareOf 2 = .ok (.invokevirtual 202, 3) := dk_182 0 202 (dk_at dksX1_fareOf_0 2 rfl rfl)
theorem dX1_fareOf_5 : decode cX1_fareOf 5 = .ok (.invokevirtual 231, 3) := dk_182 0 231 (dk_at dksX1_fareOf_0 5 rfl rfl)
theorem dX1_fareOf_8 : decode cX1_fareOf 8 = .ok (.ireturn, 1) := dk_172 (dk_at dksX1_fareOf_0 8 rfl rfl)
abbrev cX1_guestAt : ByteArray := prog_1_method_36_code
def yX1_guestAt : MethodName := ⟨RX1, "guestAt", "(I)I"⟩
def dkwX1_guestAt_2 : List UInt8 := [182, 0, 244, 192, 0, 93, 180, 0, 216, 172]
abbrev dktX1_guestAt_2 : List UInt8 := dkwX1_guestAt_2 ++ []
def dkwX1_guestAt_1 : List UInt8 := [29, 27, 162, 0, 17, 44, 180, 0, 234, 182, 0, 241, 87, 132, 3, 1, 167, 255, 240, 44, 180, 0, 234]
abbrev dktX1_guestAt_1 : List UInt8 := dkwX1_guestAt_1 ++ dktX1_guestAt_2
def dkwX1_guestAt_0 : List UInt8 := [27, 42, 180, 0, 32, 180, 0, 234, 182, 0, 238, 184, 0, 85, 42, 180, 0, 32, 182, 0, 58, 77, 3, 62]
abbrev dktX1_guestAt_0 : List UInt8 := dkwX1_guestAt_0 ++ dktX1_guestAt_1
theorem dksX1_guestAt_0 : cX1_guestAt.data.toList.drop 0 = dktX1_guestAt_0 := by decide +kernel
theorem dksX1_guestAt_1 : cX1_guestAt.data.toList.drop 24 = dktX1_guestAt_1 := dk_seg dksX1_guestAt_0 24 rfl rfl
theorem dksX1_guestAt_2 : cX1_guestAt.data.toList.drop 47 = dktX1_guestAt_2 := dk_seg dksX1_guestAt_1 23 rfl rfl
theorem dX1_guestAt_0 : decode cX1_guestAt 0 = .ok (.iload_n 1, 1) := dk_27 (dk_at dksX1_guestAt_0 0 rfl rfl)
theorem dX1_guestAt_1 : decode cX1_guestAt 1 = .ok (.aload_n 0, 1) := dk_42 (dk_at dksX1_guestAt_0 1 rfl rfl)
theorem dX1_guestAt_2 : decode cX1_guestAt 2 = .ok (.getfield 32, 3) := dk_180 0 32 (dk_at dksX1_guestAt_0 2 rfl rfl)
theorem dX1_guestAt_5 : decode cX1_guestAt 5 = .ok (.getfield 234, 3) := dk_180 0 234 (dk_at dksX1_guestAt_0 5 rfl rfl)
theorem dX1_guestAt_8 : decode cX1_guestAt 8 = .ok (.invokevirtual 238, 3) := dk_182 0 238 (dk_at dksX1_guestAt_0 8 rfl rfl)
theorem dX1_guestAt_11 : decode cX1_guestAt 11 = .ok (.invokestatic 85, 3) := dk_184 0 85 (dk_at dksX1_guestAt_0 11 rfl rfl)
theorem dX1_guestAt_14 : decode cX1_guestAt 14 = .ok (.aload_n 0, 1) := dk_42 (dk_at dksX1_guestAt_0 14 rfl rfl)
theorem dX1_guestAt_15 : decode cX1_guestAt 15 = .ok (.getfield 32, 3) := dk_180 0 32 (dk_at dksX1_guestAt_0 15 rfl rfl)
theorem dX1_guestAt_18 : decode cX1_guestAt 18 = .ok (.invokevirtual 58, 3) := dk_182 0 58 (dk_at dksX1_guestAt_0 18 rfl rfl)
theorem dX1_guestAt_21 : decode cX1_guestAt 21 = .ok (.astore_n 2, 1) := dk_77 (dk_at dksX1_guestAt_0 21 rfl rfl)
theorem dX1_guestAt_22 : decode cX1_guestAt 22 = .ok (.iconst 0, 1) := dk_3 (dk_at dksX1_guestAt_0 22 rfl rfl)
theorem dX1_guestAt_23 : decode cX1_guestAt 23 = .ok (.istore_n 3, 1) := dk_62 (dk_at dksX1_guestAt_0 23 rfl rfl)
theorem dX1_guestAt_24 : decode cX1_guestAt 24 = .ok (.iload_n 3, 1) := dk_29 (dk_at dksX1_guestAt_1 0 rfl rfl)
theorem dX1_guestAt_25 : decode cX1_guestAt 25 = .ok (.iload_n 1, 1) := dk_27 (dk_at dksX1_guestAt_1 1 rfl rfl)
theorem dX1_guestAt_26 : decode cX1_guestAt 26 = .ok (.if_icmp .ge 17, 3) := dk_162 0 17 (dk_at dksX1_guestAt_1 2 rfl rfl)
theorem dX1_guestAt_29 : decode cX1_guestAt 29 = .ok (.aload_n 2, 1) := dk_44 (dk_at dksX1_guestAt_1 5 rfl rfl)
theorem dX1_guestAt_30 : decode cX1_guestAt 30 = .ok (.getfield 234, 3) := dk_180 0 234 (dk_at dksX1_guestAt_1 6 rfl rfl)
theorem dX1_guestAt_33 : decode cX1_guestAt 33 = .ok (.invokevirtual 241, 3) := dk_182 0 241 (dk_at dksX1_guestAt_1 9 rfl rfl)
theorem dX1_guestAt_36 : decode cX1_guestAt 36 = .ok (.pop, 1) := dk_87 (dk_at dksX1_guestAt_1 12 rfl rfl)
theorem dX1_guestAt_37 : decode cX1_guestAt 37 = .ok (.iinc 3 1, 3) := dk_132 3 1 (dk_at dksX1_guestAt_1 13 rfl rfl)
theorem dX1_guestAt_40 : decode cX1_guestAt 40 = .ok (.goto (-16), 3) := dk_167 255 240 (dk_at dksX1_guestAt_1 16 rfl rfl)
theorem dX1_guestAt_43 : decode cX1_guestAt 43 = .ok (.aload_n 2, 1) := dk_44 (dk_at dksX1_guestAt_1 19 rfl rfl)
theorem dX1_guestAt_44 : decode cX1_guestAt 44 = .ok (.getfield 234, 3) := dk_180 0 234 (dk_at dksX1_guestAt_1 20 rfl rfl)
theorem dX1_guestAt_47 : decode cX1_guestAt 47 = .ok (.invokevirtual 244, 3) := dk_182 0 244 (dk_at dksX1_guestAt_2 0 rfl rfl)
theorem dX1_guestAt_50 : decode cX1_guestAt 50 = .ok (.checkcast 93, 3) := dk_192 0 93 (dk_at dksX1_guestAt_2 3 rfl rfl)
theorem dX1_guestAt_53 : decode cX1_guestAt 53 = .ok (.getfield 216, 3) := dk_180 0 216 (dk_at dksX1_guestAt_2 6 rfl rfl)
theorem dX1_guestAt_56 : decode cX1_guestAt 56 = .ok (.ireturn, 1) := dk_172 (dk_at dksX1_guestAt_2 9 rfl rfl)
abbrev cX1_isPairOut : ByteArray := prog_1_method_37_code
def yX1_isPairOut : MethodName := ⟨RX1, "isPairOut", "(I)Z"⟩
def dkwX1_isPairOut_0 : List UInt8 := [42, 27, 182, 0, 150, 180, 0, 154, 172]
abbrev dktX1_isPairOut_0 : List UInt8 := dkwX1_isPairOut_0 ++ []
theorem dksX1_isPairOut_0 : cX1_isPairOut.data.toList.drop 0 = dktX1_isPairOut_0 := by decide +kernel
theorem dX1_isPairOut_0 : decode cX1_isPairOut 0 = .ok (.aload_n 0, 1) := dk_42 (dk_at dksX1_isPairOut_0 0 rfl rfl)
theorem dX1_isPairOut_1 : decode cX1_isPairOut 1 = .ok (.iload_n 1, 1) := dk_27 (dk_at dksX1_isPairOut_0 1 rfl rfl)
theorem dX1_isPairOut_2 : decode cX1_isPairOut 2 = .ok (.invokevirtual 150, 3) := dk_182 0 150 (dk_at dksX1_isPairOut_0 2 rfl rfl)
theorem dX1_isPairOut_5 : decode cX1_isPairOut 5 = .ok (.getfield 154, 3) := dk_180 0 154 (dk_at dksX1_isPairOut_0 5 rfl rfl)
theorem dX1_isPairOut_8 : decode cX1_isPairOut 8 = .ok (.ireturn, 1) := dk_172 (dk_at dksX1_isPairOut_0 8 rfl rfl)
abbrev cX1_restOf : ByteArray := prog_1_method_38_code
def yX1_restOf : MethodName := ⟨RX1, "restOf", "(I)I"⟩
def dkwX1_restOf_0 : List UInt8 := [42, 27, 182, 0, 150, 180, 0, 158, 172]
abbrev dktX1_restOf_0 : List UInt8 := dkwX1_restOf_0 ++ []
theorem dksX1_restOf_0 : cX1_restOf.data.toList.drop 0 = dktX1_restOf_0 := by decide +kernel
theorem dX1_restOf_0 : decode cX1_restOf 0 = .ok (.aload_n 0, 1) := dk_42 (dk_at dksX1_restOf_0 0 rfl rfl)
theorem dX1_restOf_1 : decode cX1_restOf 1 = .ok (.iload_n 1, 1) := dk_27 (dk_at dksX1_restOf_0 1 rfl rfl)
theorem dX1_restOf_2 : decode cX1_restOf 2 = .ok (.invokevirtual 150, 3) := dk_182 0 150 (dk_at dksX1_restOf_0 2 rfl rfl)
theorem dX1_restOf_5 : decode cX1_restOf 5 = .ok (.getfield 158, 3) := dk_180 0 158 (dk_at dksX1_restOf_0 5 rfl rfl)
theorem dX1_restOf_8 : decode cX1_restOf 8 = .ok (.ireturn, 1) := dk_172 (dk_at dksX1_restOf_0 8 rfl rfl)
abbrev cX1_milesOfPair : ByteArray := prog_1_method_39_code
def yX1_milesOfPair : MethodName := ⟨RX1, "milesOfPair", "(I)I"⟩
def dkwX1_milesOfPair_0 : List UInt8 := [42, 27, 182, 0, 150, 180, 0, 247, 172]
abbrev dktX1_milesOfPair_0 : List UInt8 := dkwX1_milesOfPair_0 ++ []
theorem dksX1_milesOfPair_0 : cX1_milesOfPair.data.toList.drop 0 = dktX1_milesOfPair_0 := by decide +kernel
theorem dX1_milesOfPair_0 : decode cX1_milesOfPair 0 = .ok (.aload_n 0, 1) := dk_42 (dk_at dksX1_milesOfPair_0 0 rfl rfl)
theorem dX1_milesOfPair_1 : decode cX1_milesOfPair 1 = .ok (.iload_n 1, 1) := dk_27 (dk_at dksX1_milesOfPair_0 1 rfl rfl)
theorem dX1_milesOfPair_2 : decode cX1_milesOfPair 2 = .ok (.invokevirtual 150, 3) := dk_182 0 150 (dk_at dksX1_milesOfPair_0 2 rfl rfl)
theorem dX1_milesOfPair_5 : decode cX1_milesOfPair 5 = .ok (.getfield 247, 3) := dk_180 0 247 (dk_at dksX1_milesOfPair_0 5 rfl rfl)
theorem dX1_milesOfPair_8 : decode cX1_milesOfPair 8 = .ok (.ireturn, 1) := dk_172 (dk_at dksX1_milesOfPair_0 8 rfl rfl)
abbrev cX1_nextPair : ByteArray := prog_1_method_40_code
def yX1_nextPair : MethodName := ⟨RX1, "nextPair", "()I"⟩
def dkwX1_nextPair_1 : List UInt8 := [172]
abbrev dktX1_nextPair_1 : List UInt8 := dkwX1_nextPair_1 ++ []
def dkwX1_nextPair_0 : List UInt8 := [42, 180, 0, 32, 182, 0, 250, 76, 43, 198, 0, 7, 4, 167, 0, 4, 3, 184, 0, 254, 43, 180, 1, 1]
abbrev dktX1_nextPair_0 : List UInt8 := dkwX1_nextPair_0 ++ dktX1_nextPair_1
theorem dksX1_nextPair_0 : cX1_nextPair.data.toList.drop 0 = dktX1_nextPair_0 := by decide +kernel
theorem dksX1_nextPair_1 : cX1_nextPair.data.toList.drop 24 = dktX1_nextPair_1 := dk_seg dksX1_nextPair_0 24 rfl rfl
theorem dX1_nextPair_0 : decode cX1_nextPair 0 = .ok (.aload_n 0, 1) := dk_42 (dk_at dksX1_nextPair_0 0 rfl rfl)
theorem dX1_nextPair_1 : decode cX1_nextPair 1 = .ok (.getfield 32, 3) := dk_180 0 32 (dk_at dksX1_nextPair_0 1 rfl rfl)
theorem dX1_nextPair_4 : decode cX1_nextPair 4 = .ok (.invokevirtual 250, 3) := dk_182 0 250 (dk_at dksX1_nextPair_0 4 rfl rfl)
theorem dX1_nextPair_7 : decode cX1_nextPair 7 = .ok (.astore_n 1, 1) := dk_76 (dk_at dksX1_nextPair_0 7 rfl rfl)
theorem dX1_nextPair_8 : decode cX1_nextPair 8 = .ok (.aload_n 1, 1) := dk_43 (dk_at dksX1_nextPair_0 8 rfl rfl)
theorem dX1_nextPair_9 : decode cX1_nextPair 9 = .ok (.ifnull 7, 3) := dk_198 0 7 (dk_at dksX1_nextPair_0 9 rfl rfl)
theorem dX1_nextPair_12 : decode cX1_nextPair 12 = .ok (.iconst 1, 1) := dk_4 (dk_at dksX1_nextPair_0 12 rfl rfl)
theorem dX1_nextPair_13 : decode cX1_nextPair 13 = .ok (.goto 4, 3) := dk_167 0 4 (dk_at dksX1_nextPair_0 13 rfl rfl)
theorem dX1_nextPair_16 : decode cX1_nextPair 16 = .ok (.iconst 0, 1) := dk_3 (dk_at dksX1_nextPair_0 16 rfl rfl)
theorem dX1_nextPair_17 : decode cX1_nextPair 17 = .ok (.invokestatic 254, 3) := dk_184 0 254 (dk_at dksX1_nextPair_0 17 rfl rfl)
theorem dX1_nextPair_20 : decode cX1_nextPair 20 = .ok (.aload_n 1, 1) := dk_43 (dk_at dksX1_nextPair_0 20 rfl rfl)
theorem dX1_nextPair_21 : decode cX1_nextPair 21 = .ok (.getfield 257, 3) := dk_180 1 1 (dk_at dksX1_nextPair_0 21 rfl rfl)
theorem dX1_nextPair_24 : decode cX1_nextPair 24 = .ok (.ireturn, 1) := dk_172 (dk_at dksX1_nextPair_1 0 rfl rfl)
abbrev cX1_checkThere : ByteArray := prog_1_method_8_code
def yX1_checkThere : MethodName := ⟨RX1, "checkThere", "(Z)V"⟩
def dkwX1_checkThere_0 : List UInt8 := [26, 154, 0, 11, 187, 0, 75, 89, 183, 0, 77, 191, 177]
abbrev dktX1_checkThere_0 : List UInt8 := dkwX1_checkThere_0 ++ []
theorem dksX1_checkThere_0 : cX1_checkThere.data.toList.drop 0 = dktX1_checkThere_0 := by decide +kernel
theorem dX1_checkThere_0 : decode cX1_checkThere 0 = .ok (.iload_n 0, 1) := dk_26 (dk_at dksX1_checkThere_0 0 rfl rfl)
theorem dX1_checkThere_1 : decode cX1_checkThere 1 = .ok (.ifCond .ne 11, 3) := dk_154 0 11 (dk_at dksX1_checkThere_0 1 rfl rfl)
theorem dX1_checkThere_4 : decode cX1_checkThere 4 = .ok (.new 75, 3) := dk_187 0 75 (dk_at dksX1_checkThere_0 4 rfl rfl)
theorem dX1_checkThere_7 : decode cX1_checkThere 7 = .ok (.dup, 1) := dk_89 (dk_at dksX1_checkThere_0 7 rfl rfl)
theorem dX1_checkThere_8 : decode cX1_checkThere 8 = .ok (.invokespecial 77, 3) := dk_183 0 77 (dk_at dksX1_checkThere_0 8 rfl rfl)
theorem dX1_checkThere_11 : decode cX1_checkThere 11 = .ok (.athrow, 1) := dk_191 (dk_at dksX1_checkThere_0 11 rfl rfl)
theorem dX1_checkThere_12 : decode cX1_checkThere 12 = .ok (.return_, 1) := dk_177 (dk_at dksX1_checkThere_0 12 rfl rfl)
abbrev cX1_isBoyOut : ByteArray := prog_1_method_41_code
def yX1_isBoyOut : MethodName := ⟨RX1, "isBoyOut", "(I)Z"⟩
def dkwX1_isBoyOut_1 : List UInt8 := [185, 0, 169, 2, 0, 156, 0, 7, 4, 167, 0, 4, 3, 172]
abbrev dktX1_isBoyOut_1 : List UInt8 := dkwX1_isBoyOut_1 ++ []
def dkwX1_isBoyOut_0 : List UInt8 := [42, 27, 182, 0, 165, 180, 0, 176, 154, 0, 27, 42, 180, 0, 32, 180, 0, 162, 42, 27, 182, 0, 165]
abbrev dktX1_isBoyOut_0 : List UInt8 := dkwX1_isBoyOut_0 ++ dktX1_isBoyOut_1
theorem dksX1_isBoyOut_0 : cX1_isBoyOut.data.toList.drop 0 = dktX1_isBoyOut_0 := by decide +kernel
theorem dksX1_isBoyOut_1 : cX1_isBoyOut.data.toList.drop 23 = dktX1_isBoyOut_1 := dk_seg dksX1_isBoyOut_0 23 rfl rfl
theorem dX1_isBoyOut_0 : decode cX1_isBoyOut 0 = .ok (.aload_n 0, 1) := dk_42 (dk_at dksX1_isBoyOut_0 0 rfl rfl)
theorem dX1_isBoyOut_1 : decode cX1_isBoyOut 1 = .ok (.iload_n 1, 1) := dk_27 (dk_at dksX1_isBoyOut_0 1 rfl rfl)
theorem dX1_isBoyOut_2 : decode cX1_isBoyOut 2 = .ok (.invokevirtual 165, 3) := dk_182 0 165 (dk_at dksX1_isBoyOut_0 2 rfl rfl)
theorem dX1_isBoyOut_5 : decode cX1_isBoyOut 5 = .ok (.getfield 176, 3) := dk_180 0 176 (dk_at dksX1_isBoyOut_0 5 rfl rfl)
theorem dX1_isBoyOut_8 : decode cX1_isBoyOut 8 = .ok (.ifCond .ne 27, 3) := dk_154 0 27 (dk_at dksX1_isBoyOut_0 8 rfl rfl)
theorem dX1_isBoyOut_11 : decode cX1_isBoyOut 11 = .ok (.aload_n 0, 1) := dk_42 (dk_at dksX1_isBoyOut_0 11 rfl rfl)
theorem dX1_isBoyOut_12 : decode cX1_isBoyOut 12 = .ok (.getfield 32, 3) := dk_180 0 32 (dk_at dksX1_isBoyOut_0 12 rfl rfl)
theorem dX1_isBoyOut_15 : decode cX1_isBoyOut 15 = .ok (.getfield 162, 3) := dk_180 0 162 (dk_at dksX1_isBoyOut_0 15 rfl rfl)
theorem dX1_isBoyOut_18 : decode cX1_isBoyOut 18 = .ok (.aload_n 0, 1) := dk_42 (dk_at dksX1_isBoyOut_0 18 rfl rfl)
theorem dX1_isBoyOut_19 : decode cX1_isBoyOut 19 = .ok (.iload_n 1, 1) := dk_27 (dk_at dksX1_isBoyOut_0 19 rfl rfl)
theorem dX1_isBoyOut_20 : decode cX1_isBoyOut 20 = .ok (.invokevirtual 165, 3) := dk_182 0 165 (dk_at dksX1_isBoyOut_0 20 rfl rfl)
theorem dX1_isBoyOut_23 : decode cX1_isBoyOut 23 = .ok (.invokeinterface 169 2, 5) := by decide +kernel
theorem dX1_isBoyOut_28 : decode cX1_isBoyOut 28 = .ok (.ifCond .ge 7, 3) := dk_156 0 7 (dk_at dksX1_isBoyOut_1 5 rfl rfl)
theorem dX1_isBoyOut_31 : decode cX1_isBoyOut 31 = .ok (.iconst 1, 1) := dk_4 (dk_at dksX1_isBoyOut_1 8 rfl rfl)
theorem dX1_isBoyOut_32 : decode cX1_isBoyOut 32 = .ok (.goto 4, 3) := dk_167 0 4 (dk_at dksX1_isBoyOut_1 9 rfl rfl)
theorem dX1_isBoyOut_35 : decode cX1_isBoyOut 35 = .ok (.iconst 0, 1) := dk_3 (dk_at dksX1_isBoyOut_1 12 rfl rfl)
theorem dX1_isBoyOut_36 : decode cX1_isBoyOut 36 = .ok (.ireturn, 1) := dk_172 (dk_at dksX1_isBoyOut_1 13 rfl rfl)
abbrev cX1_isInBed : ByteArray := prog_1_method_42_code
def yX1_isInBed : MethodName := ⟨RX1, "isInBed", "(I)Z"⟩
def dkwX1_isInBed_0 : List UInt8 := [42, 27, 182, 0, 165, 180, 0, 176, 172]
abbrev dktX1_isInBed_0 : List UInt8 := dkwX1_isInBed_0 ++ []
theorem dksX1_isInBed_0 : cX1_isInBed.data.toList.drop 0 = dktX1_isInBed_0 := by decide +kernel
theorem dX1_isInBed_0 : decode cX1_isInBed 0 = .ok (.aload_n 0, 1) := dk_42 (dk_at dksX1_isInBed_0 0 rfl rfl)
theorem dX1_isInBed_1 : decode cX1_isInBed 1 = .ok (.iload_n 1, 1) := dk_27 (dk_at dksX1_isInBed_0 1 rfl rfl)
theorem dX1_isInBed_2 : decode cX1_isInBed 2 = .ok (.invokevirtual 165, 3) := dk_182 0 165 (dk_at dksX1_isInBed_0 2 rfl rfl)
theorem dX1_isInBed_5 : decode cX1_isInBed 5 = .ok (.getfield 176, 3) := dk_180 0 176 (dk_at dksX1_isInBed_0 5 rfl rfl)
theorem dX1_isInBed_8 : decode cX1_isInBed 8 = .ok (.ireturn, 1) := dk_172 (dk_at dksX1_isInBed_0 8 rfl rfl)
abbrev cX1_placeOf : ByteArray := prog_1_method_43_code
def yX1_placeOf : MethodName := ⟨RX1, "placeOf", "(I)I"⟩
def dkwX1_placeOf_1 : List UInt8 := [167, 0, 4, 3, 184, 0, 254, 28, 172]
abbrev dktX1_placeOf_1 : List UInt8 := dkwX1_placeOf_1 ++ []
def dkwX1_placeOf_0 : List UInt8 := [42, 180, 0, 32, 180, 0, 162, 42, 27, 182, 0, 165, 185, 0, 169, 2, 0, 61, 28, 155, 0, 7, 4]
abbrev dktX1_placeOf_0 : List UInt8 := dkwX1_placeOf_0 ++ dktX1_placeOf_1
theorem dksX1_placeOf_0 : cX1_placeOf.data.toList.drop 0 = dktX1_placeOf_0 := by decide +kernel
theorem dksX1_placeOf_1 : cX1_placeOf.data.toList.drop 23 = dktX1_placeOf_1 := dk_seg dksX1_placeOf_0 23 rfl rfl
theorem dX1_placeOf_0 : decode cX1_placeOf 0 = .ok (.aload_n 0, 1) := dk_42 (dk_at dksX1_placeOf_0 0 rfl rfl)
theorem dX1_placeOf_1 : decode cX1_placeOf 1 = .ok (.getfield 32, 3) := dk_180 0 32 (dk_at dksX1_placeOf_0 1 rfl rfl)
theorem dX1_placeOf_4 : decode cX1_placeOf 4 = .ok (.getfield 162, 3) := dk_180 0 162 (dk_at dksX1_placeOf_0 4 rfl rfl)
theorem dX1_placeOf_7 : decode cX1_placeOf 7 = .ok (.aload_n 0, 1) := dk_42 (dk_at dksX1_placeOf_0 7 rfl rfl)
theorem dX1_placeOf_8 : decode cX1_placeOf 8 = .ok (.iload_n 1, 1) := dk_27 (dk_at dksX1_placeOf_0 8 rfl rfl)
theorem dX1_placeOf_9 : decode cX1_placeOf 9 = .ok (.invokevirtual 165, 3) := dk_182 0 165 (dk_at dksX1_placeOf_0 9 rfl rfl)
theorem dX1_placeOf_12 : decode cX1_placeOf 12 = .ok (.invokeinterface 169 2, 5) := by decide +kernel
theorem dX1_placeOf_17 : decode cX1_placeOf 17 = .ok (.istore_n 2, 1) := dk_61 (dk_at dksX1_placeOf_0 17 rfl rfl)
theorem dX1_placeOf_18 : decode cX1_placeOf 18 = .ok (.iload_n 2, 1) := dk_28 (dk_at dksX1_placeOf_0 18 rfl rfl)
theorem dX1_placeOf_19 : decode cX1_placeOf 19 = .ok (.ifCond .lt 7, 3) := dk_155 0 7 (dk_at dksX1_placeOf_0 19 rfl rfl)
theorem dX1_placeOf_22 : decode cX1_placeOf 22 = .ok (.iconst 1, 1) := dk_4 (dk_at dksX1_placeOf_0 22 rfl rfl)
theorem dX1_placeOf_23 : decode cX1_placeOf 23 = .ok (.goto 4, 3) := dk_167 0 4 (dk_at dksX1_placeOf_1 0 rfl rfl)
theorem dX1_placeOf_26 : decode cX1_placeOf 26 = .ok (.iconst 0, 1) := dk_3 (dk_at dksX1_placeOf_1 3 rfl rfl)
theorem dX1_placeOf_27 : decode cX1_placeOf 27 = .ok (.invokestatic 254, 3) := dk_184 0 254 (dk_at dksX1_placeOf_1 4 rfl rfl)
theorem dX1_placeOf_30 : decode cX1_placeOf 30 = .ok (.iload_n 2, 1) := dk_28 (dk_at dksX1_placeOf_1 7 rfl rfl)
theorem dX1_placeOf_31 : decode cX1_placeOf 31 = .ok (.ireturn, 1) := dk_172 (dk_at dksX1_placeOf_1 8 rfl rfl)
abbrev cX1_tripsOf : ByteArray := prog_1_method_44_code
def yX1_tripsOf : MethodName := ⟨RX1, "tripsOf", "(I)I"⟩
def dkwX1_tripsOf_0 : List UInt8 := [42, 27, 182, 0, 165, 180, 1, 2, 172]
abbrev dktX1_tripsOf_0 : List UInt8 := dkwX1_tripsOf_0 ++ []
theorem dksX1_tripsOf_0 : cX1_tripsOf.data.toList.drop 0 = dktX1_tripsOf_0 := by decide +kernel
theorem dX1_tripsOf_0 : decode cX1_tripsOf 0 = .ok (.aload_n 0, 1) := dk_42 (dk_at dksX1_tripsOf_0 0 rfl rfl)
theorem dX1_tripsOf_1 : decode cX1_tripsOf 1 = .ok (.iload_n 1, 1) := dk_27 (dk_at dksX1_tripsOf_0 1 rfl rfl)
theorem dX1_tripsOf_2 : decode cX1_tripsOf 2 = .ok (.invokevirtual 165, 3) := dk_182 0 165 (dk_at dksX1_tripsOf_0 2 rfl rfl)
theorem dX1_tripsOf_5 : decode cX1_tripsOf 5 = .ok (.getfield 258, 3) := dk_180 1 2 (dk_at dksX1_tripsOf_0 5 rfl rfl)
theorem dX1_tripsOf_8 : decode cX1_tripsOf 8 = .ok (.ireturn, 1) := dk_172 (dk_at dksX1_tripsOf_0 8 rfl rfl)
abbrev cX1_nextBoy : ByteArray := prog_1_method_45_code
def yX1_nextBoy : MethodName := ⟨RX1, "nextBoy", "()I"⟩
def dkwX1_nextBoy_1 : List UInt8 := [180, 0, 32, 180, 0, 162, 3, 185, 0, 89, 2, 0, 192, 0, 103, 180, 1, 8, 172]
abbrev dktX1_nextBoy_1 : List UInt8 := dkwX1_nextBoy_1 ++ []
def dkwX1_nextBoy_0 : List UInt8 := [42, 180, 0, 32, 180, 0, 162, 185, 1, 5, 1, 0, 154, 0, 7, 4, 167, 0, 4, 3, 184, 0, 254, 42]
abbrev dktX1_nextBoy_0 : List UInt8 := dkwX1_nextBoy_0 ++ dktX1_nextBoy_1
theorem dksX1_nextBoy_0 : cX1_nextBoy.data.toList.drop 0 = dktX1_nextBoy_0 := by decide +kernel
theorem dksX1_nextBoy_1 : cX1_nextBoy.data.toList.drop 24 = dktX1_nextBoy_1 := dk_seg dksX1_nextBoy_0 24 rfl rfl
theorem dX1_nextBoy_0 : decode cX1_nextBoy 0 = .ok (.aload_n 0, 1) := dk_42 (dk_at dksX1_nextBoy_0 0 rfl rfl)
theorem dX1_nextBoy_1 : decode cX1_nextBoy 1 = .ok (.getfield 32, 3) := dk_180 0 32 (dk_at dksX1_nextBoy_0 1 rfl rfl)
theorem dX1_nextBoy_4 : decode cX1_nextBoy 4 = .ok (.getfield 162, 3) := dk_180 0 162 (dk_at dksX1_nextBoy_0 4 rfl rfl)
theorem dX1_nextBoy_7 : decode cX1_nextBoy 7 = .ok (.invokeinterface 261 1, 5) := by decide +kernel
theorem dX1_nextBoy_12 : decode cX1_nextBoy 12 = .ok (.ifCond .ne 7, 3) := dk_154 0 7 (dk_at dksX1_nextBoy_0 12 rfl rfl)
theorem dX1_nextBoy_15 : decode cX1_nextBoy 15 = .ok (.iconst 1, 1) := dk_4 (dk_at dksX1_nextBoy_0 15 rfl rfl)
theorem dX1_nextBoy_16 : decode cX1_nextBoy 16 = .ok (.goto 4, 3) := dk_167 0 4 (dk_at dksX1_nextBoy_0 16 rfl rfl)
theorem dX1_nextBoy_19 : decode cX1_nextBoy 19 = .ok (.iconst 0, 1) := dk_3 (dk_at dksX1_nextBoy_0 19 rfl rfl)
theorem dX1_nextBoy_20 : decode cX1_nextBoy 20 = .ok (.invokestatic 254, 3) := dk_184 0 254 (dk_at dksX1_nextBoy_0 20 rfl rfl)
theorem dX1_nextBoy_23 : decode cX1_nextBoy 23 = .ok (.aload_n 0, 1) := dk_42 (dk_at dksX1_nextBoy_0 23 rfl rfl)
theorem dX1_nextBoy_24 : decode cX1_nextBoy 24 = .ok (.getfield 32, 3) := dk_180 0 32 (dk_at dksX1_nextBoy_1 0 rfl rfl)
theorem dX1_nextBoy_27 : decode cX1_nextBoy 27 = .ok (.getfield 162, 3) := dk_180 0 162 (dk_at dksX1_nextBoy_1 3 rfl rfl)
theorem dX1_nextBoy_30 : decode cX1_nextBoy 30 = .ok (.iconst 0, 1) := dk_3 (dk_at dksX1_nextBoy_1 6 rfl rfl)
theorem dX1_nextBoy_31 : decode cX1_nextBoy 31 = .ok (.invokeinterface 89 2, 5) := by decide +kernel
theorem dX1_nextBoy_36 : decode cX1_nextBoy 36 = .ok (.checkcast 103, 3) := dk_192 0 103 (dk_at dksX1_nextBoy_1 12 rfl rfl)
theorem dX1_nextBoy_39 : decode cX1_nextBoy 39 = .ok (.getfield 264, 3) := dk_180 1 8 (dk_at dksX1_nextBoy_1 15 rfl rfl)
theorem dX1_nextBoy_42 : decode cX1_nextBoy 42 = .ok (.ireturn, 1) := dk_172 (dk_at dksX1_nextBoy_1 18 rfl rfl)
abbrev cX1_isChaiseOut : ByteArray := prog_1_method_46_code
def yX1_isChaiseOut : MethodName := ⟨RX1, "isChaiseOut", "(I)Z"⟩
def dkwX1_isChaiseOut_0 : List UInt8 := [42, 27, 182, 0, 182, 180, 0, 186, 198, 0, 7, 4, 167, 0, 4, 3, 172]
abbrev dktX1_isChaiseOut_0 : List UInt8 := dkwX1_isChaiseOut_0 ++ []
theorem dksX1_isChaiseOut_0 : cX1_isChaiseOut.data.toList.drop 0 = dktX1_isChaiseOut_0 := by decide +kernel
theorem dX1_isChaiseOut_0 : decode cX1_isChaiseOut 0 = .ok (.aload_n 0, 1) := dk_42 (dk_at dksX1_isChaiseOut_0 0 rfl rfl)
theorem dX1_isChaiseOut_1 : decode cX1_isChaiseOut 1 = .ok (.iload_n 1, 1) := dk_27 (dk_at dksX1_isChaiseOut_0 1 rfl rfl)
theorem dX1_isChaiseOut_2 : decode cX1_isChaiseOut 2 = .ok (.invokevirtual 182, 3) := dk_182 0 182 (dk_at dksX1_isChaiseOut_0 2 rfl rfl)
theorem dX1_isChaiseOut_5 : decode cX1_isChaiseOut 5 = .ok (.getfield 186, 3) := dk_180 0 186 (dk_at dksX1_isChaiseOut_0 5 rfl rfl)
theorem dX1_isChaiseOut_8 : decode cX1_isChaiseOut 8 = .ok (.ifnull 7, 3) := dk_198 0 7 (dk_at dksX1_isChaiseOut_0 8 rfl rfl)
theorem dX1_isChaiseOut_11 : decode cX1_isChaiseOut 11 = .ok (.iconst 1, 1) := dk_4 (dk_at dksX1_isChaiseOut_0 11 rfl rfl)
theorem dX1_isChaiseOut_12 : decode cX1_isChaiseOut 12 = .ok (.goto 4, 3) := dk_167 0 4 (dk_at dksX1_isChaiseOut_0 12 rfl rfl)
theorem dX1_isChaiseOut_15 : decode cX1_isChaiseOut 15 = .ok (.iconst 0, 1) := dk_3 (dk_at dksX1_isChaiseOut_0 15 rfl rfl)
theorem dX1_isChaiseOut_16 : decode cX1_isChaiseOut 16 = .ok (.ireturn, 1) := dk_172 (dk_at dksX1_isChaiseOut_0 16 rfl rfl)
abbrev cX1_isBroken : ByteArray := prog_1_method_47_code
def yX1_isBroken : MethodName := ⟨RX1, "isBroken", "(I)Z"⟩
def dkwX1_isBroken_0 : List UInt8 := [42, 27, 182, 0, 182, 180, 1, 9, 172]
abbrev dktX1_isBroken_0 : List UInt8 := dkwX1_isBroken_0 ++ []
theorem dksX1_isBroken_0 : cX1_isBroken.data.toList.drop 0 = dktX1_isBroken_0 := by decide +kernel
theorem dX1_isBroken_0 : decode cX1_isBroken 0 = .ok (.aload_n 0, 1) := dk_42 (dk_at dksX1_isBroken_0 0 rfl rfl)
theorem dX1_isBroken_1 : decode cX1_isBroken 1 = .ok (.iload_n 1, 1) := dk_27 (dk_at dksX1_isBroken_0 1 rfl rfl)
theorem dX1_isBroken_2 : decode cX1_isBroken 2 = .ok (.invokevirtual 182, 3) := dk_182 0 182 (dk_at dksX1_isBroken_0 2 rfl rfl)
theorem dX1_isBroken_5 : decode cX1_isBroken 5 = .ok (.getfield 265, 3) := dk_180 1 9 (dk_at dksX1_isBroken_0 5 rfl rfl)
theorem dX1_isBroken_8 : decode cX1_isBroken 8 = .ok (.ireturn, 1) := dk_172 (dk_at dksX1_isBroken_0 8 rfl rfl)
abbrev cX1_wearOf : ByteArray := prog_1_method_48_code
def yX1_wearOf : MethodName := ⟨RX1, "wearOf", "(I)I"⟩
def dkwX1_wearOf_0 : List UInt8 := [42, 27, 182, 0, 182, 180, 1, 12, 172]
abbrev dktX1_wearOf_0 : List UInt8 := dkwX1_wearOf_0 ++ []
theorem dksX1_wearOf_0 : cX1_wearOf.data.toList.drop 0 = dktX1_wearOf_0 := by decide +kernel
theorem dX1_wearOf_0 : decode cX1_wearOf 0 = .ok (.aload_n 0, 1) := dk_42 (dk_at dksX1_wearOf_0 0 rfl rfl)
theorem dX1_wearOf_1 : decode cX1_wearOf 1 = .ok (.iload_n 1, 1) := dk_27 (dk_at dksX1_wearOf_0 1 rfl rfl)
theorem dX1_wearOf_2 : decode cX1_wearOf 2 = .ok (.invokevirtual 182, 3) := dk_182 0 182 (dk_at dksX1_wearOf_0 2 rfl rfl)
theorem dX1_wearOf_5 : decode cX1_wearOf 5 = .ok (.getfield 268, 3) := dk_180 1 12 (dk_at dksX1_wearOf_0 5 rfl rfl)
theorem dX1_wearOf_8 : decode cX1_wearOf 8 = .ok (.ireturn, 1) := dk_172 (dk_at dksX1_wearOf_0 8 rfl rfl)
abbrev cX1_milesOfChaise : ByteArray := prog_1_method_49_code
def yX1_milesOfChaise : MethodName := ⟨RX1, "milesOfChaise", "(I)I"⟩
def dkwX1_milesOfChaise_0 : List UInt8 := [42, 27, 182, 0, 182, 180, 1, 15, 172]
abbrev dktX1_milesOfChaise_0 : List UInt8 := dkwX1_milesOfChaise_0 ++ []
theorem dksX1_milesOfChaise_0 : cX1_milesOfChaise.data.toList.drop 0 = dktX1_milesOfChaise_0 := by decide +kernel
theorem dX1_milesOfChaise_0 : decode cX1_milesOfChaise 0 = .ok (.aload_n 0, 1) := dk_42 (dk_at dksX1_milesOfChaise_0 0 rfl rfl)
theorem dX1_milesOfChaise_1 : decode cX1_milesOfChaise 1 = .ok (.iload_n 1, 1) := dk_27 (dk_at dksX1_milesOfChaise_0 1 rfl rfl)
theorem dX1_milesOfChaise_2 : decode cX1_milesOfChaise 2 = .ok (.invokevirtual 182, 3) := dk_182 0 182 (dk_at dksX1_milesOfChaise_0 2 rfl rfl)
theorem dX1_milesOfChaise_5 : decode cX1_milesOfChaise 5 = .ok (.getfield 271, 3) := dk_180 1 15 (dk_at dksX1_milesOfChaise_0 5 rfl rfl)
theorem dX1_milesOfChaise_8 : decode cX1_milesOfChaise 8 = .ok (.ireturn, 1) := dk_172 (dk_at dksX1_milesOfChaise_0 8 rfl rfl)
abbrev cX1_guestOf : ByteArray := prog_1_method_50_code
def yX1_guestOf : MethodName := ⟨RX1, "guestOf", "(I)I"⟩
def dkwX1_guestOf_1 : List UInt8 := [180, 1, 16, 180, 0, 216, 172]
abbrev dktX1_guestOf_1 : List UInt8 := dkwX1_guestOf_1 ++ []
def dkwX1_guestOf_0 : List UInt8 := [42, 27, 182, 0, 182, 180, 0, 186, 77, 44, 198, 0, 7, 4, 167, 0, 4, 3, 184, 0, 254, 44]
abbrev dktX1_guestOf_0 : List UInt8 := dkwX1_guestOf_0 ++ dktX1_guestOf_1
theorem dksX1_guestOf_0 : cX1_guestOf.data.toList.drop 0 = dktX1_guestOf_0 := by decide +kernel
theorem dksX1_guestOf_1 : cX1_guestOf.data.toList.drop 22 = dktX1_guestOf_1 := dk_seg dksX1_guestOf_0 22 rfl rfl
theorem dX1_guestOf_0 : decode cX1_guestOf 0 = .ok (.aload_n 0, 1) := dk_42 (dk_at dksX1_guestOf_0 0 rfl rfl)
theorem dX1_guestOf_1 : decode cX1_guestOf 1 = .ok (.iload_n 1, 1) := dk_27 (dk_at dksX1_guestOf_0 1 rfl rfl)
theorem dX1_guestOf_2 : decode cX1_guestOf 2 = .ok (.invokevirtual 182, 3) := dk_182 0 182 (dk_at dksX1_guestOf_0 2 rfl rfl)
theorem dX1_guestOf_5 : decode cX1_guestOf 5 = .ok (.getfield 186, 3) := dk_180 0 186 (dk_at dksX1_guestOf_0 5 rfl rfl)
theorem dX1_guestOf_8 : decode cX1_guestOf 8 = .ok (.astore_n 2, 1) := dk_77 (dk_at dksX1_guestOf_0 8 rfl rfl)
theorem dX1_guestOf_9 : decode cX1_guestOf 9 = .ok (.aload_n 2, 1) := dk_44 (dk_at dksX1_guestOf_0 9 rfl rfl)
theorem dX1_guestOf_10 : decode cX1_guestOf 10 = .ok (.ifnull 7, 3) := dk_198 0 7 (dk_at dksX1_guestOf_0 10 rfl rfl)
theorem dX1_guestOf_13 : decode cX1_guestOf 13 = .ok (.iconst 1, 1) := dk_4 (dk_at dksX1_guestOf_0 13 rfl rfl)
theorem dX1_guestOf_14 : decode cX1_guestOf 14 = .ok (.goto 4, 3) := dk_167 0 4 (dk_at dksX1_guestOf_0 14 rfl rfl)
theorem dX1_guestOf_17 : decode cX1_guestOf 17 = .ok (.iconst 0, 1) := dk_3 (dk_at dksX1_guestOf_0 17 rfl rfl)
theorem dX1_guestOf_18 : decode cX1_guestOf 18 = .ok (.invokestatic 254, 3) := dk_184 0 254 (dk_at dksX1_guestOf_0 18 rfl rfl)
theorem dX1_guestOf_21 : decode cX1_guestOf 21 = .ok (.aload_n 2, 1) := dk_44 (dk_at dksX1_guestOf_0 21 rfl rfl)
theorem dX1_guestOf_22 : decode cX1_guestOf 22 = .ok (.getfield 272, 3) := dk_180 1 16 (dk_at dksX1_guestOf_1 0 rfl rfl)
theorem dX1_guestOf_25 : decode cX1_guestOf 25 = .ok (.getfield 216, 3) := dk_180 0 216 (dk_at dksX1_guestOf_1 3 rfl rfl)
theorem dX1_guestOf_28 : decode cX1_guestOf 28 = .ok (.ireturn, 1) := dk_172 (dk_at dksX1_guestOf_1 6 rfl rfl)
abbrev cX1_quartersLeft : ByteArray := prog_1_method_51_code
def yX1_quartersLeft : MethodName := ⟨RX1, "quartersLeft", "(I)I"⟩
def dkwX1_quartersLeft_1 : List UInt8 := [180, 1, 21, 172]
abbrev dktX1_quartersLeft_1 : List UInt8 := dkwX1_quartersLeft_1 ++ []
def dkwX1_quartersLeft_0 : List UInt8 := [42, 27, 182, 0, 182, 180, 0, 186, 77, 44, 198, 0, 7, 4, 167, 0, 4, 3, 184, 0, 254, 44]
abbrev dktX1_quartersLeft_0 : List UInt8 := dkwX1_quartersLeft_0 ++ dktX1_quartersLeft_1
theorem dksX1_quartersLeft_0 : cX1_quartersLeft.data.toList.drop 0 = dktX1_quartersLeft_0 := by decide +kernel
theorem dksX1_quartersLeft_1 : cX1_quartersLeft.data.toList.drop 22 = dktX1_quartersLeft_1 := dk_seg dksX1_quartersLeft_0 22 rfl rfl
theorem dX1_quartersLeft_0 : decode cX1_quartersLeft 0 = .ok (.aload_n 0, 1) := dk_42 (dk_at dksX1_quartersLeft_0 0 rfl rfl)
theorem dX1_quartersLeft_1 : decode cX1_quartersLeft 1 = .ok (.iload_n 1, 1) := dk_27 (dk_at dksX1_quartersLeft_0 1 rfl rfl)
theorem dX1_quartersLeft_2 : decode cX1_quartersLeft 2 = .ok (.invokevirtual 182, 3) := dk_182 0 182 (dk_at dksX1_quartersLeft_0 2 rfl rfl)
theorem dX1_quartersLeft_5 : decode cX1_quartersLeft 5 = .ok (.getfield 186, 3) := dk_180 0 186 (dk_at dksX1_quartersLeft_0 5 rfl rfl)
theorem dX1_quartersLeft_8 : decode cX1_quartersLeft 8 = .ok (.astore_n 2, 1) := dk_77 (dk_at dksX1_quartersLeft_0 8 rfl rfl)
theorem dX1_quartersLeft_9 : decode cX1_quartersLeft 9 = .ok (.aload_n 2, 1) := dk_44 (dk_at dksX1_quartersLeft_0 9 rfl rfl)
theorem dX1_quartersLeft_10 : decode cX1_quartersLeft 10 = .ok (.ifnull 7, 3) := dk_198 0 7 (dk_at dksX1_quartersLeft_0 10 rfl rfl)
theorem dX1_quartersLeft_13 : decode cX1_quartersLeft 13 = .ok (.iconst 1, 1) := dk_4 (dk_at dksX1_quartersLeft_0 13 rfl rfl)
theorem dX1_quartersLeft_14 : decode cX1_quartersLeft 14 = .ok (.goto 4, 3) := dk_167 0 4 (dk_at dksX1_quartersLeft_0 14 rfl rfl)
theorem dX1_quartersLeft_17 : decode cX1_quartersLeft 17 = .ok (.iconst 0, 1) := dk_3 (dk_at dksX1_quartersLeft_0 17 rfl rfl)
theorem dX1_quartersLeft_18 : decode cX1_quartersLeft 18 = .ok (.invokestatic 254, 3) := dk_184 0 254 (dk_at dksX1_quartersLeft_0 18 rfl rfl)
theorem dX1_quartersLeft_21 : decode cX1_quartersLeft 21 = .ok (.aload_n 2, 1) := dk_44 (dk_at dksX1_quartersLeft_0 21 rfl rfl)
theorem dX1_quartersLeft_22 : decode cX1_quartersLeft 22 = .ok (.getfield 277, 3) := dk_180 1 21 (dk_at dksX1_quartersLeft_1 0 rfl rfl)
theorem dX1_quartersLeft_25 : decode cX1_quartersLeft 25 = .ok (.ireturn, 1) := dk_172 (dk_at dksX1_quartersLeft_1 3 rfl rfl)
abbrev cX1_nextChaise : ByteArray := prog_1_method_52_code
def yX1_nextChaise : MethodName := ⟨RX1, "nextChaise", "()I"⟩
def dkwX1_nextChaise_1 : List UInt8 := [172]
abbrev dktX1_nextChaise_1 : List UInt8 := dkwX1_nextChaise_1 ++ []
def dkwX1_nextChaise_0 : List UInt8 := [42, 180, 0, 32, 182, 1, 24, 76, 43, 198, 0, 7, 4, 167, 0, 4, 3, 184, 0, 254, 43, 180, 1, 28]
abbrev dktX1_nextChaise_0 : List UInt8 := dkwX1_nextChaise_0 ++ dktX1_nextChaise_1
theorem dksX1_nextChaise_0 : cX1_nextChaise.data.toList.drop 0 = dktX1_nextChaise_0 := by decide +kernel
theorem dksX1_nextChaise_1 : cX1_nextChaise.data.toList.drop 24 = dktX1_nextChaise_1 := dk_seg dksX1_nextChaise_0 24 rfl rfl
theorem dX1_nextChaise_0 : decode cX1_nextChaise 0 = .ok (.aload_n 0, 1) := dk_42 (dk_at dksX1_nextChaise_0 0 rfl rfl)
theorem dX1_nextChaise_1 : decode cX1_nextChaise 1 = .ok (.getfield 32, 3) := dk_180 0 32 (dk_at dksX1_nextChaise_0 1 rfl rfl)
theorem dX1_nextChaise_4 : decode cX1_nextChaise 4 = .ok (.invokevirtual 280, 3) := dk_182 1 24 (dk_at dksX1_nextChaise_0 4 rfl rfl)
theorem dX1_nextChaise_7 : decode cX1_nextChaise 7 = .ok (.astore_n 1, 1) := dk_76 (dk_at dksX1_nextChaise_0 7 rfl rfl)
theorem dX1_nextChaise_8 : decode cX1_nextChaise 8 = .ok (.aload_n 1, 1) := dk_43 (dk_at dksX1_nextChaise_0 8 rfl rfl)
theorem dX1_nextChaise_9 : decode cX1_nextChaise 9 = .ok (.ifnull 7, 3) := dk_198 0 7 (dk_at dksX1_nextChaise_0 9 rfl rfl)
theorem dX1_nextChaise_12 : decode cX1_nextChaise 12 = .ok (.iconst 1, 1) := dk_4 (dk_at dksX1_nextChaise_0 12 rfl rfl)
theorem dX1_nextChaise_13 : decode cX1_nextChaise 13 = .ok (.goto 4, 3) := dk_167 0 4 (dk_at dksX1_nextChaise_0 13 rfl rfl)
theorem dX1_nextChaise_16 : decode cX1_nextChaise 16 = .ok (.iconst 0, 1) := dk_3 (dk_at dksX1_nextChaise_0 16 rfl rfl)
theorem dX1_nextChaise_17 : decode cX1_nextChaise 17 = .ok (.invokestatic 254, 3) := dk_184 0 254 (dk_at dksX1_nextChaise_0 17 rfl rfl)
theorem dX1_nextChaise_20 : decode cX1_nextChaise 20 = .ok (.aload_n 1, 1) := dk_43 (dk_at dksX1_nextChaise_0 20 rfl rfl)
theorem dX1_nextChaise_21 : decode cX1_nextChaise 21 = .ok (.getfield 284, 3) := dk_180 1 28 (dk_at dksX1_nextChaise_0 21 rfl rfl)
theorem dX1_nextChaise_24 : decode cX1_nextChaise 24 = .ok (.ireturn, 1) := dk_172 (dk_at dksX1_nextChaise_1 0 rfl rfl)
abbrev cX1_chaiseInRepair : ByteArray := prog_1_method_53_code
def yX1_chaiseInRepair : MethodName := ⟨RX1, "chaiseInRepair", "()I"⟩
def dkwX1_chaiseInRepair_1 : List UInt8 := [180, 1, 29, 180, 1, 28, 172]
abbrev dktX1_chaiseInRepair_1 : List UInt8 := dkwX1_chaiseInRepair_1 ++ []
def dkwX1_chaiseInRepair_0 : List UInt8 := [42, 180, 0, 32, 180, 1, 29, 198, 0, 7, 4, 167, 0, 4, 3, 184, 0, 254, 42, 180, 0, 32]
abbrev dktX1_chaiseInRepair_0 : List UInt8 := dkwX1_chaiseInRepair_0 ++ dktX1_chaiseInRepair_1
theorem dksX1_chaiseInRepair_0 : cX1_chaiseInRepair.data.toList.drop 0 = dktX1_chaiseInRepair_0 := by decide +kernel
theorem dksX1_chaiseInRepair_1 : cX1_chaiseInRepair.data.toList.drop 22 = dktX1_chaiseInRepair_1 := dk_seg dksX1_chaiseInRepair_0 22 rfl rfl
theorem dX1_chaiseInRepair_0 : decode cX1_chaiseInRepair 0 = .ok (.aload_n 0, 1) := dk_42 (dk_at dksX1_chaiseInRepair_0 0 rfl rfl)
theorem dX1_chaiseInRepair_1 : decode cX1_chaiseInRepair 1 = .ok (.getfield 32, 3) := dk_180 0 32 (dk_at dksX1_chaiseInRepair_0 1 rfl rfl)
theorem dX1_chaiseInRepair_4 : decode cX1_chaiseInRepair 4 = .ok (.getfield 285, 3) := dk_180 1 29 (dk_at dksX1_chaiseInRepair_0 4 rfl rfl)
theorem dX1_chaiseInRepair_7 : decode cX1_chaiseInRepair 7 = .ok (.ifnull 7, 3) := dk_198 0 7 (dk_at dksX1_chaiseInRepair_0 7 rfl rfl)
theorem dX1_chaiseInRepair_10 : decode cX1_chaiseInRepair 10 = .ok (.iconst 1, 1) := dk_4 (dk_at dksX1_chaiseInRepair_0 10 rfl rfl)
theorem dX1_chaiseInRepair_11 : decode cX1_chaiseInRepair 11 = .ok (.goto 4, 3) := dk_167 0 4 (dk_at dksX1_chaiseInRepair_0 11 rfl rfl)
theorem dX1_chaiseInRepair_14 : decode cX1_chaiseInRepair 14 = .ok (.iconst 0, 1) := dk_3 (dk_at dksX1_chaiseInRepair_0 14 rfl rfl)
theorem dX1_chaiseInRepair_15 : decode cX1_chaiseInRepair 15 = .ok (.invokestatic 254, 3) := dk_184 0 254 (dk_at dksX1_chaiseInRepair_0 15 rfl rfl)
theorem dX1_chaiseInRepair_18 : decode cX1_chaiseInRepair 18 = .ok (.aload_n 0, 1) := dk_42 (dk_at dksX1_chaiseInRepair_0 18 rfl rfl)
theorem dX1_chaiseInRepair_19 : decode cX1_chaiseInRepair 19 = .ok (.getfield 32, 3) := dk_180 0 32 (dk_at dksX1_chaiseInRepair_0 19 rfl rfl)
theorem dX1_chaiseInRepair_22 : decode cX1_chaiseInRepair 22 = .ok (.getfield 285, 3) := dk_180 1 29 (dk_at dksX1_chaiseInRepair_1 0 rfl rfl)
theorem dX1_chaiseInRepair_25 : decode cX1_chaiseInRepair 25 = .ok (.getfield 284, 3) := dk_180 1 28 (dk_at dksX1_chaiseInRepair_1 3 rfl rfl)
theorem dX1_chaiseInRepair_28 : decode cX1_chaiseInRepair 28 = .ok (.ireturn, 1) := dk_172 (dk_at dksX1_chaiseInRepair_1 6 rfl rfl)
abbrev cX1_repairLeft : ByteArray := prog_1_method_54_code
def yX1_repairLeft : MethodName := ⟨RX1, "repairLeft", "()I"⟩
def dkwX1_repairLeft_1 : List UInt8 := [180, 1, 33, 172]
abbrev dktX1_repairLeft_1 : List UInt8 := dkwX1_repairLeft_1 ++ []
def dkwX1_repairLeft_0 : List UInt8 := [42, 180, 0, 32, 180, 1, 29, 198, 0, 7, 4, 167, 0, 4, 3, 184, 0, 254, 42, 180, 0, 32]
abbrev dktX1_repairLeft_0 : List UInt8 := dkwX1_repairLeft_0 ++ dktX1_repairLeft_1
theorem dksX1_repairLeft_0 : cX1_repairLeft.data.toList.drop 0 = dktX1_repairLeft_0 := by decide +kernel
theorem dksX1_repairLeft_1 : cX1_repairLeft.data.toList.drop 22 = dktX1_repairLeft_1 := dk_seg dksX1_repairLeft_0 22 rfl rfl
theorem dX1_repairLeft_0 : decode cX1_repairLeft 0 = .ok (.aload_n 0, 1) := dk_42 (dk_at dksX1_repairLeft_0 0 rfl rfl)
theorem dX1_repairLeft_1 : decode cX1_repairLeft 1 = .ok (.getfield 32, 3) := dk_180 0 32 (dk_at dksX1_repairLeft_0 1 rfl rfl)
theorem dX1_repairLeft_4 : decode cX1_repairLeft 4 = .ok (.getfield 285, 3) := dk_180 1 29 (dk_at dksX1_repairLeft_0 4 rfl rfl)
theorem dX1_repairLeft_7 : decode cX1_repairLeft 7 = .ok (.ifnull 7, 3) := dk_198 0 7 (dk_at dksX1_repairLeft_0 7 rfl rfl)
theorem dX1_repairLeft_10 : decode cX1_repairLeft 10 = .ok (.iconst 1, 1) := dk_4 (dk_at dksX1_repairLeft_0 10 rfl rfl)
theorem dX1_repairLeft_11 : decode cX1_repairLeft 11 = .ok (.goto 4, 3) := dk_167 0 4 (dk_at dksX1_repairLeft_0 11 rfl rfl)
theorem dX1_repairLeft_14 : decode cX1_repairLeft 14 = .ok (.iconst 0, 1) := dk_3 (dk_at dksX1_repairLeft_0 14 rfl rfl)
theorem dX1_repairLeft_15 : decode cX1_repairLeft 15 = .ok (.invokestatic 254, 3) := dk_184 0 254 (dk_at dksX1_repairLeft_0 15 rfl rfl)
theorem dX1_repairLeft_18 : decode cX1_repairLeft 18 = .ok (.aload_n 0, 1) := dk_42 (dk_at dksX1_repairLeft_0 18 rfl rfl)
theorem dX1_repairLeft_19 : decode cX1_repairLeft 19 = .ok (.getfield 32, 3) := dk_180 0 32 (dk_at dksX1_repairLeft_0 19 rfl rfl)
theorem dX1_repairLeft_22 : decode cX1_repairLeft 22 = .ok (.getfield 289, 3) := dk_180 1 33 (dk_at dksX1_repairLeft_1 0 rfl rfl)
theorem dX1_repairLeft_25 : decode cX1_repairLeft 25 = .ok (.ireturn, 1) := dk_172 (dk_at dksX1_repairLeft_1 3 rfl rfl)
abbrev cX1_quartersToArrival : ByteArray := prog_1_method_56_code
def yX1_quartersToArrival : MethodName := ⟨RX1, "quartersToArrival", "(I)I"⟩
def dkwX1_quartersToArrival_3 : List UInt8 := [167, 255, 228, 21, 4, 17, 1, 44, 163, 0, 7, 4, 167, 0, 4, 3, 184, 0, 254, 21, 4, 172]
abbrev dktX1_quartersToArrival_3 : List UInt8 := dkwX1_quartersToArrival_3 ++ []
def dkwX1_quartersToArrival_2 : List UInt8 := [50, 178, 0, 222, 165, 0, 22, 21, 4, 17, 1, 44, 163, 0, 14, 45, 182, 1, 39, 87, 132, 4, 1]
abbrev dktX1_quartersToArrival_2 : List UInt8 := dkwX1_quartersToArrival_2 ++ dktX1_quartersToArrival_3
def dkwX1_quartersToArrival_1 : List UInt8 := [4, 167, 0, 4, 3, 184, 0, 254, 42, 180, 0, 32, 182, 0, 58, 78, 3, 54, 4, 45, 180, 0, 212, 28]
abbrev dktX1_quartersToArrival_1 : List UInt8 := dkwX1_quartersToArrival_1 ++ dktX1_quartersToArrival_2
def dkwX1_quartersToArrival_0 : List UInt8 := [42, 27, 182, 0, 202, 180, 0, 216, 61, 42, 180, 0, 32, 180, 0, 212, 28, 50, 178, 0, 225, 165, 0, 7]
abbrev dktX1_quartersToArrival_0 : List UInt8 := dkwX1_quartersToArrival_0 ++ dktX1_quartersToArrival_1
theorem dksX1_quartersToArrival_0 : cX1_quartersToArrival.data.toList.drop 0 = dktX1_quartersToArrival_0 := by decide +kernel
theorem dksX1_quartersToArrival_1 : cX1_quartersToArrival.data.toList.drop 24 = dktX1_quartersToArrival_1 := dk_seg dksX1_quartersToArrival_0 24 rfl rfl
theorem dksX1_quartersToArrival_2 : cX1_quartersToArrival.data.toList.drop 48 = dktX1_quartersToArrival_2 := dk_seg dksX1_quartersToArrival_1 24 rfl rfl
theorem dksX1_quartersToArrival_3 : cX1_quartersToArrival.data.toList.drop 71 = dktX1_quartersToArrival_3 := dk_seg dksX1_quartersToArrival_2 23 rfl rfl
theorem dX1_quartersToArrival_0 : decode cX1_quartersToArrival 0 = .ok (.aload_n 0, 1) := dk_42 (dk_at dksX1_quartersToArrival_0 0 rfl rfl)
theorem dX1_quartersToArrival_1 : decode cX1_quartersToArrival 1 = .ok (.iload_n 1, 1) := dk_27 (dk_at dksX1_quartersToArrival_0 1 rfl rfl)
theorem dX1_quartersToArrival_2 : decode cX1_quartersToArrival 2 = .ok (.invokevirtual 202, 3) := dk_182 0 202 (dk_at dksX1_quartersToArrival_0 2 rfl rfl)
theorem dX1_quartersToArrival_5 : decode cX1_quartersToArrival 5 = .ok (.getfield 216, 3) := dk_180 0 216 (dk_at dksX1_quartersToArrival_0 5 rfl rfl)
theorem dX1_quartersToArrival_8 : decode cX1_quartersToArrival 8 = .ok (.istore_n 2, 1) := dk_61 (dk_at dksX1_quartersToArrival_0 8 rfl rfl)
theorem dX1_quartersToArrival_9 : decode cX1_quartersToArrival 9 = .ok (.aload_n 0, 1) := dk_42 (dk_at dksX1_quartersToArrival_0 9 rfl rfl)
theorem dX1_quartersToArrival_10 : decode cX1_quartersToArrival 10 = .ok (.getfield 32, 3) := dk_180 0 32 (dk_at dksX1_quartersToArrival_0 10 rfl rfl)
theorem dX1_quartersToArrival_13 : decode cX1_quartersToArrival 13 = .ok (.getfield 212, 3) := dk_180 0 212 (dk_at dksX1_quartersToArrival_0 13 rfl rfl)
theorem dX1_quartersToArrival_16 : decode cX1_quartersToArrival 16 = .ok (.iload_n 2, 1) := dk_28 (dk_at dksX1_quartersToArrival_0 16 rfl rfl)
theorem dX1_quartersToArrival_17 : decode cX1_quartersToArrival 17 = .ok (.aaload, 1) := dk_50 (dk_at dksX1_quartersToArrival_0 17 rfl rfl)
theorem dX1_quartersToArrival_18 : decode cX1_quartersToArrival 18 = .ok (.getstatic 225, 3) := dk_178 0 225 (dk_at dksX1_quartersToArrival_0 18 rfl rfl)
theorem dX1_quartersToArrival_21 : decode cX1_quartersToArrival 21 = .ok (.if_acmp .eq 7, 3) := dk_165 0 7 (dk_at dksX1_quartersToArrival_0 21 rfl rfl)
theorem dX1_quartersToArrival_24 : decode cX1_quartersToArrival 24 = .ok (.iconst 1, 1) := dk_4 (dk_at dksX1_quartersToArrival_1 0 rfl rfl)
theorem dX1_quartersToArrival_25 : decode cX1_quartersToArrival 25 = .ok (.goto 4, 3) := dk_167 0 4 (dk_at dksX1_quartersToArrival_1 1 rfl rfl)
theorem dX1_quartersToArrival_28 : decode cX1_quartersToArrival 28 = .ok (.iconst 0, 1) := dk_3 (dk_at dksX1_quartersToArrival_1 4 rfl rfl)
theorem dX1_quartersToArrival_29 : decode cX1_quartersToArrival 29 = .ok (.invokestatic 254, 3) := dk_184 0 254 (dk_at dksX1_quartersToArrival_1 5 rfl rfl)
theorem dX1_quartersToArrival_32 : decode cX1_quartersToArrival 32 = .ok (.aload_n 0, 1) := dk_42 (dk_at dksX1_quartersToArrival_1 8 rfl rfl)
theorem dX1_quartersToArrival_33 : decode cX1_quartersToArrival 33 = .ok (.getfield 32, 3) := dk_180 0 32 (dk_at dksX1_quartersToArrival_1 9 rfl rfl)
theorem dX1_quartersToArrival_36 : decode cX1_quartersToArrival 36 = .ok (.invokevirtual 58, 3) := dk_182 0 58 (dk_at dksX1_quartersToArrival_1 12 rfl rfl)
theorem dX1_quartersToArrival_39 : decode cX1_quartersToArrival 39 = .ok (.astore_n 3, 1) := dk_78 (dk_at dksX1_quartersToArrival_1 15 rfl rfl)
theorem dX1_quartersToArrival_40 : decode cX1_quartersToArrival 40 = .ok (.iconst 0, 1) := dk_3 (dk_at dksX1_quartersToArrival_1 16 rfl rfl)
theorem dX1_quartersToArrival_41 : decode cX1_quartersToArrival 41 = .ok (.istore 4, 2) := dk_54 4 (dk_at dksX1_quartersToArrival_1 17 rfl rfl)
theorem dX1_quartersToArrival_43 : decode cX1_quartersToArrival 43 = .ok (.aload_n 3, 1) := dk_45 (dk_at dksX1_quartersToArrival_1 19 rfl rfl)
theorem dX1_quartersToArrival_44 : decode cX1_quartersToArrival 44 = .ok (.getfield 212, 3) := dk_180 0 212 (dk_at dksX1_quartersToArrival_1 20 rfl rfl)
theorem dX1_quartersToArrival_47 : decode cX1_quartersToArrival 47 = .ok (.iload_n 2, 1) := dk_28 (dk_at dksX1_quartersToArrival_1 23 rfl rfl)
theorem dX1_quartersToArrival_48 : decode cX1_quartersToArrival 48 = .ok (.aaload, 1) := dk_50 (dk_at dksX1_quartersToArrival_2 0 rfl rfl)
theorem dX1_quartersToArrival_49 : decode cX1_quartersToArrival 49 = .ok (.getstatic 222, 3) := dk_178 0 222 (dk_at dksX1_quartersToArrival_2 1 rfl rfl)
theorem dX1_quartersToArrival_52 : decode cX1_quartersToArrival 52 = .ok (.if_acmp .eq 22, 3) := dk_165 0 22 (dk_at dksX1_quartersToArrival_2 4 rfl rfl)
theorem dX1_quartersToArrival_55 : decode cX1_quartersToArrival 55 = .ok (.iload 4, 2) := dk_21 4 (dk_at dksX1_quartersToArrival_2 7 rfl rfl)
theorem dX1_quartersToArrival_57 : decode cX1_quartersToArrival 57 = .ok (.sipush 300, 3) := dk_17 1 44 (dk_at dksX1_quartersToArrival_2 9 rfl rfl)
theorem dX1_quartersToArrival_60 : decode cX1_quartersToArrival 60 = .ok (.if_icmp .gt 14, 3) := dk_163 0 14 (dk_at dksX1_quartersToArrival_2 12 rfl rfl)
theorem dX1_quartersToArrival_63 : decode cX1_quartersToArrival 63 = .ok (.aload_n 3, 1) := dk_45 (dk_at dksX1_quartersToArrival_2 15 rfl rfl)
theorem dX1_quartersToArrival_64 : decode cX1_quartersToArrival 64 = .ok (.invokevirtual 295, 3) := dk_182 1 39 (dk_at dksX1_quartersToArrival_2 16 rfl rfl)
theorem dX1_quartersToArrival_67 : decode cX1_quartersToArrival 67 = .ok (.pop, 1) := dk_87 (dk_at dksX1_quartersToArrival_2 19 rfl rfl)
theorem dX1_quartersToArrival_68 : decode cX1_quartersToArrival 68 = .ok (.iinc 4 1, 3) := dk_132 4 1 (dk_at dksX1_quartersToArrival_2 20 rfl rfl)
theorem dX1_quartersToArrival_71 : decode cX1_quartersToArrival 71 = .ok (.goto (-28), 3) := dk_167 255 228 (dk_at dksX1_quartersToArrival_3 0 rfl rfl)
theorem dX1_quartersToArrival_74 : decode cX1_quartersToArrival 74 = .ok (.iload 4, 2) := dk_21 4 (dk_at dksX1_quartersToArrival_3 3 rfl rfl)
theorem dX1_quartersToArrival_76 : decode cX1_quartersToArrival 76 = .ok (.sipush 300, 3) := dk_17 1 44 (dk_at dksX1_quartersToArrival_3 5 rfl rfl)
theorem dX1_quartersToArrival_79 : decode cX1_quartersToArrival 79 = .ok (.if_icmp .gt 7, 3) := dk_163 0 7 (dk_at dksX1_quartersToArrival_3 8 rfl rfl)
theorem dX1_quartersToArrival_82 : decode cX1_quartersToArrival 82 = .ok (.iconst 1, 1) := dk_4 (dk_at dksX1_quartersToArrival_3 11 rfl rfl)
theorem dX1_quartersToArrival_83 : decode cX1_quartersToArrival 83 = .ok (.goto 4, 3) := dk_167 0 4 (dk_at dksX1_quartersToArrival_3 12 rfl rfl)
theorem dX1_quartersToArrival_86 : decode cX1_quartersToArrival 86 = .ok (.iconst 0, 1) := dk_3 (dk_at dksX1_quartersToArrival_3 15 rfl rfl)
theorem dX1_quartersToArrival_87 : decode cX1_quartersToArrival 87 = .ok (.invokestatic 254, 3) := dk_184 0 254 (dk_at dksX1_quartersToArrival_3 16 rfl rfl)
theorem dX1_quartersToArrival_90 : decode cX1_quartersToArrival 90 = .ok (.iload 4, 2) := dk_21 4 (dk_at dksX1_quartersToArrival_3 19 rfl rfl)
theorem dX1_quartersToArrival_92 : decode cX1_quartersToArrival 92 = .ok (.ireturn, 1) := dk_172 (dk_at dksX1_quartersToArrival_3 21 rfl rfl)
abbrev cX1_departuresIn : ByteArray := prog_1_method_57_code
def yX1_departuresIn : MethodName := ⟨RX1, "departuresIn", "(I)I"⟩
def dkwX1_departuresIn_0 : List UInt8 := [27, 4, 16, 99, 184, 0, 110, 42, 180, 0, 32, 182, 0, 58, 27, 182, 0, 147, 172]
abbrev dktX1_departuresIn_0 : List UInt8 := dkwX1_departuresIn_0 ++ []
theorem dksX1_departuresIn_0 : cX1_departuresIn.data.toList.drop 0 = dktX1_departuresIn_0 := by decide +kernel
theorem dX1_departuresIn_0 : decode cX1_departuresIn 0 = .ok (.iload_n 1, 1) := dk_27 (dk_at dksX1_departuresIn_0 0 rfl rfl)
theorem dX1_departuresIn_1 : decode cX1_departuresIn 1 = .ok (.iconst 1, 1) := dk_4 (dk_at dksX1_departuresIn_0 1 rfl rfl)
theorem dX1_departuresIn_2 : decode cX1_departuresIn 2 = .ok (.bipush 99, 2) := dk_16 99 (dk_at dksX1_departuresIn_0 2 rfl rfl)
theorem dX1_departuresIn_4 : decode cX1_departuresIn 4 = .ok (.invokestatic 110, 3) := dk_184 0 110 (dk_at dksX1_departuresIn_0 4 rfl rfl)
theorem dX1_departuresIn_7 : decode cX1_departuresIn 7 = .ok (.aload_n 0, 1) := dk_42 (dk_at dksX1_departuresIn_0 7 rfl rfl)
theorem dX1_departuresIn_8 : decode cX1_departuresIn 8 = .ok (.getfield 32, 3) := dk_180 0 32 (dk_at dksX1_departuresIn_0 8 rfl rfl)
theorem dX1_departuresIn_11 : decode cX1_departuresIn 11 = .ok (.invokevirtual 58, 3) := dk_182 0 58 (dk_at dksX1_departuresIn_0 11 rfl rfl)
theorem dX1_departuresIn_14 : decode cX1_departuresIn 14 = .ok (.iload_n 1, 1) := dk_27 (dk_at dksX1_departuresIn_0 14 rfl rfl)
theorem dX1_departuresIn_15 : decode cX1_departuresIn 15 = .ok (.invokevirtual 147, 3) := dk_182 0 147 (dk_at dksX1_departuresIn_0 15 rfl rfl)
theorem dX1_departuresIn_18 : decode cX1_departuresIn 18 = .ok (.ireturn, 1) := dk_172 (dk_at dksX1_departuresIn_0 18 rfl rfl)
abbrev cX1_incomeFrom : ByteArray := prog_1_method_60_code
def yX1_incomeFrom : MethodName := ⟨RX1, "incomeFrom", "(I)I"⟩
def dkwX1_incomeFrom_1 : List UInt8 := [182, 1, 60, 172]
abbrev dktX1_incomeFrom_1 : List UInt8 := dkwX1_incomeFrom_1 ++ []
def dkwX1_incomeFrom_0 : List UInt8 := [27, 7, 184, 0, 85, 42, 180, 0, 32, 180, 1, 45, 27, 184, 1, 49, 182, 1, 55, 192, 1, 50]
abbrev dktX1_incomeFrom_0 : List UInt8 := dkwX1_incomeFrom_0 ++ dktX1_incomeFrom_1
theorem dksX1_incomeFrom_0 : cX1_incomeFrom.data.toList.drop 0 = dktX1_incomeFrom_0 := by decide +kernel
theorem dksX1_incomeFrom_1 : cX1_incomeFrom.data.toList.drop 22 = dktX1_incomeFrom_1 := dk_seg dksX1_incomeFrom_0 22 rfl rfl
theorem dX1_incomeFrom_0 : decode cX1_incomeFrom 0 = .ok (.iload_n 1, 1) := dk_27 (dk_at dksX1_incomeFrom_0 0 rfl rfl)
theorem dX1_incomeFrom_1 : decode cX1_incomeFrom 1 = .ok (.iconst 4, 1) := dk_7 (dk_at dksX1_incomeFrom_0 1 rfl rfl)
theorem dX1_incomeFrom_2 : decode cX1_incomeFrom 2 = .ok (.invokestatic 85, 3) := dk_184 0 85 (dk_at dksX1_incomeFrom_0 2 rfl rfl)
theorem dX1_incomeFrom_5 : decode cX1_incomeFrom 5 = .ok (.aload_n 0, 1) := dk_42 (dk_at dksX1_incomeFrom_0 5 rfl rfl)
theorem dX1_incomeFrom_6 : decode cX1_incomeFrom 6 = .ok (.getfield 32, 3) := dk_180 0 32 (dk_at dksX1_incomeFrom_0 6 rfl rfl)
theorem dX1_incomeFrom_9 : decode cX1_incomeFrom 9 = .ok (.getfield 301, 3) := dk_180 1 45 (dk_at dksX1_incomeFrom_0 9 rfl rfl)
theorem dX1_incomeFrom_12 : decode cX1_incomeFrom 12 = .ok (.iload_n 1, 1) := dk_27 (dk_at dksX1_incomeFrom_0 12 rfl rfl)
theorem dX1_incomeFrom_13 : decode cX1_incomeFrom 13 = .ok (.invokestatic 305, 3) := dk_184 1 49 (dk_at dksX1_incomeFrom_0 13 rfl rfl)
theorem dX1_incomeFrom_16 : decode cX1_incomeFrom 16 = .ok (.invokevirtual 311, 3) := dk_182 1 55 (dk_at dksX1_incomeFrom_0 16 rfl rfl)
theorem dX1_incomeFrom_19 : decode cX1_incomeFrom 19 = .ok (.checkcast 306, 3) := dk_192 1 50 (dk_at dksX1_incomeFrom_0 19 rfl rfl)
theorem dX1_incomeFrom_22 : decode cX1_incomeFrom 22 = .ok (.invokevirtual 316, 3) := dk_182 1 60 (dk_at dksX1_incomeFrom_1 0 rfl rfl)
theorem dX1_incomeFrom_25 : decode cX1_incomeFrom 25 = .ok (.ireturn, 1) := dk_172 (dk_at dksX1_incomeFrom_1 3 rfl rfl)
abbrev cX1_append : ByteArray := prog_1_method_66_code
def yX1_append : MethodName := ⟨RX1, "append", "(I)I"⟩
def dkwX1_append_1 : List UInt8 := [3, 184, 0, 118, 42, 180, 0, 46, 27, 146, 182, 1, 76, 87, 42, 180, 0, 46, 182, 1, 73, 172]
abbrev dktX1_append_1 : List UInt8 := dkwX1_append_1 ++ []
def dkwX1_append_0 : List UInt8 := [27, 16, 32, 16, 126, 184, 0, 110, 42, 180, 0, 46, 182, 1, 73, 16, 60, 162, 0, 7, 4, 167, 0, 4]
abbrev dktX1_append_0 : List UInt8 := dkwX1_append_0 ++ dktX1_append_1
theorem dksX1_append_0 : cX1_append.data.toList.drop 0 = dktX1_append_0 := by decide +kernel
theorem dksX1_append_1 : cX1_append.data.toList.drop 24 = dktX1_append_1 := dk_seg dksX1_append_0 24 rfl rfl
theorem dX1_append_0 : decode cX1_append 0 = .ok (.iload_n 1, 1) := dk_27 (dk_at dksX1_append_0 0 rfl rfl)
theorem dX1_append_1 : decode cX1_append 1 = .ok (.bipush 32, 2) := dk_16 32 (dk_at dksX1_append_0 1 rfl rfl)
theorem dX1_append_3 : decode cX1_append 3 = .ok (.bipush 126, 2) := dk_16 126 (dk_at dksX1_append_0 3 rfl rfl)
theorem dX1_append_5 : decode cX1_append 5 = .ok (.invokestatic 110, 3) := dk_184 0 110 (dk_at dksX1_append_0 5 rfl rfl)
theorem dX1_append_8 : decode cX1_append 8 = .ok (.aload_n 0, 1) := dk_42 (dk_at dksX1_append_0 8 rfl rfl)
theorem dX1_append_9 : decode cX1_append 9 = .ok (.getfield 46, 3) := dk_180 0 46 (dk_at dksX1_append_0 9 rfl rfl)
theorem dX1_append_12 : decode cX1_append 12 = .ok (.invokevirtual 329, 3) := dk_182 1 73 (dk_at dksX1_append_0 12 rfl rfl)
theorem dX1_append_15 : decode cX1_append 15 = .ok (.bipush 60, 2) := dk_16 60 (dk_at dksX1_append_0 15 rfl rfl)
theorem dX1_append_17 : decode cX1_append 17 = .ok (.if_icmp .ge 7, 3) := dk_162 0 7 (dk_at dksX1_append_0 17 rfl rfl)
theorem dX1_append_20 : decode cX1_append 20 = .ok (.iconst 1, 1) := dk_4 (dk_at dksX1_append_0 20 rfl rfl)
theorem dX1_append_21 : decode cX1_append 21 = .ok (.goto 4, 3) := dk_167 0 4 (dk_at dksX1_append_0 21 rfl rfl)
theorem dX1_append_24 : decode cX1_append 24 = .ok (.iconst 0, 1) := dk_3 (dk_at dksX1_append_1 0 rfl rfl)
theorem dX1_append_25 : decode cX1_append 25 = .ok (.invokestatic 118, 3) := dk_184 0 118 (dk_at dksX1_append_1 1 rfl rfl)
theorem dX1_append_28 : decode cX1_append 28 = .ok (.aload_n 0, 1) := dk_42 (dk_at dksX1_append_1 4 rfl rfl)
theorem dX1_append_29 : decode cX1_append 29 = .ok (.getfield 46, 3) := dk_180 0 46 (dk_at dksX1_append_1 5 rfl rfl)
theorem dX1_append_32 : decode cX1_append 32 = .ok (.iload_n 1, 1) := dk_27 (dk_at dksX1_append_1 8 rfl rfl)
theorem dX1_append_33 : decode cX1_append 33 = .ok (.i2c, 1) := dk_146 (dk_at dksX1_append_1 9 rfl rfl)
theorem dX1_append_34 : decode cX1_append 34 = .ok (.invokevirtual 332, 3) := dk_182 1 76 (dk_at dksX1_append_1 10 rfl rfl)
theorem dX1_append_37 : decode cX1_append 37 = .ok (.pop, 1) := dk_87 (dk_at dksX1_append_1 13 rfl rfl)
theorem dX1_append_38 : decode cX1_append 38 = .ok (.aload_n 0, 1) := dk_42 (dk_at dksX1_append_1 14 rfl rfl)
theorem dX1_append_39 : decode cX1_append 39 = .ok (.getfield 46, 3) := dk_180 0 46 (dk_at dksX1_append_1 15 rfl rfl)
theorem dX1_append_42 : decode cX1_append 42 = .ok (.invokevirtual 329, 3) := dk_182 1 73 (dk_at dksX1_append_1 18 rfl rfl)
theorem dX1_append_45 : decode cX1_append 45 = .ok (.ireturn, 1) := dk_172 (dk_at dksX1_append_1 21 rfl rfl)
abbrev cX1_runText : ByteArray := prog_1_method_71_code
def yX1_runText : MethodName := ⟨RX1, "runText", "()I"⟩
def dkwX1_runText_3 : List UInt8 := [154, 255, 217, 43, 16, 59, 182, 1, 111, 87, 167, 255, 207, 28, 172]
abbrev dktX1_runText_3 : List UInt8 := dkwX1_runText_3 ++ []
def dkwX1_runText_2 : List UInt8 := [180, 0, 32, 182, 1, 105, 62, 28, 29, 153, 0, 7, 4, 167, 0, 4, 3, 96, 61, 43, 182, 1, 98]
abbrev dktX1_runText_2 : List UInt8 := dkwX1_runText_2 ++ dktX1_runText_3
def dkwX1_runText_1 : List UInt8 := [183, 1, 86, 76, 3, 61, 4, 62, 29, 153, 0, 51, 43, 182, 1, 98, 154, 0, 44, 43, 182, 1, 101, 42]
abbrev dktX1_runText_1 : List UInt8 := dkwX1_runText_1 ++ dktX1_runText_2
def dkwX1_runText_0 : List UInt8 := [42, 182, 1, 95, 154, 0, 11, 187, 0, 69, 89, 183, 0, 71, 191, 42, 182, 0, 122, 187, 1, 84, 89, 42]
abbrev dktX1_runText_0 : List UInt8 := dkwX1_runText_0 ++ dktX1_runText_1
theorem dksX1_runText_0 : cX1_runText.data.toList.drop 0 = dktX1_runText_0 := by decide +kernel
theorem dksX1_runText_1 : cX1_runText.data.toList.drop 24 = dktX1_runText_1 := dk_seg dksX1_runText_0 24 rfl rfl
theorem dksX1_runText_2 : cX1_runText.data.toList.drop 48 = dktX1_runText_2 := dk_seg dksX1_runText_1 24 rfl rfl
theorem dksX1_runText_3 : cX1_runText.data.toList.drop 71 = dktX1_runText_3 := dk_seg dksX1_runText_2 23 rfl rfl
theorem dX1_runText_0 : decode cX1_runText 0 = .ok (.aload_n 0, 1) := dk_42 (dk_at dksX1_runText_0 0 rfl rfl)
theorem dX1_runText_1 : decode cX1_runText 1 = .ok (.invokevirtual 351, 3) := dk_182 1 95 (dk_at dksX1_runText_0 1 rfl rfl)
theorem dX1_runText_4 : decode cX1_runText 4 = .ok (.ifCond .ne 11, 3) := dk_154 0 11 (dk_at dksX1_runText_0 4 rfl rfl)
theorem dX1_runText_7 : decode cX1_runText 7 = .ok (.new 69, 3) := dk_187 0 69 (dk_at dksX1_runText_0 7 rfl rfl)
theorem dX1_runText_10 : decode cX1_runText 10 = .ok (.dup, 1) := dk_89 (dk_at dksX1_runText_0 10 rfl rfl)
theorem dX1_runText_11 : decode cX1_runText 11 = .ok (.invokespecial 71, 3) := dk_183 0 71 (dk_at dksX1_runText_0 11 rfl rfl)
theorem dX1_runText_14 : decode cX1_runText 14 = .ok (.athrow, 1) := dk_191 (dk_at dksX1_runText_0 14 rfl rfl)
theorem dX1_runText_15 : decode cX1_runText 15 = .ok (.aload_n 0, 1) := dk_42 (dk_at dksX1_runText_0 15 rfl rfl)
theorem dX1_runText_16 : decode cX1_runText 16 = .ok (.invokevirtual 122, 3) := dk_182 0 122 (dk_at dksX1_runText_0 16 rfl rfl)
theorem dX1_runText_19 : decode cX1_runText 19 = .ok (.new 340, 3) := dk_187 1 84 (dk_at dksX1_runText_0 19 rfl rfl)
theorem dX1_runText_22 : decode cX1_runText 22 = .ok (.dup, 1) := dk_89 (dk_at dksX1_runText_0 22 rfl rfl)
theorem dX1_runText_23 : decode cX1_runText 23 = .ok (.aload_n 0, 1) := dk_42 (dk_at dksX1_runText_0 23 rfl rfl)
theorem dX1_runText_24 : decode cX1_runText 24 = .ok (.invokespecial 342, 3) := dk_183 1 86 (dk_at dksX1_runText_1 0 rfl rfl)
theorem dX1_runText_27 : decode cX1_runText 27 = .ok (.astore_n 1, 1) := dk_76 (dk_at dksX1_runText_1 3 rfl rfl)
theorem dX1_runText_28 : decode cX1_runText 28 = .ok (.iconst 0, 1) := dk_3 (dk_at dksX1_runText_1 4 rfl rfl)
theorem dX1_runText_29 : decode cX1_runText 29 = .ok (.istore_n 2, 1) := dk_61 (dk_at dksX1_runText_1 5 rfl rfl)
theorem dX1_runText_30 : decode cX1_runText 30 = .ok (.iconst 1, 1) := dk_4 (dk_at dksX1_runText_1 6 rfl rfl)
theorem dX1_runText_31 : decode cX1_runText 31 = .ok (.istore_n 3, 1) := dk_62 (dk_at dksX1_runText_1 7 rfl rfl)
theorem dX1_runText_32 : decode cX1_runText 32 = .ok (.iload_n 3, 1) := dk_29 (dk_at dksX1_runText_1 8 rfl rfl)
theorem dX1_runText_33 : decode cX1_runText 33 = .ok (.ifCond .eq 51, 3) := dk_153 0 51 (dk_at dksX1_runText_1 9 rfl rfl)
theorem dX1_runText_36 : decode cX1_runText 36 = .ok (.aload_n 1, 1) := dk_43 (dk_at dksX1_runText_1 12 rfl rfl)
theorem dX1_runText_37 : decode cX1_runText 37 = .ok (.invokevirtual 354, 3) := dk_182 1 98 (dk_at dksX1_runText_1 13 rfl rfl)
theorem dX1_runText_40 : decode cX1_runText 40 = .ok (.ifCond .ne 44, 3) := dk_154 0 44 (dk_at dksX1_runText_1 16 rfl rfl)
theorem dX1_runText_43 : decode cX1_runText 43 = .ok (.aload_n 1, 1) := dk_43 (dk_at dksX1_runText_1 19 rfl rfl)
theorem dX1_runText_44 : decode cX1_runText 44 = .ok (.invokevirtual 357, 3) := dk_182 1 101 (dk_at dksX1_runText_1 20 rfl rfl)
theorem dX1_runText_47 : decode cX1_runText 47 = .ok (.aload_n 0, 1) := dk_42 (dk_at dksX1_runText_1 23 rfl rfl)
theorem dX1_runText_48 : decode cX1_runText 48 = .ok (.getfield 32, 3) := dk_180 0 32 (dk_at dksX1_runText_2 0 rfl rfl)
theorem dX1_runText_51 : decode cX1_runText 51 = .ok (.invokevirtual 361, 3) := dk_182 1 105 (dk_at dksX1_runText_2 3 rfl rfl)
theorem dX1_runText_54 : decode cX1_runText 54 = .ok (.istore_n 3, 1) := dk_62 (dk_at dksX1_runText_2 6 rfl rfl)
theorem dX1_runText_55 : decode cX1_runText 55 = .ok (.iload_n 2, 1) := dk_28 (dk_at dksX1_runText_2 7 rfl rfl)
theorem dX1_runText_56 : decode cX1_runText 56 = .ok (.iload_n 3, 1) := dk_29 (dk_at dksX1_runText_2 8 rfl rfl)
theorem dX1_runText_57 : decode cX1_runText 57 = .ok (.ifCond .eq 7, 3) := dk_153 0 7 (dk_at dksX1_runText_2 9 rfl rfl)
theorem dX1_runText_60 : decode cX1_runText 60 = .ok (.iconst 1, 1) := dk_4 (dk_at dksX1_runText_2 12 rfl rfl)
theorem dX1_runText_61 : decode cX1_runText 61 = .ok (.goto 4, 3) := dk_167 0 4 (dk_at dksX1_runText_2 13 rfl rfl)
theorem dX1_runText_64 : decode cX1_runText 64 = .ok (.iconst 0, 1) := dk_3 (dk_at dksX1_runText_2 16 rfl rfl)
theorem dX1_runText_65 : decode cX1_runText 65 = .ok (.iadd, 1) := dk_96 (dk_at dksX1_runText_2 17 rfl rfl)
theorem dX1_runText_66 : decode cX1_runText 66 = .ok (.istore_n 2, 1) := dk_61 (dk_at dksX1_runText_2 18 rfl rfl)
theorem dX1_runText_67 : decode cX1_runText 67 = .ok (.aload_n 1, 1) := dk_43 (dk_at dksX1_runText_2 19 rfl rfl)
theorem dX1_runText_68 : decode cX1_runText 68 = .ok (.invokevirtual 354, 3) := dk_182 1 98 (dk_at dksX1_runText_2 20 rfl rfl)
theorem dX1_runText_71 : decode cX1_runText 71 = .ok (.ifCond .ne (-39), 3) := dk_154 255 217 (dk_at dksX1_runText_3 0 rfl rfl)
theorem dX1_runText_74 : decode cX1_runText 74 = .ok (.aload_n 1, 1) := dk_43 (dk_at dksX1_runText_3 3 rfl rfl)
theorem dX1_runText_75 : decode cX1_runText 75 = .ok (.bipush 59, 2) := dk_16 59 (dk_at dksX1_runText_3 4 rfl rfl)
theorem dX1_runText_77 : decode cX1_runText 77 = .ok (.invokevirtual 367, 3) := dk_182 1 111 (dk_at dksX1_runText_3 6 rfl rfl)
theorem dX1_runText_80 : decode cX1_runText 80 = .ok (.pop, 1) := dk_87 (dk_at dksX1_runText_3 9 rfl rfl)
theorem dX1_runText_81 : decode cX1_runText 81 = .ok (.goto (-49), 3) := dk_167 255 207 (dk_at dksX1_runText_3 10 rfl rfl)
theorem dX1_runText_84 : decode cX1_runText 84 = .ok (.iload_n 2, 1) := dk_28 (dk_at dksX1_runText_3 13 rfl rfl)
theorem dX1_runText_85 : decode cX1_runText 85 = .ok (.ireturn, 1) := dk_172 (dk_at dksX1_runText_3 14 rfl rfl)
abbrev cX1_undo : ByteArray := prog_1_method_72_code
def yX1_undo : MethodName := ⟨RX1, "undo", "()I"⟩
def dkwX1_undo_1 : List UInt8 := [182, 1, 116, 192, 0, 29, 181, 0, 32, 42, 180, 0, 39, 182, 0, 50, 172]
abbrev dktX1_undo_1 : List UInt8 := dkwX1_undo_1 ++ []
def dkwX1_undo_0 : List UInt8 := [42, 180, 0, 39, 182, 1, 115, 154, 0, 7, 4, 167, 0, 4, 3, 184, 0, 118, 42, 42, 180, 0, 39]
abbrev dktX1_undo_0 : List UInt8 := dkwX1_undo_0 ++ dktX1_undo_1
theorem dksX1_undo_0 : cX1_undo.data.toList.drop 0 = dktX1_undo_0 := by decide +kernel
theorem dksX1_undo_1 : cX1_undo.data.toList.drop 23 = dktX1_undo_1 := dk_seg dksX1_undo_0 23 rfl rfl
theorem dX1_undo_0 : decode cX1_undo 0 = .ok (.aload_n 0, 1) := dk_42 (dk_at dksX1_undo_0 0 rfl rfl)
theorem dX1_undo_1 : decode cX1_undo 1 = .ok (.getfield 39, 3) := dk_180 0 39 (dk_at dksX1_undo_0 1 rfl rfl)
theorem dX1_undo_4 : decode cX1_undo 4 = .ok (.invokevirtual 371, 3) := dk_182 1 115 (dk_at dksX1_undo_0 4 rfl rfl)
theorem dX1_undo_7 : decode cX1_undo 7 = .ok (.ifCond .ne 7, 3) := dk_154 0 7 (dk_at dksX1_undo_0 7 rfl rfl)
theorem dX1_undo_10 : decode cX1_undo 10 = .ok (.iconst 1, 1) := dk_4 (dk_at dksX1_undo_0 10 rfl rfl)
theorem dX1_undo_11 : decode cX1_undo 11 = .ok (.goto 4, 3) := dk_167 0 4 (dk_at dksX1_undo_0 11 rfl rfl)
theorem dX1_undo_14 : decode cX1_undo 14 = .ok (.iconst 0, 1) := dk_3 (dk_at dksX1_undo_0 14 rfl rfl)
theorem dX1_undo_15 : decode cX1_undo 15 = .ok (.invokestatic 118, 3) := dk_184 0 118 (dk_at dksX1_undo_0 15 rfl rfl)
theorem dX1_undo_18 : decode cX1_undo 18 = .ok (.aload_n 0, 1) := dk_42 (dk_at dksX1_undo_0 18 rfl rfl)
theorem dX1_undo_19 : decode cX1_undo 19 = .ok (.aload_n 0, 1) := dk_42 (dk_at dksX1_undo_0 19 rfl rfl)
theorem dX1_undo_20 : decode cX1_undo 20 = .ok (.getfield 39, 3) := dk_180 0 39 (dk_at dksX1_undo_0 20 rfl rfl)
theorem dX1_undo_23 : decode cX1_undo 23 = .ok (.invokevirtual 372, 3) := dk_182 1 116 (dk_at dksX1_undo_1 0 rfl rfl)
theorem dX1_undo_26 : decode cX1_undo 26 = .ok (.checkcast 29, 3) := dk_192 0 29 (dk_at dksX1_undo_1 3 rfl rfl)
theorem dX1_undo_29 : decode cX1_undo 29 = .ok (.putfield 32, 3) := dk_181 0 32 (dk_at dksX1_undo_1 6 rfl rfl)
theorem dX1_undo_32 : decode cX1_undo 32 = .ok (.aload_n 0, 1) := dk_42 (dk_at dksX1_undo_1 9 rfl rfl)
theorem dX1_undo_33 : decode cX1_undo 33 = .ok (.getfield 39, 3) := dk_180 0 39 (dk_at dksX1_undo_1 10 rfl rfl)
theorem dX1_undo_36 : decode cX1_undo 36 = .ok (.invokevirtual 50, 3) := dk_182 0 50 (dk_at dksX1_undo_1 13 rfl rfl)
theorem dX1_undo_39 : decode cX1_undo 39 = .ok (.ireturn, 1) := dk_172 (dk_at dksX1_undo_1 16 rfl rfl)
abbrev cX1_restoreSnapshot : ByteArray := prog_1_method_75_code
def yX1_restoreSnapshot : MethodName := ⟨RX1, "restoreSnapshot", "()I"⟩
def dkwX1_restoreSnapshot_1 : List UInt8 := [182, 0, 58, 181, 0, 32, 42, 180, 0, 32, 180, 0, 199, 172]
abbrev dktX1_restoreSnapshot_1 : List UInt8 := dkwX1_restoreSnapshot_1 ++ []
def dkwX1_restoreSnapshot_0 : List UInt8 := [42, 180, 1, 119, 198, 0, 7, 4, 167, 0, 4, 3, 184, 0, 118, 42, 182, 0, 122, 42, 42, 180, 1, 119]
abbrev dktX1_restoreSnapshot_0 : List UInt8 := dkwX1_restoreSnapshot_0 ++ dktX1_restoreSnapshot_1
theorem dksX1_restoreSnapshot_0 : cX1_restoreSnapshot.data.toList.drop 0 = dktX1_restoreSnapshot_0 := by decide +kernel
theorem dksX1_restoreSnapshot_1 : cX1_restoreSnapshot.data.toList.drop 24 = dktX1_restoreSnapshot_1 := dk_seg dksX1_restoreSnapshot_0 24 rfl rfl
theorem dX1_restoreSnapshot_0 : decode cX1_restoreSnapshot 0 = .ok (.aload_n 0, 1) := dk_42 (dk_at dksX1_restoreSnapshot_0 0 rfl rfl)
theorem dX1_restoreSnapshot_1 : decode cX1_restoreSnapshot 1 = .ok (.getfield 375, 3) := dk_180 1 119 (dk_at dksX1_restoreSnapshot_0 1 rfl rfl)
theorem dX1_restoreSnapshot_4 : decode cX1_restoreSnapshot 4 = .ok (.ifnull 7, 3) := dk_198 0 7 (dk_at dksX1_restoreSnapshot_0 4 rfl rfl)
theorem dX1_restoreSnapshot_7 : decode cX1_restoreSnapshot 7 = .ok (.iconst 1, 1) := dk_4 (dk_at dksX1_restoreSnapshot_0 7 rfl rfl)
theorem dX1_restoreSnapshot_8 : decode cX1_restoreSnapshot 8 = .ok (.goto 4, 3) := dk_167 0 4 (dk_at dksX1_restoreSnapshot_0 8 rfl rfl)
theorem dX1_restoreSnapshot_11 : decode cX1_restoreSnapshot 11 = .ok (.iconst 0, 1) := dk_3 (dk_at dksX1_restoreSnapshot_0 11 rfl rfl)
theorem dX1_restoreSnapshot_12 : decode cX1_restoreSnapshot 12 = .ok (.invokestatic 118, 3) := dk_184 0 118 (dk_at dksX1_restoreSnapshot_0 12 rfl rfl)
theorem dX1_restoreSnapshot_15 : decode cX1_restoreSnapshot 15 = .ok (.aload_n 0, 1) := dk_42 (dk_at dksX1_restoreSnapshot_0 15 rfl rfl)
theorem dX1_restoreSnapshot_16 : decode cX1_restoreSnapshot 16 = .ok (.invokevirtual 122, 3) := dk_182 0 122 (dk_at dksX1_restoreSnapshot_0 16 rfl rfl)
theorem dX1_restoreSnapshot_19 : decode cX1_restoreSnapshot 19 = .ok (.aload_n 0, 1) := dk_42 (dk_at dksX1_restoreSnapshot_0 19 rfl rfl)
theorem dX1_restoreSnapshot_20 : decode cX1_restoreSnapshot 20 = .ok (.aload_n 0, 1) := dk_42 (dk_at dksX1_restoreSnapshot_0 20 rfl rfl)
theorem dX1_restoreSnapshot_21 : decode cX1_restoreSnapshot 21 = .ok (.getfield 375, 3) := dk_180 1 119 (dk_at dksX1_restoreSnapshot_0 21 rfl rfl)
theorem dX1_restoreSnapshot_24 : decode cX1_restoreSnapshot 24 = .ok (.invokevirtual 58, 3) := dk_182 0 58 (dk_at dksX1_restoreSnapshot_1 0 rfl rfl)
theorem dX1_restoreSnapshot_27 : decode cX1_restoreSnapshot 27 = .ok (.putfield 32, 3) := dk_181 0 32 (dk_at dksX1_restoreSnapshot_1 3 rfl rfl)
theorem dX1_restoreSnapshot_30 : decode cX1_restoreSnapshot 30 = .ok (.aload_n 0, 1) := dk_42 (dk_at dksX1_restoreSnapshot_1 6 rfl rfl)
theorem dX1_restoreSnapshot_31 : decode cX1_restoreSnapshot 31 = .ok (.getfield 32, 3) := dk_180 0 32 (dk_at dksX1_restoreSnapshot_1 7 rfl rfl)
theorem dX1_restoreSnapshot_34 : decode cX1_restoreSnapshot 34 = .ok (.getfield 199, 3) := dk_180 0 199 (dk_at dksX1_restoreSnapshot_1 10 rfl rfl)
theorem dX1_restoreSnapshot_37 : decode cX1_restoreSnapshot 37 = .ok (.ireturn, 1) := dk_172 (dk_at dksX1_restoreSnapshot_1 13 rfl rfl)
theorem q77 : (Jvm.Cond.initialized "PostChaiseYard") ∈ lw_all := lw_g (lw_at lw_m1 1 rfl) rfl
theorem q129 : (Jvm.Cond.instantiable "PostChaiseYard" (5 : Nat)) ∈ lw_all := lw_g (lw_at lw_m1 53 rfl) rfl
theorem q131 : (Jvm.Cond.instanceMethod ({ cls := "PostChaiseYard", name := "<init>", desc := "()V" } : Jvm.MethodName)) ∈ lw_all := lw_g (lw_at lw_m1 55 rfl) rfl
theorem q132 : (Jvm.Cond.code ({ cls := "PostChaiseYard", name := "<init>", desc := "()V" } : Jvm.MethodName) prog_1_method_1_code (1 : Nat) (Option.none : Option Jvm.ClassFile.FieldType)) ∈ lw_all := lw_g (lw_at lw_m1 56 rfl) rfl
theorem q133 : (Jvm.Cond.methodLink "PostChaiseYard" (1 : Nat) ({ cls := "java/lang/Object", name := "<init>", desc := "()V" } : Jvm.MethodName)) ∈ lw_all := lw_g (lw_at lw_m1 57 rfl) rfl
theorem q136 : (Jvm.Cond.classLink "PostChaiseYard" (7 : Nat) "java/lang/String") ∈ lw_all := lw_g (lw_at lw_m1 60 rfl) rfl
theorem q138 : (Jvm.Cond.stringRef "PostChaiseYard" (9 : Nat) "express") ∈ lw_tbl := lw_at lw_m1 62 rfl
theorem q139 : (Jvm.Cond.stringRef "PostChaiseYard" (11 : Nat) "noble") ∈ lw_tbl := lw_at lw_m1 63 rfl
theorem q140 : (Jvm.Cond.stringRef "PostChaiseYard" (13 : Nat) "plain") ∈ lw_tbl := lw_at lw_m1 64 rfl
theorem q141 : (Jvm.Cond.stringRef "PostChaiseYard" (15 : Nat) "wait") ∈ lw_tbl := lw_at lw_m1 65 rfl
theorem q142 : (Jvm.Cond.stringRef "PostChaiseYard" (17 : Nat) "bed") ∈ lw_tbl := lw_at lw_m1 66 rfl
theorem q143 : (Jvm.Cond.stringRef "PostChaiseYard" (19 : Nat) "call") ∈ lw_tbl := lw_at lw_m1 67 rfl
theorem q144 : (Jvm.Cond.stringRef "PostChaiseYard" (21 : Nat) "pole") ∈ lw_tbl := lw_at lw_m1 68 rfl
theorem q145 : (Jvm.Cond.classLink "PostChaiseYard" (29 : Nat) "PostChaiseYard$State") ∈ lw_all := lw_g (lw_at lw_m1 69 rfl) rfl
theorem q147 : (Jvm.Cond.methodLink "PostChaiseYard" (31 : Nat) ({ cls := "PostChaiseYard$State", name := "<init>", desc := "()V" } : Jvm.MethodName)) ∈ lw_all := lw_g (lw_at lw_m1 71 rfl) rfl
theorem q312 : (Jvm.Cond.fieldLink "PostChaiseYard" (199 : Nat) "PostChaiseYard$State" "time" "I") ∈ lw_all := lw_g (lw_at lw_m1 236 rfl) rfl
theorem q314 : (Jvm.Cond.fieldLink "PostChaiseYard" (193 : Nat) "PostChaiseYard$State" "pace" "I") ∈ lw_all := lw_g (lw_at lw_m1 238 rfl) rfl
theorem q316 : (Jvm.Cond.fieldLink "PostChaiseYard" (196 : Nat) "PostChaiseYard$State" "poleLimit" "I") ∈ lw_all := lw_g (lw_at lw_m2 0 rfl) rfl
theorem q318 : (Jvm.Cond.fieldLink "PostChaiseYard" (289 : Nat) "PostChaiseYard$State" "repairLeft" "I") ∈ lw_all := lw_g (lw_at lw_m2 2 rfl) rfl
theorem q320 : (Jvm.Cond.fieldLink "PostChaiseYard" (319 : Nat) "PostChaiseYard$State" "spentOnPoles" "I") ∈ lw_all := lw_g (lw_at lw_m2 4 rfl) rfl
theorem q322 : (Jvm.Cond.fieldLink "PostChaiseYard" (322 : Nat) "PostChaiseYard$State" "brokenPoles" "I") ∈ lw_all := lw_g (lw_at lw_m2 6 rfl) rfl
theorem q324 : (Jvm.Cond.fieldLink "PostChaiseYard" (285 : Nat) "PostChaiseYard$State" "inRepair" "LPostChaiseYard$Chaise;") ∈ lw_all := lw_g (lw_at lw_m2 8 rfl) rfl
theorem q326 : (Jvm.Cond.fieldLink "PostChaiseYard" (78 : Nat) "PostChaiseYard$State" "guests" "Ljava/util/List;") ∈ lw_all := lw_g (lw_at lw_m2 10 rfl) rfl
theorem q328 : (Jvm.Cond.fieldLink "PostChaiseYard" (212 : Nat) "PostChaiseYard$State" "statuses" "[LPostChaiseYard$Status;") ∈ lw_all := lw_g (lw_at lw_m2 12 rfl) rfl
theorem q330 : (Jvm.Cond.fieldLink "PostChaiseYard" (325 : Nat) "PostChaiseYard$State" "waits" "[I") ∈ lw_all := lw_g (lw_at lw_m2 14 rfl) rfl
theorem q332 : (Jvm.Cond.fieldLink "PostChaiseYard" (234 : Nat) "PostChaiseYard$State" "line" "Ljava/util/PriorityQueue;") ∈ lw_all := lw_g (lw_at lw_m2 16 rfl) rfl
theorem q334 : (Jvm.Cond.fieldLink "PostChaiseYard" (95 : Nat) "PostChaiseYard$State" "pairs" "Ljava/util/List;") ∈ lw_all := lw_g (lw_at lw_m2 18 rfl) rfl
theorem q337 : (Jvm.Cond.fieldLink "PostChaiseYard" (100 : Nat) "PostChaiseYard$State" "boys" "Ljava/util/List;") ∈ lw_all := lw_g (lw_at lw_m2 21 rfl) rfl
theorem q340 : (Jvm.Cond.fieldLink "PostChaiseYard" (162 : Nat) "PostChaiseYard$State" "row" "Ljava/util/List;") ∈ lw_all := lw_g (lw_at lw_m2 24 rfl) rfl
theorem q343 : (Jvm.Cond.fieldLink "PostChaiseYard" (105 : Nat) "PostChaiseYard$State" "chaises" "Ljava/util/List;") ∈ lw_all := lw_g (lw_at lw_m2 27 rfl) rfl
theorem q345 : (Jvm.Cond.fieldLink "PostChaiseYard" (301 : Nat) "PostChaiseYard$State" "income" "Ljava/util/TreeMap;") ∈ lw_all := lw_g (lw_at lw_m2 29 rfl) rfl
theorem q388 : (Jvm.Cond.fieldLink "PostChaiseYard" (257 : Nat) "PostChaiseYard$Pair" "number" "I") ∈ lw_all := lw_g (lw_at lw_m2 72 rfl) rfl
theorem q391 : (Jvm.Cond.fieldLink "PostChaiseYard" (247 : Nat) "PostChaiseYard$Pair" "miles" "I") ∈ lw_all := lw_g (lw_at lw_m2 75 rfl) rfl
theorem q393 : (Jvm.Cond.fieldLink "PostChaiseYard" (158 : Nat) "PostChaiseYard$Pair" "rest" "I") ∈ lw_all := lw_g (lw_at lw_m2 77 rfl) rfl
theorem q395 : (Jvm.Cond.fieldLink "PostChaiseYard" (154 : Nat) "PostChaiseYard$Pair" "isOut" "Z") ∈ lw_all := lw_g (lw_at lw_m2 79 rfl) rfl
theorem q444 : (Jvm.Cond.selects "PostChaiseYard" ({ cls := "java/lang/Object", name := "getClass", desc := "()Ljava/lang/Class;" } : Jvm.MethodName) ({ cls := "java/lang/Object", name := "getClass", desc := "()Ljava/lang/Class;" } : Jvm.MethodName)) ∈ lw_all := lw_g (lw_at lw_m2 128 rfl) rfl
theorem q496 : (Jvm.Cond.fieldLink "PostChaiseYard" (264 : Nat) "PostChaiseYard$Boy" "number" "I") ∈ lw_all := lw_g (lw_at lw_m2 180 rfl) rfl
theorem q499 : (Jvm.Cond.fieldLink "PostChaiseYard" (258 : Nat) "PostChaiseYard$Boy" "trips" "I") ∈ lw_all := lw_g (lw_at lw_m2 183 rfl) rfl
theorem q503 : (Jvm.Cond.fieldLink "PostChaiseYard" (176 : Nat) "PostChaiseYard$Boy" "isInBed" "Z") ∈ lw_all := lw_g (lw_at lw_m2 187 rfl) rfl
theorem q538 : (Jvm.Cond.fieldLink "PostChaiseYard" (284 : Nat) "PostChaiseYard$Chaise" "number" "I") ∈ lw_all := lw_g (lw_at lw_m2 222 rfl) rfl
theorem q541 : (Jvm.Cond.fieldLink "PostChaiseYard" (268 : Nat) "PostChaiseYard$Chaise" "wear" "I") ∈ lw_all := lw_g (lw_at lw_m2 225 rfl) rfl
theorem q544 : (Jvm.Cond.fieldLink "PostChaiseYard" (271 : Nat) "PostChaiseYard$Chaise" "miles" "I") ∈ lw_all := lw_g (lw_at lw_m2 228 rfl) rfl
theorem q547 : (Jvm.Cond.fieldLink "PostChaiseYard" (265 : Nat) "PostChaiseYard$Chaise" "isBroken" "Z") ∈ lw_all := lw_g (lw_at lw_m2 231 rfl) rfl
theorem q551 : (Jvm.Cond.fieldLink "PostChaiseYard" (186 : Nat) "PostChaiseYard$Chaise" "trip" "LPostChaiseYard$Trip;") ∈ lw_all := lw_g (lw_at lw_m2 235 rfl) rfl
theorem q947 : (Jvm.Cond.classLink "PostChaiseYard" (36 : Nat) "java/util/ArrayDeque") ∈ lw_all := lw_g (lw_at lw_m4 151 rfl) rfl
theorem q949 : (Jvm.Cond.methodLink "PostChaiseYard" (38 : Nat) ({ cls := "java/util/ArrayDeque", name := "<init>", desc := "()V" } : Jvm.MethodName)) ∈ lw_all := lw_g (lw_at lw_m4 153 rfl) rfl
theorem q964 : (Jvm.Cond.classLink "PostChaiseYard" (43 : Nat) "java/lang/StringBuilder") ∈ lw_all := lw_g (lw_at lw_m4 168 rfl) rfl
theorem q966 : (Jvm.Cond.methodLink "PostChaiseYard" (45 : Nat) ({ cls := "java/lang/StringBuilder", name := "<init>", desc := "()V" } : Jvm.MethodName)) ∈ lw_all := lw_g (lw_at lw_m4 170 rfl) rfl
theorem q993 : (Jvm.Cond.fieldLink "PostChaiseYard" (23 : Nat) "PostChaiseYard" "words" "[Ljava/lang/String;") ∈ lw_all := lw_g (lw_at lw_m4 197 rfl) rfl
theorem q995 : (Jvm.Cond.fieldLink "PostChaiseYard" (32 : Nat) "PostChaiseYard" "state" "LPostChaiseYard$State;") ∈ lw_all := lw_g (lw_at lw_m4 199 rfl) rfl
theorem q996 : (Jvm.Cond.fieldLink "PostChaiseYard" (375 : Nat) "PostChaiseYard" "snapshot" "LPostChaiseYard$State;") ∈ lw_all := lw_g (lw_at lw_m4 200 rfl) rfl
theorem q997 : (Jvm.Cond.fieldLink "PostChaiseYard" (39 : Nat) "PostChaiseYard" "history" "Ljava/util/ArrayDeque;") ∈ lw_all := lw_g (lw_at lw_m4 201 rfl) rfl
theorem q998 : (Jvm.Cond.fieldLink "PostChaiseYard" (46 : Nat) "PostChaiseYard" "buffer" "Ljava/lang/StringBuilder;") ∈ lw_all := lw_g (lw_at lw_m4 202 rfl) rfl
theorem q1000 : (Jvm.Cond.laysFinal "PostChaiseYard" "PostChaiseYard" "words" "[Ljava/lang/String;") ∈ lw_all := lw_g (lw_at lw_m4 204 rfl) rfl
theorem q1001 : (Jvm.Cond.soleField "PostChaiseYard" "words") ∈ lw_all := lw_g (lw_at lw_m4 205 rfl) rfl
theorem q1002 : (Jvm.Cond.lays "PostChaiseYard" "PostChaiseYard" "state" "LPostChaiseYard$State;") ∈ lw_all := lw_g (lw_at lw_m4 206 rfl) rfl
theorem q1003 : (Jvm.Cond.soleField "PostChaiseYard" "state") ∈ lw_all := lw_g (lw_at lw_m4 207 rfl) rfl
theorem q1004 : (Jvm.Cond.lays "PostChaiseYard" "PostChaiseYard" "snapshot" "LPostChaiseYard$State;") ∈ lw_all := lw_g (lw_at lw_m4 208 rfl) rfl
theorem q1005 : (Jvm.Cond.soleField "PostChaiseYard" "snapshot") ∈ lw_all := lw_g (lw_at lw_m4 209 rfl) rfl
theorem q1006 : (Jvm.Cond.laysFinal "PostChaiseYard" "PostChaiseYard" "history" "Ljava/util/ArrayDeque;") ∈ lw_all := lw_g (lw_at lw_m4 210 rfl) rfl
theorem q1007 : (Jvm.Cond.soleField "PostChaiseYard" "history") ∈ lw_all := lw_g (lw_at lw_m4 211 rfl) rfl
theorem q1008 : (Jvm.Cond.laysFinal "PostChaiseYard" "PostChaiseYard" "buffer" "Ljava/lang/StringBuilder;") ∈ lw_all := lw_g (lw_at lw_m4 212 rfl) rfl
theorem q1009 : (Jvm.Cond.soleField "PostChaiseYard" "buffer") ∈ lw_all := lw_g (lw_at lw_m4 213 rfl) rfl
theorem q1010 : (Jvm.Cond.superclass "PostChaiseYard" "java/lang/Object") ∈ lw_all := lw_g (lw_at lw_m4 214 rfl) rfl
theorem q1012 : (Jvm.Cond.instanceMethod ({ cls := "PostChaiseYard", name := "time", desc := "()I" } : Jvm.MethodName)) ∈ lw_all := lw_g (lw_at lw_m4 216 rfl) rfl
theorem q1013 : (Jvm.Cond.selects "PostChaiseYard" ({ cls := "PostChaiseYard", name := "time", desc := "()I" } : Jvm.MethodName) ({ cls := "PostChaiseYard", name := "time", desc := "()I" } : Jvm.MethodName)) ∈ lw_all := lw_g (lw_at lw_m4 217 rfl) rfl
theorem q1014 : (Jvm.Cond.code ({ cls := "PostChaiseYard", name := "time", desc := "()I" } : Jvm.MethodName) prog_1_method_22_code (1 : Nat) (Option.some Jvm.ClassFile.FieldType.int)) ∈ lw_all := lw_g (lw_at lw_m4 218 rfl) rfl
theorem q1016 : (Jvm.Cond.instanceMethod ({ cls := "PostChaiseYard", name := "pace", desc := "()I" } : Jvm.MethodName)) ∈ lw_all := lw_g (lw_at lw_m4 220 rfl) rfl
theorem q1017 : (Jvm.Cond.selects "PostChaiseYard" ({ cls := "PostChaiseYard", name := "pace", desc := "()I" } : Jvm.MethodName) ({ cls := "PostChaiseYard", name := "pace", desc := "()I" } : Jvm.MethodName)) ∈ lw_all := lw_g (lw_at lw_m4 221 rfl) rfl
theorem q1018 : (Jvm.Cond.code ({ cls := "PostChaiseYard", name := "pace", desc := "()I" } : Jvm.MethodName) prog_1_method_23_code (1 : Nat) (Option.some Jvm.ClassFile.FieldType.int)) ∈ lw_all := lw_g (lw_at lw_m4 222 rfl) rfl
theorem q1020 : (Jvm.Cond.instanceMethod ({ cls := "PostChaiseYard", name := "poleLimit", desc := "()I" } : Jvm.MethodName)) ∈ lw_all := lw_g (lw_at lw_m4 224 rfl) rfl
theorem q1021 : (Jvm.Cond.selects "PostChaiseYard" ({ cls := "PostChaiseYard", name := "poleLimit", desc := "()I" } : Jvm.MethodName) ({ cls := "PostChaiseYard", name := "poleLimit", desc := "()I" } : Jvm.MethodName)) ∈ lw_all := lw_g (lw_at lw_m4 225 rfl) rfl
theorem q1022 : (Jvm.Cond.code ({ cls := "PostChaiseYard", name := "poleLimit", desc := "()I" } : Jvm.MethodName) prog_1_method_24_code (1 : Nat) (Option.some Jvm.ClassFile.FieldType.int)) ∈ lw_all := lw_g (lw_at lw_m4 226 rfl) rfl
theorem q1024 : (Jvm.Cond.instanceMethod ({ cls := "PostChaiseYard", name := "guestCount", desc := "()I" } : Jvm.MethodName)) ∈ lw_all := lw_g (lw_at lw_m4 228 rfl) rfl
theorem q1025 : (Jvm.Cond.selects "PostChaiseYard" ({ cls := "PostChaiseYard", name := "guestCount", desc := "()I" } : Jvm.MethodName) ({ cls := "PostChaiseYard", name := "guestCount", desc := "()I" } : Jvm.MethodName)) ∈ lw_all := lw_g (lw_at lw_m4 229 rfl) rfl
theorem q1026 : (Jvm.Cond.code ({ cls := "PostChaiseYard", name := "guestCount", desc := "()I" } : Jvm.MethodName) prog_1_method_25_code (1 : Nat) (Option.some Jvm.ClassFile.FieldType.int)) ∈ lw_all := lw_g (lw_at lw_m4 230 rfl) rfl
theorem q1027 : (Jvm.Cond.interfaceEntry "PostChaiseYard" (82 : Nat)) ∈ lw_tbl := lw_at lw_m4 231 rfl
theorem q1028 : (Jvm.Cond.methodLink "PostChaiseYard" (82 : Nat) ({ cls := "java/util/List", name := "size", desc := "()I" } : Jvm.MethodName)) ∈ lw_all := lw_g (lw_at lw_m4 232 rfl) rfl
theorem q1037 : (Jvm.Cond.instanceMethod ({ cls := "PostChaiseYard", name := "lineLength", desc := "()I" } : Jvm.MethodName)) ∈ lw_all := lw_g (lw_at lw_m5 1 rfl) rfl
theorem q1038 : (Jvm.Cond.selects "PostChaiseYard" ({ cls := "PostChaiseYard", name := "lineLength", desc := "()I" } : Jvm.MethodName) ({ cls := "PostChaiseYard", name := "lineLength", desc := "()I" } : Jvm.MethodName)) ∈ lw_all := lw_g (lw_at lw_m5 2 rfl) rfl
theorem q1039 : (Jvm.Cond.code ({ cls := "PostChaiseYard", name := "lineLength", desc := "()I" } : Jvm.MethodName) prog_1_method_35_code (1 : Nat) (Option.some Jvm.ClassFile.FieldType.int)) ∈ lw_all := lw_g (lw_at lw_m5 3 rfl) rfl
theorem q1040 : (Jvm.Cond.methodLink "PostChaiseYard" (238 : Nat) ({ cls := "java/util/PriorityQueue", name := "size", desc := "()I" } : Jvm.MethodName)) ∈ lw_all := lw_g (lw_at lw_m5 4 rfl) rfl
theorem q1045 : (Jvm.Cond.instanceMethod ({ cls := "PostChaiseYard", name := "whyNoDeparture", desc := "()I" } : Jvm.MethodName)) ∈ lw_all := lw_g (lw_at lw_m5 9 rfl) rfl
theorem q1046 : (Jvm.Cond.selects "PostChaiseYard" ({ cls := "PostChaiseYard", name := "whyNoDeparture", desc := "()I" } : Jvm.MethodName) ({ cls := "PostChaiseYard", name := "whyNoDeparture", desc := "()I" } : Jvm.MethodName)) ∈ lw_all := lw_g (lw_at lw_m5 10 rfl) rfl
theorem q1047 : (Jvm.Cond.code ({ cls := "PostChaiseYard", name := "whyNoDeparture", desc := "()I" } : Jvm.MethodName) prog_1_method_55_code (1 : Nat) (Option.some Jvm.ClassFile.FieldType.int)) ∈ lw_all := lw_g (lw_at lw_m5 11 rfl) rfl
theorem q1048 : (Jvm.Cond.methodLink "PostChaiseYard" (292 : Nat) ({ cls := "PostChaiseYard$State", name := "whyNoDeparture", desc := "()I" } : Jvm.MethodName)) ∈ lw_all := lw_g (lw_at lw_m5 12 rfl) rfl
theorem q1112 : (Jvm.Cond.instanceMethod ({ cls := "PostChaiseYard", name := "incomeByGuests", desc := "()I" } : Jvm.MethodName)) ∈ lw_all := lw_g (lw_at lw_m5 76 rfl) rfl
theorem q1113 : (Jvm.Cond.selects "PostChaiseYard" ({ cls := "PostChaiseYard", name := "incomeByGuests", desc := "()I" } : Jvm.MethodName) ({ cls := "PostChaiseYard", name := "incomeByGuests", desc := "()I" } : Jvm.MethodName)) ∈ lw_all := lw_g (lw_at lw_m5 77 rfl) rfl
theorem q1114 : (Jvm.Cond.code ({ cls := "PostChaiseYard", name := "incomeByGuests", desc := "()I" } : Jvm.MethodName) prog_1_method_58_code (3 : Nat) (Option.some Jvm.ClassFile.FieldType.int)) ∈ lw_all := lw_g (lw_at lw_m5 78 rfl) rfl
theorem q1115 : (Jvm.Cond.methodLink "PostChaiseYard" (298 : Nat) ({ cls := "PostChaiseYard$State", name := "hasDeparted", desc := "(I)Z" } : Jvm.MethodName)) ∈ lw_all := lw_g (lw_at lw_m5 79 rfl) rfl
theorem q1123 : (Jvm.Cond.interfaceEntry "PostChaiseYard" (89 : Nat)) ∈ lw_tbl := lw_at lw_m5 87 rfl
theorem q1124 : (Jvm.Cond.methodLink "PostChaiseYard" (89 : Nat) ({ cls := "java/util/List", name := "get", desc := "(I)Ljava/lang/Object;" } : Jvm.MethodName)) ∈ lw_all := lw_g (lw_at lw_m5 88 rfl) rfl
theorem q1125 : (Jvm.Cond.classLink "PostChaiseYard" (93 : Nat) "PostChaiseYard$Guest") ∈ lw_all := lw_g (lw_at lw_m5 89 rfl) rfl
theorem q1126 : (Jvm.Cond.methodLink "PostChaiseYard" (231 : Nat) ({ cls := "PostChaiseYard$Guest", name := "fare", desc := "()I" } : Jvm.MethodName)) ∈ lw_all := lw_g (lw_at lw_m5 90 rfl) rfl
theorem q1131 : (Jvm.Cond.static ({ cls := "PostChaiseYard", name := "milesOf", desc := "(I)I" } : Jvm.MethodName)) ∈ lw_all := lw_g (lw_at lw_m5 95 rfl) rfl
theorem q1132 : (Jvm.Cond.code ({ cls := "PostChaiseYard", name := "milesOf", desc := "(I)I" } : Jvm.MethodName) prog_1_method_2_code (1 : Nat) (Option.some Jvm.ClassFile.FieldType.int)) ∈ lw_all := lw_g (lw_at lw_m5 96 rfl) rfl
theorem q1134 : (Jvm.Cond.instanceMethod ({ cls := "PostChaiseYard", name := "incomeByRoads", desc := "()I" } : Jvm.MethodName)) ∈ lw_all := lw_g (lw_at lw_m5 98 rfl) rfl
theorem q1135 : (Jvm.Cond.selects "PostChaiseYard" ({ cls := "PostChaiseYard", name := "incomeByRoads", desc := "()I" } : Jvm.MethodName) ({ cls := "PostChaiseYard", name := "incomeByRoads", desc := "()I" } : Jvm.MethodName)) ∈ lw_all := lw_g (lw_at lw_m5 99 rfl) rfl
theorem q1136 : (Jvm.Cond.code ({ cls := "PostChaiseYard", name := "incomeByRoads", desc := "()I" } : Jvm.MethodName) prog_1_method_59_code (3 : Nat) (Option.some Jvm.ClassFile.FieldType.int)) ∈ lw_all := lw_g (lw_at lw_m5 100 rfl) rfl
theorem q1137 : (Jvm.Cond.methodLink "PostChaiseYard" (305 : Nat) ({ cls := "java/lang/Integer", name := "valueOf", desc := "(I)Ljava/lang/Integer;" } : Jvm.MethodName)) ∈ lw_all := lw_g (lw_at lw_m5 101 rfl) rfl
theorem q1138 : (Jvm.Cond.methodLink "PostChaiseYard" (311 : Nat) ({ cls := "java/util/TreeMap", name := "get", desc := "(Ljava/lang/Object;)Ljava/lang/Object;" } : Jvm.MethodName)) ∈ lw_all := lw_g (lw_at lw_m5 102 rfl) rfl
theorem q1150 : (Jvm.Cond.classLink "PostChaiseYard" (306 : Nat) "java/lang/Integer") ∈ lw_all := lw_g (lw_at lw_m5 114 rfl) rfl
theorem q1151 : (Jvm.Cond.methodLink "PostChaiseYard" (316 : Nat) ({ cls := "java/lang/Integer", name := "intValue", desc := "()I" } : Jvm.MethodName)) ∈ lw_all := lw_g (lw_at lw_m5 115 rfl) rfl
theorem q1156 : (Jvm.Cond.instanceMethod ({ cls := "PostChaiseYard", name := "spentOnPoles", desc := "()I" } : Jvm.MethodName)) ∈ lw_all := lw_g (lw_at lw_m5 120 rfl) rfl
theorem q1157 : (Jvm.Cond.selects "PostChaiseYard" ({ cls := "PostChaiseYard", name := "spentOnPoles", desc := "()I" } : Jvm.MethodName) ({ cls := "PostChaiseYard", name := "spentOnPoles", desc := "()I" } : Jvm.MethodName)) ∈ lw_all := lw_g (lw_at lw_m5 121 rfl) rfl
theorem q1158 : (Jvm.Cond.code ({ cls := "PostChaiseYard", name := "spentOnPoles", desc := "()I" } : Jvm.MethodName) prog_1_method_61_code (1 : Nat) (Option.some Jvm.ClassFile.FieldType.int)) ∈ lw_all := lw_g (lw_at lw_m5 122 rfl) rfl
theorem q1160 : (Jvm.Cond.instanceMethod ({ cls := "PostChaiseYard", name := "milesByPairs", desc := "()I" } : Jvm.MethodName)) ∈ lw_all := lw_g (lw_at lw_m5 124 rfl) rfl
theorem q1161 : (Jvm.Cond.selects "PostChaiseYard" ({ cls := "PostChaiseYard", name := "milesByPairs", desc := "()I" } : Jvm.MethodName) ({ cls := "PostChaiseYard", name := "milesByPairs", desc := "()I" } : Jvm.MethodName)) ∈ lw_all := lw_g (lw_at lw_m5 125 rfl) rfl
theorem q1162 : (Jvm.Cond.code ({ cls := "PostChaiseYard", name := "milesByPairs", desc := "()I" } : Jvm.MethodName) prog_1_method_62_code (3 : Nat) (Option.some Jvm.ClassFile.FieldType.int)) ∈ lw_all := lw_g (lw_at lw_m5 126 rfl) rfl
theorem q1163 : (Jvm.Cond.classLink "PostChaiseYard" (98 : Nat) "PostChaiseYard$Pair") ∈ lw_all := lw_g (lw_at lw_m5 127 rfl) rfl
theorem q1165 : (Jvm.Cond.instanceMethod ({ cls := "PostChaiseYard", name := "milesByChaises", desc := "()I" } : Jvm.MethodName)) ∈ lw_all := lw_g (lw_at lw_m5 129 rfl) rfl
theorem q1166 : (Jvm.Cond.selects "PostChaiseYard" ({ cls := "PostChaiseYard", name := "milesByChaises", desc := "()I" } : Jvm.MethodName) ({ cls := "PostChaiseYard", name := "milesByChaises", desc := "()I" } : Jvm.MethodName)) ∈ lw_all := lw_g (lw_at lw_m5 130 rfl) rfl
theorem q1167 : (Jvm.Cond.code ({ cls := "PostChaiseYard", name := "milesByChaises", desc := "()I" } : Jvm.MethodName) prog_1_method_63_code (3 : Nat) (Option.some Jvm.ClassFile.FieldType.int)) ∈ lw_all := lw_g (lw_at lw_m5 131 rfl) rfl
theorem q1168 : (Jvm.Cond.classLink "PostChaiseYard" (108 : Nat) "PostChaiseYard$Chaise") ∈ lw_all := lw_g (lw_at lw_m5 132 rfl) rfl
theorem q1170 : (Jvm.Cond.instanceMethod ({ cls := "PostChaiseYard", name := "brokenPoles", desc := "()I" } : Jvm.MethodName)) ∈ lw_all := lw_g (lw_at lw_m5 134 rfl) rfl
theorem q1171 : (Jvm.Cond.selects "PostChaiseYard" ({ cls := "PostChaiseYard", name := "brokenPoles", desc := "()I" } : Jvm.MethodName) ({ cls := "PostChaiseYard", name := "brokenPoles", desc := "()I" } : Jvm.MethodName)) ∈ lw_all := lw_g (lw_at lw_m5 135 rfl) rfl
theorem q1172 : (Jvm.Cond.code ({ cls := "PostChaiseYard", name := "brokenPoles", desc := "()I" } : Jvm.MethodName) prog_1_method_64_code (1 : Nat) (Option.some Jvm.ClassFile.FieldType.int)) ∈ lw_all := lw_g (lw_at lw_m5 136 rfl) rfl
theorem q1174 : (Jvm.Cond.instanceMethod ({ cls := "PostChaiseYard", name := "meanWait", desc := "()D" } : Jvm.MethodName)) ∈ lw_all := lw_g (lw_at lw_m5 138 rfl) rfl
theorem q1175 : (Jvm.Cond.selects "PostChaiseYard" ({ cls := "PostChaiseYard", name := "meanWait", desc := "()D" } : Jvm.MethodName) ({ cls := "PostChaiseYard", name := "meanWait", desc := "()D" } : Jvm.MethodName)) ∈ lw_all := lw_g (lw_at lw_m5 139 rfl) rfl
theorem q1176 : (Jvm.Cond.code ({ cls := "PostChaiseYard", name := "meanWait", desc := "()D" } : Jvm.MethodName) prog_1_method_65_code (4 : Nat) (Option.some Jvm.ClassFile.FieldType.double)) ∈ lw_all := lw_g (lw_at lw_m5 140 rfl) rfl
theorem q1178 : (Jvm.Cond.instanceMethod ({ cls := "PostChaiseYard", name := "clearText", desc := "()I" } : Jvm.MethodName)) ∈ lw_all := lw_g (lw_at lw_m5 142 rfl) rfl
theorem q1179 : (Jvm.Cond.selects "PostChaiseYard" ({ cls := "PostChaiseYard", name := "clearText", desc := "()I" } : Jvm.MethodName) ({ cls := "PostChaiseYard", name := "clearText", desc := "()I" } : Jvm.MethodName)) ∈ lw_all := lw_g (lw_at lw_m5 143 rfl) rfl
theorem q1180 : (Jvm.Cond.code ({ cls := "PostChaiseYard", name := "clearText", desc := "()I" } : Jvm.MethodName) prog_1_method_67_code (2 : Nat) (Option.some Jvm.ClassFile.FieldType.int)) ∈ lw_all := lw_g (lw_at lw_m5 144 rfl) rfl
theorem q1181 : (Jvm.Cond.methodLink "PostChaiseYard" (329 : Nat) ({ cls := "java/lang/StringBuilder", name := "length", desc := "()I" } : Jvm.MethodName)) ∈ lw_all := lw_g (lw_at lw_m5 145 rfl) rfl
theorem q1188 : (Jvm.Cond.methodLink "PostChaiseYard" (336 : Nat) ({ cls := "java/lang/StringBuilder", name := "setLength", desc := "(I)V" } : Jvm.MethodName)) ∈ lw_all := lw_g (lw_at lw_m5 152 rfl) rfl
theorem q1431 : (Jvm.Cond.instanceMethod ({ cls := "PostChaiseYard", name := "textLength", desc := "()I" } : Jvm.MethodName)) ∈ lw_all := lw_g (lw_at lw_m6 155 rfl) rfl
theorem q1432 : (Jvm.Cond.selects "PostChaiseYard" ({ cls := "PostChaiseYard", name := "textLength", desc := "()I" } : Jvm.MethodName) ({ cls := "PostChaiseYard", name := "textLength", desc := "()I" } : Jvm.MethodName)) ∈ lw_all := lw_g (lw_at lw_m6 156 rfl) rfl
theorem q1433 : (Jvm.Cond.code ({ cls := "PostChaiseYard", name := "textLength", desc := "()I" } : Jvm.MethodName) prog_1_method_68_code (1 : Nat) (Option.some Jvm.ClassFile.FieldType.int)) ∈ lw_all := lw_g (lw_at lw_m6 157 rfl) rfl
theorem q1435 : (Jvm.Cond.instanceMethod ({ cls := "PostChaiseYard", name := "isValid", desc := "()Z" } : Jvm.MethodName)) ∈ lw_all := lw_g (lw_at lw_m6 159 rfl) rfl
theorem q1436 : (Jvm.Cond.selects "PostChaiseYard" ({ cls := "PostChaiseYard", name := "isValid", desc := "()Z" } : Jvm.MethodName) ({ cls := "PostChaiseYard", name := "isValid", desc := "()Z" } : Jvm.MethodName)) ∈ lw_all := lw_g (lw_at lw_m6 160 rfl) rfl
theorem q1437 : (Jvm.Cond.code ({ cls := "PostChaiseYard", name := "isValid", desc := "()Z" } : Jvm.MethodName) prog_1_method_69_code (1 : Nat) (Option.some Jvm.ClassFile.FieldType.boolean)) ∈ lw_all := lw_g (lw_at lw_m6 161 rfl) rfl
theorem q1438 : (Jvm.Cond.classLink "PostChaiseYard" (340 : Nat) "PostChaiseYard$TextReader") ∈ lw_all := lw_g (lw_at lw_m6 162 rfl) rfl
theorem q1440 : (Jvm.Cond.methodLinkNest "PostChaiseYard" (342 : Nat) ({ cls := "PostChaiseYard$TextReader", name := "<init>", desc := "(LPostChaiseYard;)V" } : Jvm.MethodName) "PostChaiseYard") ∈ lw_tbl := lw_at lw_m6 164 rfl
theorem q1445 : (Jvm.Cond.fieldLinkNest "PostChaiseYard" (348 : Nat) "PostChaiseYard$TextReader" "place" "I" "PostChaiseYard") ∈ lw_tbl := lw_at lw_m6 169 rfl
theorem q1455 : (Jvm.Cond.methodLink "PostChaiseYard" (345 : Nat) ({ cls := "PostChaiseYard$TextReader", name := "readAll", desc := "()Z" } : Jvm.MethodName)) ∈ lw_all := lw_g (lw_at lw_m6 179 rfl) rfl
theorem q1614 : (Jvm.Cond.instanceMethod ({ cls := "PostChaiseYard", name := "errorPosition", desc := "()I" } : Jvm.MethodName)) ∈ lw_all := lw_g (lw_at lw_m7 98 rfl) rfl
theorem q1615 : (Jvm.Cond.selects "PostChaiseYard" ({ cls := "PostChaiseYard", name := "errorPosition", desc := "()I" } : Jvm.MethodName) ({ cls := "PostChaiseYard", name := "errorPosition", desc := "()I" } : Jvm.MethodName)) ∈ lw_all := lw_g (lw_at lw_m7 99 rfl) rfl
theorem q1616 : (Jvm.Cond.code ({ cls := "PostChaiseYard", name := "errorPosition", desc := "()I" } : Jvm.MethodName) prog_1_method_70_code (2 : Nat) (Option.some Jvm.ClassFile.FieldType.int)) ∈ lw_all := lw_g (lw_at lw_m7 100 rfl) rfl
theorem q1618 : (Jvm.Cond.instanceMethod ({ cls := "PostChaiseYard", name := "savedStates", desc := "()I" } : Jvm.MethodName)) ∈ lw_all := lw_g (lw_at lw_m7 102 rfl) rfl
theorem q1619 : (Jvm.Cond.selects "PostChaiseYard" ({ cls := "PostChaiseYard", name := "savedStates", desc := "()I" } : Jvm.MethodName) ({ cls := "PostChaiseYard", name := "savedStates", desc := "()I" } : Jvm.MethodName)) ∈ lw_all := lw_g (lw_at lw_m7 103 rfl) rfl
theorem q1620 : (Jvm.Cond.code ({ cls := "PostChaiseYard", name := "savedStates", desc := "()I" } : Jvm.MethodName) prog_1_method_73_code (1 : Nat) (Option.some Jvm.ClassFile.FieldType.int)) ∈ lw_all := lw_g (lw_at lw_m7 104 rfl) rfl
theorem q1621 : (Jvm.Cond.methodLink "PostChaiseYard" (50 : Nat) ({ cls := "java/util/ArrayDeque", name := "size", desc := "()I" } : Jvm.MethodName)) ∈ lw_all := lw_g (lw_at lw_m7 105 rfl) rfl
theorem q1623 : (Jvm.Cond.instanceMethod ({ cls := "PostChaiseYard", name := "takeSnapshot", desc := "()I" } : Jvm.MethodName)) ∈ lw_all := lw_g (lw_at lw_m7 107 rfl) rfl
theorem q1624 : (Jvm.Cond.selects "PostChaiseYard" ({ cls := "PostChaiseYard", name := "takeSnapshot", desc := "()I" } : Jvm.MethodName) ({ cls := "PostChaiseYard", name := "takeSnapshot", desc := "()I" } : Jvm.MethodName)) ∈ lw_all := lw_g (lw_at lw_m7 108 rfl) rfl
theorem q1625 : (Jvm.Cond.code ({ cls := "PostChaiseYard", name := "takeSnapshot", desc := "()I" } : Jvm.MethodName) prog_1_method_74_code (1 : Nat) (Option.some Jvm.ClassFile.FieldType.int)) ∈ lw_all := lw_g (lw_at lw_m7 109 rfl) rfl
theorem q1626 : (Jvm.Cond.methodLink "PostChaiseYard" (58 : Nat) ({ cls := "PostChaiseYard$State", name := "copy", desc := "()LPostChaiseYard$State;" } : Jvm.MethodName)) ∈ lw_all := lw_g (lw_at lw_m7 110 rfl) rfl
theorem q1708 : (Jvm.Cond.fieldLink "PostChaiseYard" (272 : Nat) "PostChaiseYard$Trip" "guest" "LPostChaiseYard$Guest;") ∈ lw_all := lw_g (lw_at lw_m7 192 rfl) rfl
theorem q1719 : (Jvm.Cond.fieldLink "PostChaiseYard" (277 : Nat) "PostChaiseYard$Trip" "left" "I") ∈ lw_all := lw_g (lw_at lw_m7 203 rfl) rfl
theorem q1744 : (Jvm.Cond.instanceMethod ({ cls := "PostChaiseYard", name := "arrive", desc := "(II)I" } : Jvm.MethodName)) ∈ lw_all := lw_g (lw_at lw_m7 228 rfl) rfl
theorem q1745 : (Jvm.Cond.selects "PostChaiseYard" ({ cls := "PostChaiseYard", name := "arrive", desc := "(II)I" } : Jvm.MethodName) ({ cls := "PostChaiseYard", name := "arrive", desc := "(II)I" } : Jvm.MethodName)) ∈ lw_all := lw_g (lw_at lw_m7 229 rfl) rfl
theorem q1746 : (Jvm.Cond.code ({ cls := "PostChaiseYard", name := "arrive", desc := "(II)I" } : Jvm.MethodName) prog_1_method_13_code (3 : Nat) (Option.some Jvm.ClassFile.FieldType.int)) ∈ lw_all := lw_g (lw_at lw_m7 230 rfl) rfl
theorem q1747 : (Jvm.Cond.methodLink "PostChaiseYard" (110 : Nat) ({ cls := "PostChaiseYard", name := "checkRange", desc := "(III)V" } : Jvm.MethodName)) ∈ lw_all := lw_g (lw_at lw_m7 231 rfl) rfl
theorem q1748 : (Jvm.Cond.static ({ cls := "PostChaiseYard", name := "checkRange", desc := "(III)V" } : Jvm.MethodName)) ∈ lw_all := lw_g (lw_at lw_m7 232 rfl) rfl
theorem q1749 : (Jvm.Cond.code ({ cls := "PostChaiseYard", name := "checkRange", desc := "(III)V" } : Jvm.MethodName) prog_1_method_6_code (3 : Nat) (Option.none : Option Jvm.ClassFile.FieldType)) ∈ lw_all := lw_g (lw_at lw_m7 233 rfl) rfl
theorem q1750 : (Jvm.Cond.classLink "PostChaiseYard" (69 : Nat) "java/lang/IllegalArgumentException") ∈ lw_all := lw_g (lw_at lw_m7 234 rfl) rfl
theorem q1751 : (Jvm.Cond.methodLink "PostChaiseYard" (71 : Nat) ({ cls := "java/lang/IllegalArgumentException", name := "<init>", desc := "()V" } : Jvm.MethodName)) ∈ lw_all := lw_g (lw_at lw_m7 235 rfl) rfl
theorem q1752 : (Jvm.Cond.methodLink "PostChaiseYard" (85 : Nat) ({ cls := "PostChaiseYard", name := "checkNumber", desc := "(II)V" } : Jvm.MethodName)) ∈ lw_all := lw_g (lw_at lw_m7 236 rfl) rfl
theorem q1753 : (Jvm.Cond.static ({ cls := "PostChaiseYard", name := "checkNumber", desc := "(II)V" } : Jvm.MethodName)) ∈ lw_all := lw_g (lw_at lw_m7 237 rfl) rfl
theorem q1754 : (Jvm.Cond.code ({ cls := "PostChaiseYard", name := "checkNumber", desc := "(II)V" } : Jvm.MethodName) prog_1_method_5_code (2 : Nat) (Option.none : Option Jvm.ClassFile.FieldType)) ∈ lw_all := lw_g (lw_at lw_m7 238 rfl) rfl
theorem q1755 : (Jvm.Cond.classLink "PostChaiseYard" (66 : Nat) "java/lang/IndexOutOfBoundsException") ∈ lw_all := lw_g (lw_at lw_m7 239 rfl) rfl
theorem q1764 : (Jvm.Cond.methodLink "PostChaiseYard" (68 : Nat) ({ cls := "java/lang/IndexOutOfBoundsException", name := "<init>", desc := "()V" } : Jvm.MethodName)) ∈ lw_all := lw_g (lw_at lw_m8 8 rfl) rfl
theorem q1770 : (Jvm.Cond.methodLink "PostChaiseYard" (114 : Nat) ({ cls := "PostChaiseYard$State", name := "canArrive", desc := "()Z" } : Jvm.MethodName)) ∈ lw_all := lw_g (lw_at lw_m8 14 rfl) rfl
theorem q1774 : (Jvm.Cond.methodLink "PostChaiseYard" (118 : Nat) ({ cls := "PostChaiseYard", name := "checkState", desc := "(Z)V" } : Jvm.MethodName)) ∈ lw_all := lw_g (lw_at lw_m8 18 rfl) rfl
theorem q1775 : (Jvm.Cond.static ({ cls := "PostChaiseYard", name := "checkState", desc := "(Z)V" } : Jvm.MethodName)) ∈ lw_all := lw_g (lw_at lw_m8 19 rfl) rfl
theorem q1776 : (Jvm.Cond.code ({ cls := "PostChaiseYard", name := "checkState", desc := "(Z)V" } : Jvm.MethodName) prog_1_method_7_code (1 : Nat) (Option.none : Option Jvm.ClassFile.FieldType)) ∈ lw_all := lw_g (lw_at lw_m8 20 rfl) rfl
theorem q1777 : (Jvm.Cond.classLink "PostChaiseYard" (72 : Nat) "java/lang/IllegalStateException") ∈ lw_all := lw_g (lw_at lw_m8 21 rfl) rfl
theorem q1786 : (Jvm.Cond.methodLink "PostChaiseYard" (74 : Nat) ({ cls := "java/lang/IllegalStateException", name := "<init>", desc := "()V" } : Jvm.MethodName)) ∈ lw_all := lw_g (lw_at lw_m8 30 rfl) rfl
theorem q1792 : (Jvm.Cond.methodLink "PostChaiseYard" (122 : Nat) ({ cls := "PostChaiseYard", name := "save", desc := "()V" } : Jvm.MethodName)) ∈ lw_all := lw_g (lw_at lw_m8 36 rfl) rfl
theorem q1793 : (Jvm.Cond.privateMethod ({ cls := "PostChaiseYard", name := "save", desc := "()V" } : Jvm.MethodName)) ∈ lw_tbl := lw_at lw_m8 37 rfl
theorem q1794 : (Jvm.Cond.instanceMethod ({ cls := "PostChaiseYard", name := "save", desc := "()V" } : Jvm.MethodName)) ∈ lw_all := lw_g (lw_at lw_m8 38 rfl) rfl
theorem q1795 : (Jvm.Cond.code ({ cls := "PostChaiseYard", name := "save", desc := "()V" } : Jvm.MethodName) prog_1_method_4_code (1 : Nat) (Option.none : Option Jvm.ClassFile.FieldType)) ∈ lw_all := lw_g (lw_at lw_m8 39 rfl) rfl
theorem q1796 : (Jvm.Cond.methodLink "PostChaiseYard" (54 : Nat) ({ cls := "java/util/ArrayDeque", name := "removeFirst", desc := "()Ljava/lang/Object;" } : Jvm.MethodName)) ∈ lw_all := lw_g (lw_at lw_m8 40 rfl) rfl
theorem q1825 : (Jvm.Cond.methodLink "PostChaiseYard" (62 : Nat) ({ cls := "java/util/ArrayDeque", name := "addLast", desc := "(Ljava/lang/Object;)V" } : Jvm.MethodName)) ∈ lw_all := lw_g (lw_at lw_m8 69 rfl) rfl
theorem q1847 : (Jvm.Cond.methodLink "PostChaiseYard" (125 : Nat) ({ cls := "PostChaiseYard$State", name := "arrive", desc := "(II)I" } : Jvm.MethodName)) ∈ lw_all := lw_g (lw_at lw_m8 91 rfl) rfl
theorem q1858 : (Jvm.Cond.fieldLink "PostChaiseYard" (216 : Nat) "PostChaiseYard$Guest" "number" "I") ∈ lw_all := lw_g (lw_at lw_m8 102 rfl) rfl
theorem q1861 : (Jvm.Cond.fieldLink "PostChaiseYard" (206 : Nat) "PostChaiseYard$Guest" "rank" "I") ∈ lw_all := lw_g (lw_at lw_m8 105 rfl) rfl
theorem q1864 : (Jvm.Cond.fieldLink "PostChaiseYard" (209 : Nat) "PostChaiseYard$Guest" "road" "I") ∈ lw_all := lw_g (lw_at lw_m8 108 rfl) rfl
theorem q1880 : (Jvm.Cond.instanceMethod ({ cls := "PostChaiseYard", name := "giveUp", desc := "(I)I" } : Jvm.MethodName)) ∈ lw_all := lw_g (lw_at lw_m8 124 rfl) rfl
theorem q1881 : (Jvm.Cond.selects "PostChaiseYard" ({ cls := "PostChaiseYard", name := "giveUp", desc := "(I)I" } : Jvm.MethodName) ({ cls := "PostChaiseYard", name := "giveUp", desc := "(I)I" } : Jvm.MethodName)) ∈ lw_all := lw_g (lw_at lw_m8 125 rfl) rfl
theorem q1882 : (Jvm.Cond.code ({ cls := "PostChaiseYard", name := "giveUp", desc := "(I)I" } : Jvm.MethodName) prog_1_method_14_code (2 : Nat) (Option.some Jvm.ClassFile.FieldType.int)) ∈ lw_all := lw_g (lw_at lw_m8 126 rfl) rfl
theorem q1883 : (Jvm.Cond.fieldLink "PostChaiseYard" (129 : Nat) "PostChaiseYard$Status" "WAITS" "LPostChaiseYard$Status;") ∈ lw_all := lw_g (lw_at lw_m8 127 rfl) rfl
theorem q1884 : (Jvm.Cond.methodLink "PostChaiseYard" (135 : Nat) ({ cls := "PostChaiseYard", name := "isStatus", desc := "(ILPostChaiseYard$Status;)Z" } : Jvm.MethodName)) ∈ lw_all := lw_g (lw_at lw_m8 128 rfl) rfl
theorem q1885 : (Jvm.Cond.privateMethod ({ cls := "PostChaiseYard", name := "isStatus", desc := "(ILPostChaiseYard$Status;)Z" } : Jvm.MethodName)) ∈ lw_tbl := lw_at lw_m8 129 rfl
theorem q1886 : (Jvm.Cond.instanceMethod ({ cls := "PostChaiseYard", name := "isStatus", desc := "(ILPostChaiseYard$Status;)Z" } : Jvm.MethodName)) ∈ lw_all := lw_g (lw_at lw_m8 130 rfl) rfl
theorem q1887 : (Jvm.Cond.code ({ cls := "PostChaiseYard", name := "isStatus", desc := "(ILPostChaiseYard$Status;)Z" } : Jvm.MethodName) prog_1_method_28_code (3 : Nat) (Option.some Jvm.ClassFile.FieldType.boolean)) ∈ lw_all := lw_g (lw_at lw_m8 131 rfl) rfl
theorem q1888 : (Jvm.Cond.methodLink "PostChaiseYard" (202 : Nat) ({ cls := "PostChaiseYard", name := "guest", desc := "(I)LPostChaiseYard$Guest;" } : Jvm.MethodName)) ∈ lw_all := lw_g (lw_at lw_m8 132 rfl) rfl
theorem q1889 : (Jvm.Cond.privateMethod ({ cls := "PostChaiseYard", name := "guest", desc := "(I)LPostChaiseYard$Guest;" } : Jvm.MethodName)) ∈ lw_tbl := lw_at lw_m8 133 rfl
theorem q1890 : (Jvm.Cond.instanceMethod ({ cls := "PostChaiseYard", name := "guest", desc := "(I)LPostChaiseYard$Guest;" } : Jvm.MethodName)) ∈ lw_all := lw_g (lw_at lw_m8 134 rfl) rfl
theorem q1891 : (Jvm.Cond.code ({ cls := "PostChaiseYard", name := "guest", desc := "(I)LPostChaiseYard$Guest;" } : Jvm.MethodName) prog_1_method_9_code (2 : Nat) (Option.some (Jvm.ClassFile.FieldType.object "PostChaiseYard$Guest"))) ∈ lw_all := lw_g (lw_at lw_m8 135 rfl) rfl
theorem q1892 : (Jvm.Cond.methodLink "PostChaiseYard" (139 : Nat) ({ cls := "PostChaiseYard$State", name := "giveUp", desc := "(I)I" } : Jvm.MethodName)) ∈ lw_all := lw_g (lw_at lw_m8 136 rfl) rfl
theorem q1902 : (Jvm.Cond.instanceMethod ({ cls := "PostChaiseYard", name := "pass", desc := "(I)I" } : Jvm.MethodName)) ∈ lw_all := lw_g (lw_at lw_m8 146 rfl) rfl
theorem q1903 : (Jvm.Cond.selects "PostChaiseYard" ({ cls := "PostChaiseYard", name := "pass", desc := "(I)I" } : Jvm.MethodName) ({ cls := "PostChaiseYard", name := "pass", desc := "(I)I" } : Jvm.MethodName)) ∈ lw_all := lw_g (lw_at lw_m8 147 rfl) rfl
theorem q1904 : (Jvm.Cond.code ({ cls := "PostChaiseYard", name := "pass", desc := "(I)I" } : Jvm.MethodName) prog_1_method_15_code (2 : Nat) (Option.some Jvm.ClassFile.FieldType.int)) ∈ lw_all := lw_g (lw_at lw_m8 148 rfl) rfl
theorem q1905 : (Jvm.Cond.methodLink "PostChaiseYard" (143 : Nat) ({ cls := "PostChaiseYard$State", name := "canPass", desc := "(I)Z" } : Jvm.MethodName)) ∈ lw_all := lw_g (lw_at lw_m8 149 rfl) rfl
theorem q1909 : (Jvm.Cond.methodLink "PostChaiseYard" (147 : Nat) ({ cls := "PostChaiseYard$State", name := "pass", desc := "(I)I" } : Jvm.MethodName)) ∈ lw_all := lw_g (lw_at lw_m8 153 rfl) rfl
theorem q2049 : (Jvm.Cond.static ({ cls := "PostChaiseYard", name := "quartersFor", desc := "(II)I" } : Jvm.MethodName)) ∈ lw_all := lw_g (lw_at lw_m9 53 rfl) rfl
theorem q2050 : (Jvm.Cond.code ({ cls := "PostChaiseYard", name := "quartersFor", desc := "(II)I" } : Jvm.MethodName) prog_1_method_3_code (2 : Nat) (Option.some Jvm.ClassFile.FieldType.int)) ∈ lw_all := lw_g (lw_at lw_m9 54 rfl) rfl
theorem q2067 : (Jvm.Cond.instanceMethod ({ cls := "PostChaiseYard", name := "addRest", desc := "(II)I" } : Jvm.MethodName)) ∈ lw_all := lw_g (lw_at lw_m9 71 rfl) rfl
theorem q2068 : (Jvm.Cond.selects "PostChaiseYard" ({ cls := "PostChaiseYard", name := "addRest", desc := "(II)I" } : Jvm.MethodName) ({ cls := "PostChaiseYard", name := "addRest", desc := "(II)I" } : Jvm.MethodName)) ∈ lw_all := lw_g (lw_at lw_m9 72 rfl) rfl
theorem q2069 : (Jvm.Cond.code ({ cls := "PostChaiseYard", name := "addRest", desc := "(II)I" } : Jvm.MethodName) prog_1_method_16_code (4 : Nat) (Option.some Jvm.ClassFile.FieldType.int)) ∈ lw_all := lw_g (lw_at lw_m9 73 rfl) rfl
theorem q2070 : (Jvm.Cond.methodLink "PostChaiseYard" (150 : Nat) ({ cls := "PostChaiseYard", name := "pair", desc := "(I)LPostChaiseYard$Pair;" } : Jvm.MethodName)) ∈ lw_all := lw_g (lw_at lw_m9 74 rfl) rfl
theorem q2071 : (Jvm.Cond.privateMethod ({ cls := "PostChaiseYard", name := "pair", desc := "(I)LPostChaiseYard$Pair;" } : Jvm.MethodName)) ∈ lw_tbl := lw_at lw_m9 75 rfl
theorem q2072 : (Jvm.Cond.instanceMethod ({ cls := "PostChaiseYard", name := "pair", desc := "(I)LPostChaiseYard$Pair;" } : Jvm.MethodName)) ∈ lw_all := lw_g (lw_at lw_m9 76 rfl) rfl
theorem q2073 : (Jvm.Cond.code ({ cls := "PostChaiseYard", name := "pair", desc := "(I)LPostChaiseYard$Pair;" } : Jvm.MethodName) prog_1_method_10_code (2 : Nat) (Option.some (Jvm.ClassFile.FieldType.object "PostChaiseYard$Pair"))) ∈ lw_all := lw_g (lw_at lw_m9 77 rfl) rfl
theorem q2078 : (Jvm.Cond.instanceMethod ({ cls := "PostChaiseYard", name := "sendToBed", desc := "(I)I" } : Jvm.MethodName)) ∈ lw_all := lw_g (lw_at lw_m9 82 rfl) rfl
theorem q2079 : (Jvm.Cond.selects "PostChaiseYard" ({ cls := "PostChaiseYard", name := "sendToBed", desc := "(I)I" } : Jvm.MethodName) ({ cls := "PostChaiseYard", name := "sendToBed", desc := "(I)I" } : Jvm.MethodName)) ∈ lw_all := lw_g (lw_at lw_m9 83 rfl) rfl
theorem q2080 : (Jvm.Cond.code ({ cls := "PostChaiseYard", name := "sendToBed", desc := "(I)I" } : Jvm.MethodName) prog_1_method_17_code (2 : Nat) (Option.some Jvm.ClassFile.FieldType.int)) ∈ lw_all := lw_g (lw_at lw_m9 84 rfl) rfl
theorem q2081 : (Jvm.Cond.methodLink "PostChaiseYard" (165 : Nat) ({ cls := "PostChaiseYard", name := "boy", desc := "(I)LPostChaiseYard$Boy;" } : Jvm.MethodName)) ∈ lw_all := lw_g (lw_at lw_m9 85 rfl) rfl
theorem q2082 : (Jvm.Cond.privateMethod ({ cls := "PostChaiseYard", name := "boy", desc := "(I)LPostChaiseYard$Boy;" } : Jvm.MethodName)) ∈ lw_tbl := lw_at lw_m9 86 rfl
theorem q2083 : (Jvm.Cond.instanceMethod ({ cls := "PostChaiseYard", name := "boy", desc := "(I)LPostChaiseYard$Boy;" } : Jvm.MethodName)) ∈ lw_all := lw_g (lw_at lw_m9 87 rfl) rfl
theorem q2084 : (Jvm.Cond.code ({ cls := "PostChaiseYard", name := "boy", desc := "(I)LPostChaiseYard$Boy;" } : Jvm.MethodName) prog_1_method_11_code (2 : Nat) (Option.some (Jvm.ClassFile.FieldType.object "PostChaiseYard$Boy"))) ∈ lw_all := lw_g (lw_at lw_m9 88 rfl) rfl
theorem q2085 : (Jvm.Cond.classLink "PostChaiseYard" (103 : Nat) "PostChaiseYard$Boy") ∈ lw_all := lw_g (lw_at lw_m9 89 rfl) rfl
theorem q2086 : (Jvm.Cond.interfaceEntry "PostChaiseYard" (169 : Nat)) ∈ lw_tbl := lw_at lw_m9 90 rfl
theorem q2087 : (Jvm.Cond.methodLink "PostChaiseYard" (169 : Nat) ({ cls := "java/util/List", name := "indexOf", desc := "(Ljava/lang/Object;)I" } : Jvm.MethodName)) ∈ lw_all := lw_g (lw_at lw_m9 91 rfl) rfl
theorem q2103 : (Jvm.Cond.selects "PostChaiseYard" ({ cls := "java/lang/Object", name := "equals", desc := "(Ljava/lang/Object;)Z" } : Jvm.MethodName) ({ cls := "java/lang/Object", name := "equals", desc := "(Ljava/lang/Object;)Z" } : Jvm.MethodName)) ∈ lw_all := lw_g (lw_at lw_m9 107 rfl) rfl
theorem q2131 : (Jvm.Cond.methodLink "PostChaiseYard" (173 : Nat) ({ cls := "PostChaiseYard$State", name := "sendToBed", desc := "(I)I" } : Jvm.MethodName)) ∈ lw_all := lw_g (lw_at lw_m9 135 rfl) rfl
theorem q2141 : (Jvm.Cond.instanceMethod ({ cls := "PostChaiseYard", name := "callBoy", desc := "(I)I" } : Jvm.MethodName)) ∈ lw_all := lw_g (lw_at lw_m9 145 rfl) rfl
theorem q2142 : (Jvm.Cond.selects "PostChaiseYard" ({ cls := "PostChaiseYard", name := "callBoy", desc := "(I)I" } : Jvm.MethodName) ({ cls := "PostChaiseYard", name := "callBoy", desc := "(I)I" } : Jvm.MethodName)) ∈ lw_all := lw_g (lw_at lw_m9 146 rfl) rfl
theorem q2143 : (Jvm.Cond.code ({ cls := "PostChaiseYard", name := "callBoy", desc := "(I)I" } : Jvm.MethodName) prog_1_method_18_code (2 : Nat) (Option.some Jvm.ClassFile.FieldType.int)) ∈ lw_all := lw_g (lw_at lw_m9 147 rfl) rfl
theorem q2144 : (Jvm.Cond.methodLink "PostChaiseYard" (179 : Nat) ({ cls := "PostChaiseYard$State", name := "callBoy", desc := "(I)I" } : Jvm.MethodName)) ∈ lw_all := lw_g (lw_at lw_m9 148 rfl) rfl
theorem q2152 : (Jvm.Cond.instanceMethod ({ cls := "PostChaiseYard", name := "putOnPole", desc := "(I)I" } : Jvm.MethodName)) ∈ lw_all := lw_g (lw_at lw_m9 156 rfl) rfl
theorem q2153 : (Jvm.Cond.selects "PostChaiseYard" ({ cls := "PostChaiseYard", name := "putOnPole", desc := "(I)I" } : Jvm.MethodName) ({ cls := "PostChaiseYard", name := "putOnPole", desc := "(I)I" } : Jvm.MethodName)) ∈ lw_all := lw_g (lw_at lw_m9 157 rfl) rfl
theorem q2154 : (Jvm.Cond.code ({ cls := "PostChaiseYard", name := "putOnPole", desc := "(I)I" } : Jvm.MethodName) prog_1_method_19_code (2 : Nat) (Option.some Jvm.ClassFile.FieldType.int)) ∈ lw_all := lw_g (lw_at lw_m9 158 rfl) rfl
theorem q2155 : (Jvm.Cond.methodLink "PostChaiseYard" (182 : Nat) ({ cls := "PostChaiseYard", name := "chaise", desc := "(I)LPostChaiseYard$Chaise;" } : Jvm.MethodName)) ∈ lw_all := lw_g (lw_at lw_m9 159 rfl) rfl
theorem q2156 : (Jvm.Cond.privateMethod ({ cls := "PostChaiseYard", name := "chaise", desc := "(I)LPostChaiseYard$Chaise;" } : Jvm.MethodName)) ∈ lw_tbl := lw_at lw_m9 160 rfl
theorem q2157 : (Jvm.Cond.instanceMethod ({ cls := "PostChaiseYard", name := "chaise", desc := "(I)LPostChaiseYard$Chaise;" } : Jvm.MethodName)) ∈ lw_all := lw_g (lw_at lw_m9 161 rfl) rfl
theorem q2158 : (Jvm.Cond.code ({ cls := "PostChaiseYard", name := "chaise", desc := "(I)LPostChaiseYard$Chaise;" } : Jvm.MethodName) prog_1_method_12_code (2 : Nat) (Option.some (Jvm.ClassFile.FieldType.object "PostChaiseYard$Chaise"))) ∈ lw_all := lw_g (lw_at lw_m9 162 rfl) rfl
theorem q2159 : (Jvm.Cond.methodLink "PostChaiseYard" (190 : Nat) ({ cls := "PostChaiseYard$State", name := "putOnPole", desc := "(I)I" } : Jvm.MethodName)) ∈ lw_all := lw_g (lw_at lw_m9 163 rfl) rfl
theorem q2167 : (Jvm.Cond.instanceMethod ({ cls := "PostChaiseYard", name := "setPace", desc := "(I)I" } : Jvm.MethodName)) ∈ lw_all := lw_g (lw_at lw_m9 171 rfl) rfl
theorem q2168 : (Jvm.Cond.selects "PostChaiseYard" ({ cls := "PostChaiseYard", name := "setPace", desc := "(I)I" } : Jvm.MethodName) ({ cls := "PostChaiseYard", name := "setPace", desc := "(I)I" } : Jvm.MethodName)) ∈ lw_all := lw_g (lw_at lw_m9 172 rfl) rfl
theorem q2169 : (Jvm.Cond.code ({ cls := "PostChaiseYard", name := "setPace", desc := "(I)I" } : Jvm.MethodName) prog_1_method_20_code (3 : Nat) (Option.some Jvm.ClassFile.FieldType.int)) ∈ lw_all := lw_g (lw_at lw_m9 173 rfl) rfl
theorem q2174 : (Jvm.Cond.instanceMethod ({ cls := "PostChaiseYard", name := "setPoleLimit", desc := "(I)I" } : Jvm.MethodName)) ∈ lw_all := lw_g (lw_at lw_m9 178 rfl) rfl
theorem q2175 : (Jvm.Cond.selects "PostChaiseYard" ({ cls := "PostChaiseYard", name := "setPoleLimit", desc := "(I)I" } : Jvm.MethodName) ({ cls := "PostChaiseYard", name := "setPoleLimit", desc := "(I)I" } : Jvm.MethodName)) ∈ lw_all := lw_g (lw_at lw_m9 179 rfl) rfl
theorem q2176 : (Jvm.Cond.code ({ cls := "PostChaiseYard", name := "setPoleLimit", desc := "(I)I" } : Jvm.MethodName) prog_1_method_21_code (3 : Nat) (Option.some Jvm.ClassFile.FieldType.int)) ∈ lw_all := lw_g (lw_at lw_m9 180 rfl) rfl
theorem q2181 : (Jvm.Cond.instanceMethod ({ cls := "PostChaiseYard", name := "rankOf", desc := "(I)I" } : Jvm.MethodName)) ∈ lw_all := lw_g (lw_at lw_m9 185 rfl) rfl
theorem q2182 : (Jvm.Cond.selects "PostChaiseYard" ({ cls := "PostChaiseYard", name := "rankOf", desc := "(I)I" } : Jvm.MethodName) ({ cls := "PostChaiseYard", name := "rankOf", desc := "(I)I" } : Jvm.MethodName)) ∈ lw_all := lw_g (lw_at lw_m9 186 rfl) rfl
theorem q2183 : (Jvm.Cond.code ({ cls := "PostChaiseYard", name := "rankOf", desc := "(I)I" } : Jvm.MethodName) prog_1_method_26_code (2 : Nat) (Option.some Jvm.ClassFile.FieldType.int)) ∈ lw_all := lw_g (lw_at lw_m9 187 rfl) rfl
theorem q2188 : (Jvm.Cond.instanceMethod ({ cls := "PostChaiseYard", name := "roadOf", desc := "(I)I" } : Jvm.MethodName)) ∈ lw_all := lw_g (lw_at lw_m9 192 rfl) rfl
theorem q2189 : (Jvm.Cond.selects "PostChaiseYard" ({ cls := "PostChaiseYard", name := "roadOf", desc := "(I)I" } : Jvm.MethodName) ({ cls := "PostChaiseYard", name := "roadOf", desc := "(I)I" } : Jvm.MethodName)) ∈ lw_all := lw_g (lw_at lw_m9 193 rfl) rfl
theorem q2190 : (Jvm.Cond.code ({ cls := "PostChaiseYard", name := "roadOf", desc := "(I)I" } : Jvm.MethodName) prog_1_method_27_code (2 : Nat) (Option.some Jvm.ClassFile.FieldType.int)) ∈ lw_all := lw_g (lw_at lw_m9 194 rfl) rfl
theorem q2195 : (Jvm.Cond.instanceMethod ({ cls := "PostChaiseYard", name := "isWaiting", desc := "(I)Z" } : Jvm.MethodName)) ∈ lw_all := lw_g (lw_at lw_m9 199 rfl) rfl
theorem q2196 : (Jvm.Cond.selects "PostChaiseYard" ({ cls := "PostChaiseYard", name := "isWaiting", desc := "(I)Z" } : Jvm.MethodName) ({ cls := "PostChaiseYard", name := "isWaiting", desc := "(I)Z" } : Jvm.MethodName)) ∈ lw_all := lw_g (lw_at lw_m9 200 rfl) rfl
theorem q2197 : (Jvm.Cond.code ({ cls := "PostChaiseYard", name := "isWaiting", desc := "(I)Z" } : Jvm.MethodName) prog_1_method_29_code (2 : Nat) (Option.some Jvm.ClassFile.FieldType.boolean)) ∈ lw_all := lw_g (lw_at lw_m9 201 rfl) rfl
theorem q2202 : (Jvm.Cond.instanceMethod ({ cls := "PostChaiseYard", name := "isUnderWay", desc := "(I)Z" } : Jvm.MethodName)) ∈ lw_all := lw_g (lw_at lw_m9 206 rfl) rfl
theorem q2203 : (Jvm.Cond.selects "PostChaiseYard" ({ cls := "PostChaiseYard", name := "isUnderWay", desc := "(I)Z" } : Jvm.MethodName) ({ cls := "PostChaiseYard", name := "isUnderWay", desc := "(I)Z" } : Jvm.MethodName)) ∈ lw_all := lw_g (lw_at lw_m9 207 rfl) rfl
theorem q2204 : (Jvm.Cond.code ({ cls := "PostChaiseYard", name := "isUnderWay", desc := "(I)Z" } : Jvm.MethodName) prog_1_method_30_code (2 : Nat) (Option.some Jvm.ClassFile.FieldType.boolean)) ∈ lw_all := lw_g (lw_at lw_m9 208 rfl) rfl
theorem q2205 : (Jvm.Cond.fieldLink "PostChaiseYard" (219 : Nat) "PostChaiseYard$Status" "UNDER_WAY" "LPostChaiseYard$Status;") ∈ lw_all := lw_g (lw_at lw_m9 209 rfl) rfl
theorem q2210 : (Jvm.Cond.instanceMethod ({ cls := "PostChaiseYard", name := "hasArrived", desc := "(I)Z" } : Jvm.MethodName)) ∈ lw_all := lw_g (lw_at lw_m9 214 rfl) rfl
theorem q2211 : (Jvm.Cond.selects "PostChaiseYard" ({ cls := "PostChaiseYard", name := "hasArrived", desc := "(I)Z" } : Jvm.MethodName) ({ cls := "PostChaiseYard", name := "hasArrived", desc := "(I)Z" } : Jvm.MethodName)) ∈ lw_all := lw_g (lw_at lw_m9 215 rfl) rfl
theorem q2212 : (Jvm.Cond.code ({ cls := "PostChaiseYard", name := "hasArrived", desc := "(I)Z" } : Jvm.MethodName) prog_1_method_31_code (2 : Nat) (Option.some Jvm.ClassFile.FieldType.boolean)) ∈ lw_all := lw_g (lw_at lw_m9 216 rfl) rfl
theorem q2213 : (Jvm.Cond.fieldLink "PostChaiseYard" (222 : Nat) "PostChaiseYard$Status" "ARRIVED" "LPostChaiseYard$Status;") ∈ lw_all := lw_g (lw_at lw_m9 217 rfl) rfl
theorem q2218 : (Jvm.Cond.instanceMethod ({ cls := "PostChaiseYard", name := "hasGivenUp", desc := "(I)Z" } : Jvm.MethodName)) ∈ lw_all := lw_g (lw_at lw_m9 222 rfl) rfl
theorem q2219 : (Jvm.Cond.selects "PostChaiseYard" ({ cls := "PostChaiseYard", name := "hasGivenUp", desc := "(I)Z" } : Jvm.MethodName) ({ cls := "PostChaiseYard", name := "hasGivenUp", desc := "(I)Z" } : Jvm.MethodName)) ∈ lw_all := lw_g (lw_at lw_m9 223 rfl) rfl
theorem q2220 : (Jvm.Cond.code ({ cls := "PostChaiseYard", name := "hasGivenUp", desc := "(I)Z" } : Jvm.MethodName) prog_1_method_32_code (2 : Nat) (Option.some Jvm.ClassFile.FieldType.boolean)) ∈ lw_all := lw_g (lw_at lw_m9 224 rfl) rfl
theorem q2221 : (Jvm.Cond.fieldLink "PostChaiseYard" (225 : Nat) "PostChaiseYard$Status" "GAVE_UP" "LPostChaiseYard$Status;") ∈ lw_all := lw_g (lw_at lw_m9 225 rfl) rfl
theorem q2226 : (Jvm.Cond.instanceMethod ({ cls := "PostChaiseYard", name := "waitOf", desc := "(I)I" } : Jvm.MethodName)) ∈ lw_all := lw_g (lw_at lw_m9 230 rfl) rfl
theorem q2227 : (Jvm.Cond.selects "PostChaiseYard" ({ cls := "PostChaiseYard", name := "waitOf", desc := "(I)I" } : Jvm.MethodName) ({ cls := "PostChaiseYard", name := "waitOf", desc := "(I)I" } : Jvm.MethodName)) ∈ lw_all := lw_g (lw_at lw_m9 231 rfl) rfl
theorem q2228 : (Jvm.Cond.code ({ cls := "PostChaiseYard", name := "waitOf", desc := "(I)I" } : Jvm.MethodName) prog_1_method_33_code (2 : Nat) (Option.some Jvm.ClassFile.FieldType.int)) ∈ lw_all := lw_g (lw_at lw_m9 232 rfl) rfl
theorem q2229 : (Jvm.Cond.methodLink "PostChaiseYard" (228 : Nat) ({ cls := "PostChaiseYard$State", name := "waitOf", desc := "(I)I" } : Jvm.MethodName)) ∈ lw_all := lw_g (lw_at lw_m9 233 rfl) rfl
theorem q2237 : (Jvm.Cond.instanceMethod ({ cls := "PostChaiseYard", name := "fareOf", desc := "(I)I" } : Jvm.MethodName)) ∈ lw_all := lw_g (lw_at lw_m10 1 rfl) rfl
theorem q2238 : (Jvm.Cond.selects "PostChaiseYard" ({ cls := "PostChaiseYard", name := "fareOf", desc := "(I)I" } : Jvm.MethodName) ({ cls := "PostChaiseYard", name := "fareOf", desc := "(I)I" } : Jvm.MethodName)) ∈ lw_all := lw_g (lw_at lw_m10 2 rfl) rfl
theorem q2239 : (Jvm.Cond.code ({ cls := "PostChaiseYard", name := "fareOf", desc := "(I)I" } : Jvm.MethodName) prog_1_method_34_code (2 : Nat) (Option.some Jvm.ClassFile.FieldType.int)) ∈ lw_all := lw_g (lw_at lw_m10 3 rfl) rfl
theorem q2244 : (Jvm.Cond.instanceMethod ({ cls := "PostChaiseYard", name := "guestAt", desc := "(I)I" } : Jvm.MethodName)) ∈ lw_all := lw_g (lw_at lw_m10 8 rfl) rfl
theorem q2245 : (Jvm.Cond.selects "PostChaiseYard" ({ cls := "PostChaiseYard", name := "guestAt", desc := "(I)I" } : Jvm.MethodName) ({ cls := "PostChaiseYard", name := "guestAt", desc := "(I)I" } : Jvm.MethodName)) ∈ lw_all := lw_g (lw_at lw_m10 9 rfl) rfl
theorem q2246 : (Jvm.Cond.code ({ cls := "PostChaiseYard", name := "guestAt", desc := "(I)I" } : Jvm.MethodName) prog_1_method_36_code (4 : Nat) (Option.some Jvm.ClassFile.FieldType.int)) ∈ lw_all := lw_g (lw_at lw_m10 10 rfl) rfl
theorem q2247 : (Jvm.Cond.methodLink "PostChaiseYard" (241 : Nat) ({ cls := "java/util/PriorityQueue", name := "poll", desc := "()Ljava/lang/Object;" } : Jvm.MethodName)) ∈ lw_all := lw_g (lw_at lw_m10 11 rfl) rfl
theorem q2248 : (Jvm.Cond.methodLink "PostChaiseYard" (244 : Nat) ({ cls := "java/util/PriorityQueue", name := "peek", desc := "()Ljava/lang/Object;" } : Jvm.MethodName)) ∈ lw_all := lw_g (lw_at lw_m10 12 rfl) rfl
theorem q2253 : (Jvm.Cond.instanceMethod ({ cls := "PostChaiseYard", name := "isPairOut", desc := "(I)Z" } : Jvm.MethodName)) ∈ lw_all := lw_g (lw_at lw_m10 17 rfl) rfl
theorem q2254 : (Jvm.Cond.selects "PostChaiseYard" ({ cls := "PostChaiseYard", name := "isPairOut", desc := "(I)Z" } : Jvm.MethodName) ({ cls := "PostChaiseYard", name := "isPairOut", desc := "(I)Z" } : Jvm.MethodName)) ∈ lw_all := lw_g (lw_at lw_m10 18 rfl) rfl
theorem q2255 : (Jvm.Cond.code ({ cls := "PostChaiseYard", name := "isPairOut", desc := "(I)Z" } : Jvm.MethodName) prog_1_method_37_code (2 : Nat) (Option.some Jvm.ClassFile.FieldType.boolean)) ∈ lw_all := lw_g (lw_at lw_m10 19 rfl) rfl
theorem q2260 : (Jvm.Cond.instanceMethod ({ cls := "PostChaiseYard", name := "restOf", desc := "(I)I" } : Jvm.MethodName)) ∈ lw_all := lw_g (lw_at lw_m10 24 rfl) rfl
theorem q2261 : (Jvm.Cond.selects "PostChaiseYard" ({ cls := "PostChaiseYard", name := "restOf", desc := "(I)I" } : Jvm.MethodName) ({ cls := "PostChaiseYard", name := "restOf", desc := "(I)I" } : Jvm.MethodName)) ∈ lw_all := lw_g (lw_at lw_m10 25 rfl) rfl
theorem q2262 : (Jvm.Cond.code ({ cls := "PostChaiseYard", name := "restOf", desc := "(I)I" } : Jvm.MethodName) prog_1_method_38_code (2 : Nat) (Option.some Jvm.ClassFile.FieldType.int)) ∈ lw_all := lw_g (lw_at lw_m10 26 rfl) rfl
theorem q2267 : (Jvm.Cond.instanceMethod ({ cls := "PostChaiseYard", name := "milesOfPair", desc := "(I)I" } : Jvm.MethodName)) ∈ lw_all := lw_g (lw_at lw_m10 31 rfl) rfl
theorem q2268 : (Jvm.Cond.selects "PostChaiseYard" ({ cls := "PostChaiseYard", name := "milesOfPair", desc := "(I)I" } : Jvm.MethodName) ({ cls := "PostChaiseYard", name := "milesOfPair", desc := "(I)I" } : Jvm.MethodName)) ∈ lw_all := lw_g (lw_at lw_m10 32 rfl) rfl
theorem q2269 : (Jvm.Cond.code ({ cls := "PostChaiseYard", name := "milesOfPair", desc := "(I)I" } : Jvm.MethodName) prog_1_method_39_code (2 : Nat) (Option.some Jvm.ClassFile.FieldType.int)) ∈ lw_all := lw_g (lw_at lw_m10 33 rfl) rfl
theorem q2275 : (Jvm.Cond.instanceMethod ({ cls := "PostChaiseYard", name := "nextPair", desc := "()I" } : Jvm.MethodName)) ∈ lw_all := lw_g (lw_at lw_m10 39 rfl) rfl
theorem q2276 : (Jvm.Cond.selects "PostChaiseYard" ({ cls := "PostChaiseYard", name := "nextPair", desc := "()I" } : Jvm.MethodName) ({ cls := "PostChaiseYard", name := "nextPair", desc := "()I" } : Jvm.MethodName)) ∈ lw_all := lw_g (lw_at lw_m10 40 rfl) rfl
theorem q2277 : (Jvm.Cond.code ({ cls := "PostChaiseYard", name := "nextPair", desc := "()I" } : Jvm.MethodName) prog_1_method_40_code (2 : Nat) (Option.some Jvm.ClassFile.FieldType.int)) ∈ lw_all := lw_g (lw_at lw_m10 41 rfl) rfl
theorem q2278 : (Jvm.Cond.methodLink "PostChaiseYard" (250 : Nat) ({ cls := "PostChaiseYard$State", name := "nextPair", desc := "()LPostChaiseYard$Pair;" } : Jvm.MethodName)) ∈ lw_all := lw_g (lw_at lw_m10 42 rfl) rfl
theorem q2279 : (Jvm.Cond.methodLink "PostChaiseYard" (254 : Nat) ({ cls := "PostChaiseYard", name := "checkThere", desc := "(Z)V" } : Jvm.MethodName)) ∈ lw_all := lw_g (lw_at lw_m10 43 rfl) rfl
theorem q2280 : (Jvm.Cond.static ({ cls := "PostChaiseYard", name := "checkThere", desc := "(Z)V" } : Jvm.MethodName)) ∈ lw_all := lw_g (lw_at lw_m10 44 rfl) rfl
theorem q2281 : (Jvm.Cond.code ({ cls := "PostChaiseYard", name := "checkThere", desc := "(Z)V" } : Jvm.MethodName) prog_1_method_8_code (1 : Nat) (Option.none : Option Jvm.ClassFile.FieldType)) ∈ lw_all := lw_g (lw_at lw_m10 45 rfl) rfl
theorem q2282 : (Jvm.Cond.classLink "PostChaiseYard" (75 : Nat) "java/util/NoSuchElementException") ∈ lw_all := lw_g (lw_at lw_m10 46 rfl) rfl
theorem q2283 : (Jvm.Cond.methodLink "PostChaiseYard" (77 : Nat) ({ cls := "java/util/NoSuchElementException", name := "<init>", desc := "()V" } : Jvm.MethodName)) ∈ lw_all := lw_g (lw_at lw_m10 47 rfl) rfl
theorem q2288 : (Jvm.Cond.instanceMethod ({ cls := "PostChaiseYard", name := "isBoyOut", desc := "(I)Z" } : Jvm.MethodName)) ∈ lw_all := lw_g (lw_at lw_m10 52 rfl) rfl
theorem q2289 : (Jvm.Cond.selects "PostChaiseYard" ({ cls := "PostChaiseYard", name := "isBoyOut", desc := "(I)Z" } : Jvm.MethodName) ({ cls := "PostChaiseYard", name := "isBoyOut", desc := "(I)Z" } : Jvm.MethodName)) ∈ lw_all := lw_g (lw_at lw_m10 53 rfl) rfl
theorem q2290 : (Jvm.Cond.code ({ cls := "PostChaiseYard", name := "isBoyOut", desc := "(I)Z" } : Jvm.MethodName) prog_1_method_41_code (2 : Nat) (Option.some Jvm.ClassFile.FieldType.boolean)) ∈ lw_all := lw_g (lw_at lw_m10 54 rfl) rfl
theorem q2295 : (Jvm.Cond.instanceMethod ({ cls := "PostChaiseYard", name := "isInBed", desc := "(I)Z" } : Jvm.MethodName)) ∈ lw_all := lw_g (lw_at lw_m10 59 rfl) rfl
theorem q2296 : (Jvm.Cond.selects "PostChaiseYard" ({ cls := "PostChaiseYard", name := "isInBed", desc := "(I)Z" } : Jvm.MethodName) ({ cls := "PostChaiseYard", name := "isInBed", desc := "(I)Z" } : Jvm.MethodName)) ∈ lw_all := lw_g (lw_at lw_m10 60 rfl) rfl
theorem q2297 : (Jvm.Cond.code ({ cls := "PostChaiseYard", name := "isInBed", desc := "(I)Z" } : Jvm.MethodName) prog_1_method_42_code (2 : Nat) (Option.some Jvm.ClassFile.FieldType.boolean)) ∈ lw_all := lw_g (lw_at lw_m10 61 rfl) rfl
theorem q2302 : (Jvm.Cond.instanceMethod ({ cls := "PostChaiseYard", name := "placeOf", desc := "(I)I" } : Jvm.MethodName)) ∈ lw_all := lw_g (lw_at lw_m10 66 rfl) rfl
theorem q2303 : (Jvm.Cond.selects "PostChaiseYard" ({ cls := "PostChaiseYard", name := "placeOf", desc := "(I)I" } : Jvm.MethodName) ({ cls := "PostChaiseYard", name := "placeOf", desc := "(I)I" } : Jvm.MethodName)) ∈ lw_all := lw_g (lw_at lw_m10 67 rfl) rfl
theorem q2304 : (Jvm.Cond.code ({ cls := "PostChaiseYard", name := "placeOf", desc := "(I)I" } : Jvm.MethodName) prog_1_method_43_code (3 : Nat) (Option.some Jvm.ClassFile.FieldType.int)) ∈ lw_all := lw_g (lw_at lw_m10 68 rfl) rfl
theorem q2309 : (Jvm.Cond.instanceMethod ({ cls := "PostChaiseYard", name := "tripsOf", desc := "(I)I" } : Jvm.MethodName)) ∈ lw_all := lw_g (lw_at lw_m10 73 rfl) rfl
theorem q2310 : (Jvm.Cond.selects "PostChaiseYard" ({ cls := "PostChaiseYard", name := "tripsOf", desc := "(I)I" } : Jvm.MethodName) ({ cls := "PostChaiseYard", name := "tripsOf", desc := "(I)I" } : Jvm.MethodName)) ∈ lw_all := lw_g (lw_at lw_m10 74 rfl) rfl
theorem q2311 : (Jvm.Cond.code ({ cls := "PostChaiseYard", name := "tripsOf", desc := "(I)I" } : Jvm.MethodName) prog_1_method_44_code (2 : Nat) (Option.some Jvm.ClassFile.FieldType.int)) ∈ lw_all := lw_g (lw_at lw_m10 75 rfl) rfl
theorem q2316 : (Jvm.Cond.instanceMethod ({ cls := "PostChaiseYard", name := "nextBoy", desc := "()I" } : Jvm.MethodName)) ∈ lw_all := lw_g (lw_at lw_m10 80 rfl) rfl
theorem q2317 : (Jvm.Cond.selects "PostChaiseYard" ({ cls := "PostChaiseYard", name := "nextBoy", desc := "()I" } : Jvm.MethodName) ({ cls := "PostChaiseYard", name := "nextBoy", desc := "()I" } : Jvm.MethodName)) ∈ lw_all := lw_g (lw_at lw_m10 81 rfl) rfl
theorem q2318 : (Jvm.Cond.code ({ cls := "PostChaiseYard", name := "nextBoy", desc := "()I" } : Jvm.MethodName) prog_1_method_45_code (1 : Nat) (Option.some Jvm.ClassFile.FieldType.int)) ∈ lw_all := lw_g (lw_at lw_m10 82 rfl) rfl
theorem q2319 : (Jvm.Cond.interfaceEntry "PostChaiseYard" (261 : Nat)) ∈ lw_tbl := lw_at lw_m10 83 rfl
theorem q2320 : (Jvm.Cond.methodLink "PostChaiseYard" (261 : Nat) ({ cls := "java/util/List", name := "isEmpty", desc := "()Z" } : Jvm.MethodName)) ∈ lw_all := lw_g (lw_at lw_m10 84 rfl) rfl
theorem q2325 : (Jvm.Cond.instanceMethod ({ cls := "PostChaiseYard", name := "isChaiseOut", desc := "(I)Z" } : Jvm.MethodName)) ∈ lw_all := lw_g (lw_at lw_m10 89 rfl) rfl
theorem q2326 : (Jvm.Cond.selects "PostChaiseYard" ({ cls := "PostChaiseYard", name := "isChaiseOut", desc := "(I)Z" } : Jvm.MethodName) ({ cls := "PostChaiseYard", name := "isChaiseOut", desc := "(I)Z" } : Jvm.MethodName)) ∈ lw_all := lw_g (lw_at lw_m10 90 rfl) rfl
theorem q2327 : (Jvm.Cond.code ({ cls := "PostChaiseYard", name := "isChaiseOut", desc := "(I)Z" } : Jvm.MethodName) prog_1_method_46_code (2 : Nat) (Option.some Jvm.ClassFile.FieldType.boolean)) ∈ lw_all := lw_g (lw_at lw_m10 91 rfl) rfl
theorem q2332 : (Jvm.Cond.instanceMethod ({ cls := "PostChaiseYard", name := "isBroken", desc := "(I)Z" } : Jvm.MethodName)) ∈ lw_all := lw_g (lw_at lw_m10 96 rfl) rfl
theorem q2333 : (Jvm.Cond.selects "PostChaiseYard" ({ cls := "PostChaiseYard", name := "isBroken", desc := "(I)Z" } : Jvm.MethodName) ({ cls := "PostChaiseYard", name := "isBroken", desc := "(I)Z" } : Jvm.MethodName)) ∈ lw_all := lw_g (lw_at lw_m10 97 rfl) rfl
theorem q2334 : (Jvm.Cond.code ({ cls := "PostChaiseYard", name := "isBroken", desc := "(I)Z" } : Jvm.MethodName) prog_1_method_47_code (2 : Nat) (Option.some Jvm.ClassFile.FieldType.boolean)) ∈ lw_all := lw_g (lw_at lw_m10 98 rfl) rfl
theorem q2339 : (Jvm.Cond.instanceMethod ({ cls := "PostChaiseYard", name := "wearOf", desc := "(I)I" } : Jvm.MethodName)) ∈ lw_all := lw_g (lw_at lw_m10 103 rfl) rfl
theorem q2340 : (Jvm.Cond.selects "PostChaiseYard" ({ cls := "PostChaiseYard", name := "wearOf", desc := "(I)I" } : Jvm.MethodName) ({ cls := "PostChaiseYard", name := "wearOf", desc := "(I)I" } : Jvm.MethodName)) ∈ lw_all := lw_g (lw_at lw_m10 104 rfl) rfl
theorem q2341 : (Jvm.Cond.code ({ cls := "PostChaiseYard", name := "wearOf", desc := "(I)I" } : Jvm.MethodName) prog_1_method_48_code (2 : Nat) (Option.some Jvm.ClassFile.FieldType.int)) ∈ lw_all := lw_g (lw_at lw_m10 105 rfl) rfl
theorem q2346 : (Jvm.Cond.instanceMethod ({ cls := "PostChaiseYard", name := "milesOfChaise", desc := "(I)I" } : Jvm.MethodName)) ∈ lw_all := lw_g (lw_at lw_m10 110 rfl) rfl
theorem q2347 : (Jvm.Cond.selects "PostChaiseYard" ({ cls := "PostChaiseYard", name := "milesOfChaise", desc := "(I)I" } : Jvm.MethodName) ({ cls := "PostChaiseYard", name := "milesOfChaise", desc := "(I)I" } : Jvm.MethodName)) ∈ lw_all := lw_g (lw_at lw_m10 111 rfl) rfl
theorem q2348 : (Jvm.Cond.code ({ cls := "PostChaiseYard", name := "milesOfChaise", desc := "(I)I" } : Jvm.MethodName) prog_1_method_49_code (2 : Nat) (Option.some Jvm.ClassFile.FieldType.int)) ∈ lw_all := lw_g (lw_at lw_m10 112 rfl) rfl
theorem q2353 : (Jvm.Cond.instanceMethod ({ cls := "PostChaiseYard", name := "guestOf", desc := "(I)I" } : Jvm.MethodName)) ∈ lw_all := lw_g (lw_at lw_m10 117 rfl) rfl
theorem q2354 : (Jvm.Cond.selects "PostChaiseYard" ({ cls := "PostChaiseYard", name := "guestOf", desc := "(I)I" } : Jvm.MethodName) ({ cls := "PostChaiseYard", name := "guestOf", desc := "(I)I" } : Jvm.MethodName)) ∈ lw_all := lw_g (lw_at lw_m10 118 rfl) rfl
theorem q2355 : (Jvm.Cond.code ({ cls := "PostChaiseYard", name := "guestOf", desc := "(I)I" } : Jvm.MethodName) prog_1_method_50_code (3 : Nat) (Option.some Jvm.ClassFile.FieldType.int)) ∈ lw_all := lw_g (lw_at lw_m10 119 rfl) rfl
theorem q2360 : (Jvm.Cond.instanceMethod ({ cls := "PostChaiseYard", name := "quartersLeft", desc := "(I)I" } : Jvm.MethodName)) ∈ lw_all := lw_g (lw_at lw_m10 124 rfl) rfl
theorem q2361 : (Jvm.Cond.selects "PostChaiseYard" ({ cls := "PostChaiseYard", name := "quartersLeft", desc := "(I)I" } : Jvm.MethodName) ({ cls := "PostChaiseYard", name := "quartersLeft", desc := "(I)I" } : Jvm.MethodName)) ∈ lw_all := lw_g (lw_at lw_m10 125 rfl) rfl
theorem q2362 : (Jvm.Cond.code ({ cls := "PostChaiseYard", name := "quartersLeft", desc := "(I)I" } : Jvm.MethodName) prog_1_method_51_code (3 : Nat) (Option.some Jvm.ClassFile.FieldType.int)) ∈ lw_all := lw_g (lw_at lw_m10 126 rfl) rfl
theorem q2367 : (Jvm.Cond.instanceMethod ({ cls := "PostChaiseYard", name := "nextChaise", desc := "()I" } : Jvm.MethodName)) ∈ lw_all := lw_g (lw_at lw_m10 131 rfl) rfl
theorem q2368 : (Jvm.Cond.selects "PostChaiseYard" ({ cls := "PostChaiseYard", name := "nextChaise", desc := "()I" } : Jvm.MethodName) ({ cls := "PostChaiseYard", name := "nextChaise", desc := "()I" } : Jvm.MethodName)) ∈ lw_all := lw_g (lw_at lw_m10 132 rfl) rfl
theorem q2369 : (Jvm.Cond.code ({ cls := "PostChaiseYard", name := "nextChaise", desc := "()I" } : Jvm.MethodName) prog_1_method_52_code (2 : Nat) (Option.some Jvm.ClassFile.FieldType.int)) ∈ lw_all := lw_g (lw_at lw_m10 133 rfl) rfl
theorem q2370 : (Jvm.Cond.methodLink "PostChaiseYard" (280 : Nat) ({ cls := "PostChaiseYard$State", name := "nextChaise", desc := "()LPostChaiseYard$Chaise;" } : Jvm.MethodName)) ∈ lw_all := lw_g (lw_at lw_m10 134 rfl) rfl
theorem q2375 : (Jvm.Cond.instanceMethod ({ cls := "PostChaiseYard", name := "chaiseInRepair", desc := "()I" } : Jvm.MethodName)) ∈ lw_all := lw_g (lw_at lw_m10 139 rfl) rfl
theorem q2376 : (Jvm.Cond.selects "PostChaiseYard" ({ cls := "PostChaiseYard", name := "chaiseInRepair", desc := "()I" } : Jvm.MethodName) ({ cls := "PostChaiseYard", name := "chaiseInRepair", desc := "()I" } : Jvm.MethodName)) ∈ lw_all := lw_g (lw_at lw_m10 140 rfl) rfl
theorem q2377 : (Jvm.Cond.code ({ cls := "PostChaiseYard", name := "chaiseInRepair", desc := "()I" } : Jvm.MethodName) prog_1_method_53_code (1 : Nat) (Option.some Jvm.ClassFile.FieldType.int)) ∈ lw_all := lw_g (lw_at lw_m10 141 rfl) rfl
theorem q2382 : (Jvm.Cond.instanceMethod ({ cls := "PostChaiseYard", name := "repairLeft", desc := "()I" } : Jvm.MethodName)) ∈ lw_all := lw_g (lw_at lw_m10 146 rfl) rfl
theorem q2383 : (Jvm.Cond.selects "PostChaiseYard" ({ cls := "PostChaiseYard", name := "repairLeft", desc := "()I" } : Jvm.MethodName) ({ cls := "PostChaiseYard", name := "repairLeft", desc := "()I" } : Jvm.MethodName)) ∈ lw_all := lw_g (lw_at lw_m10 147 rfl) rfl
theorem q2384 : (Jvm.Cond.code ({ cls := "PostChaiseYard", name := "repairLeft", desc := "()I" } : Jvm.MethodName) prog_1_method_54_code (1 : Nat) (Option.some Jvm.ClassFile.FieldType.int)) ∈ lw_all := lw_g (lw_at lw_m10 148 rfl) rfl
theorem q2389 : (Jvm.Cond.instanceMethod ({ cls := "PostChaiseYard", name := "quartersToArrival", desc := "(I)I" } : Jvm.MethodName)) ∈ lw_all := lw_g (lw_at lw_m10 153 rfl) rfl
theorem q2390 : (Jvm.Cond.selects "PostChaiseYard" ({ cls := "PostChaiseYard", name := "quartersToArrival", desc := "(I)I" } : Jvm.MethodName) ({ cls := "PostChaiseYard", name := "quartersToArrival", desc := "(I)I" } : Jvm.MethodName)) ∈ lw_all := lw_g (lw_at lw_m10 154 rfl) rfl
theorem q2391 : (Jvm.Cond.code ({ cls := "PostChaiseYard", name := "quartersToArrival", desc := "(I)I" } : Jvm.MethodName) prog_1_method_56_code (5 : Nat) (Option.some Jvm.ClassFile.FieldType.int)) ∈ lw_all := lw_g (lw_at lw_m10 155 rfl) rfl
theorem q2392 : (Jvm.Cond.methodLink "PostChaiseYard" (295 : Nat) ({ cls := "PostChaiseYard$State", name := "quarter", desc := "()I" } : Jvm.MethodName)) ∈ lw_all := lw_g (lw_at lw_m10 156 rfl) rfl
theorem q2397 : (Jvm.Cond.instanceMethod ({ cls := "PostChaiseYard", name := "departuresIn", desc := "(I)I" } : Jvm.MethodName)) ∈ lw_all := lw_g (lw_at lw_m10 161 rfl) rfl
theorem q2398 : (Jvm.Cond.selects "PostChaiseYard" ({ cls := "PostChaiseYard", name := "departuresIn", desc := "(I)I" } : Jvm.MethodName) ({ cls := "PostChaiseYard", name := "departuresIn", desc := "(I)I" } : Jvm.MethodName)) ∈ lw_all := lw_g (lw_at lw_m10 162 rfl) rfl
theorem q2399 : (Jvm.Cond.code ({ cls := "PostChaiseYard", name := "departuresIn", desc := "(I)I" } : Jvm.MethodName) prog_1_method_57_code (2 : Nat) (Option.some Jvm.ClassFile.FieldType.int)) ∈ lw_all := lw_g (lw_at lw_m10 163 rfl) rfl
theorem q2404 : (Jvm.Cond.instanceMethod ({ cls := "PostChaiseYard", name := "incomeFrom", desc := "(I)I" } : Jvm.MethodName)) ∈ lw_all := lw_g (lw_at lw_m10 168 rfl) rfl
theorem q2405 : (Jvm.Cond.selects "PostChaiseYard" ({ cls := "PostChaiseYard", name := "incomeFrom", desc := "(I)I" } : Jvm.MethodName) ({ cls := "PostChaiseYard", name := "incomeFrom", desc := "(I)I" } : Jvm.MethodName)) ∈ lw_all := lw_g (lw_at lw_m10 169 rfl) rfl
theorem q2406 : (Jvm.Cond.code ({ cls := "PostChaiseYard", name := "incomeFrom", desc := "(I)I" } : Jvm.MethodName) prog_1_method_60_code (2 : Nat) (Option.some Jvm.ClassFile.FieldType.int)) ∈ lw_all := lw_g (lw_at lw_m10 170 rfl) rfl
theorem q2411 : (Jvm.Cond.instanceMethod ({ cls := "PostChaiseYard", name := "append", desc := "(I)I" } : Jvm.MethodName)) ∈ lw_all := lw_g (lw_at lw_m10 175 rfl) rfl
theorem q2412 : (Jvm.Cond.selects "PostChaiseYard" ({ cls := "PostChaiseYard", name := "append", desc := "(I)I" } : Jvm.MethodName) ({ cls := "PostChaiseYard", name := "append", desc := "(I)I" } : Jvm.MethodName)) ∈ lw_all := lw_g (lw_at lw_m10 176 rfl) rfl
theorem q2413 : (Jvm.Cond.code ({ cls := "PostChaiseYard", name := "append", desc := "(I)I" } : Jvm.MethodName) prog_1_method_66_code (2 : Nat) (Option.some Jvm.ClassFile.FieldType.int)) ∈ lw_all := lw_g (lw_at lw_m10 177 rfl) rfl
theorem q2414 : (Jvm.Cond.methodLink "PostChaiseYard" (332 : Nat) ({ cls := "java/lang/StringBuilder", name := "append", desc := "(C)Ljava/lang/StringBuilder;" } : Jvm.MethodName)) ∈ lw_all := lw_g (lw_at lw_m10 178 rfl) rfl
theorem q2419 : (Jvm.Cond.instanceMethod ({ cls := "PostChaiseYard", name := "runText", desc := "()I" } : Jvm.MethodName)) ∈ lw_all := lw_g (lw_at lw_m10 183 rfl) rfl
theorem q2420 : (Jvm.Cond.selects "PostChaiseYard" ({ cls := "PostChaiseYard", name := "runText", desc := "()I" } : Jvm.MethodName) ({ cls := "PostChaiseYard", name := "runText", desc := "()I" } : Jvm.MethodName)) ∈ lw_all := lw_g (lw_at lw_m10 184 rfl) rfl
theorem q2421 : (Jvm.Cond.code ({ cls := "PostChaiseYard", name := "runText", desc := "()I" } : Jvm.MethodName) prog_1_method_71_code (4 : Nat) (Option.some Jvm.ClassFile.FieldType.int)) ∈ lw_all := lw_g (lw_at lw_m10 185 rfl) rfl
theorem q2422 : (Jvm.Cond.methodLink "PostChaiseYard" (351 : Nat) ({ cls := "PostChaiseYard", name := "isValid", desc := "()Z" } : Jvm.MethodName)) ∈ lw_all := lw_g (lw_at lw_m10 186 rfl) rfl
theorem q2423 : (Jvm.Cond.methodLink "PostChaiseYard" (354 : Nat) ({ cls := "PostChaiseYard$TextReader", name := "isAtEnd", desc := "()Z" } : Jvm.MethodName)) ∈ lw_all := lw_g (lw_at lw_m10 187 rfl) rfl
theorem q2427 : (Jvm.Cond.methodLink "PostChaiseYard" (357 : Nat) ({ cls := "PostChaiseYard$TextReader", name := "order", desc := "()LPostChaiseYard$Order;" } : Jvm.MethodName)) ∈ lw_all := lw_g (lw_at lw_m10 191 rfl) rfl
theorem q2428 : (Jvm.Cond.methodLink "PostChaiseYard" (361 : Nat) ({ cls := "PostChaiseYard$Order", name := "carryOut", desc := "(LPostChaiseYard$State;)Z" } : Jvm.MethodName)) ∈ lw_all := lw_g (lw_at lw_m10 192 rfl) rfl
theorem q2453 : (Jvm.Cond.methodLinkNest "PostChaiseYard" (367 : Nat) ({ cls := "PostChaiseYard$TextReader", name := "sign", desc := "(C)Z" } : Jvm.MethodName) "PostChaiseYard") ∈ lw_tbl := lw_at lw_m10 217 rfl
theorem q2458 : (Jvm.Cond.instanceMethod ({ cls := "PostChaiseYard", name := "undo", desc := "()I" } : Jvm.MethodName)) ∈ lw_all := lw_g (lw_at lw_m10 222 rfl) rfl
theorem q2459 : (Jvm.Cond.selects "PostChaiseYard" ({ cls := "PostChaiseYard", name := "undo", desc := "()I" } : Jvm.MethodName) ({ cls := "PostChaiseYard", name := "undo", desc := "()I" } : Jvm.MethodName)) ∈ lw_all := lw_g (lw_at lw_m10 223 rfl) rfl
theorem q2460 : (Jvm.Cond.code ({ cls := "PostChaiseYard", name := "undo", desc := "()I" } : Jvm.MethodName) prog_1_method_72_code (1 : Nat) (Option.some Jvm.ClassFile.FieldType.int)) ∈ lw_all := lw_g (lw_at lw_m10 224 rfl) rfl
theorem q2461 : (Jvm.Cond.methodLink "PostChaiseYard" (371 : Nat) ({ cls := "java/util/ArrayDeque", name := "isEmpty", desc := "()Z" } : Jvm.MethodName)) ∈ lw_all := lw_g (lw_at lw_m10 225 rfl) rfl
theorem q2465 : (Jvm.Cond.methodLink "PostChaiseYard" (372 : Nat) ({ cls := "java/util/ArrayDeque", name := "removeLast", desc := "()Ljava/lang/Object;" } : Jvm.MethodName)) ∈ lw_all := lw_g (lw_at lw_m10 229 rfl) rfl
theorem q2480 : (Jvm.Cond.instanceMethod ({ cls := "PostChaiseYard", name := "restoreSnapshot", desc := "()I" } : Jvm.MethodName)) ∈ lw_all := lw_g (lw_at lw_m11 4 rfl) rfl
theorem q2481 : (Jvm.Cond.selects "PostChaiseYard" ({ cls := "PostChaiseYard", name := "restoreSnapshot", desc := "()I" } : Jvm.MethodName) ({ cls := "PostChaiseYard", name := "restoreSnapshot", desc := "()I" } : Jvm.MethodName)) ∈ lw_all := lw_g (lw_at lw_m11 5 rfl) rfl
theorem q2482 : (Jvm.Cond.code ({ cls := "PostChaiseYard", name := "restoreSnapshot", desc := "()I" } : Jvm.MethodName) prog_1_method_75_code (1 : Nat) (Option.some Jvm.ClassFile.FieldType.int)) ∈ lw_all := lw_g (lw_at lw_m11 6 rfl) rfl
theorem q2994 : (Jvm.Cond.castable "PostChaiseYard" "java/lang/Object") ∈ lw_tbl := lw_at lw_m13 38 rfl
theorem in_X1 : ∀ w ∈ wsX10, w ∈ lw_all := lw_in wsX10 [1000, 1002, 1004, 1006, 1008] (by decide +kernel) (by decide +kernel)

/-! PostChaiseYard$TextReader -/
set_option maxRecDepth 100000
def RX10 : String := "PostChaiseYard$TextReader"
def TX10 : u_T := fun k => match k with
  | 0 => ("PostChaiseYard$TextReader", "place", "I", false)
  | 1 => ("PostChaiseYard$TextReader", "isWrong", "Z", false)
  | _ => ("PostChaiseYard$TextReader", "this$0", "LPostChaiseYard;", true)
def tyX10 : Nat → FieldType := fun k => match k with
  | 0 => .int
  | 1 => .boolean
  | _ => .object "PostChaiseYard"
abbrev wsX100 : List Cond := u_ws RX10 TX10 3
theorem nmX10 : ∀ a, a < 3 → ∀ b, b < 3 → a ≠ b → (TX10 a).2.1 ≠ (TX10 b).2.1 := by decide +kernel
theorem tyX10_ok : ∀ k, k < 3 → parseFieldDescriptor (TX10 k).2.2.1 = some (tyX10 k) := by decide +kernel
abbrev cX10_init : ByteArray := prog_10_method_1_code
def yX10_init : MethodName := ⟨RX10, "<init>", "(LPostChaiseYard;)V"⟩
def dkwX10_init_0 : List UInt8 := [42, 43, 181, 0, 1, 42, 183, 0, 7, 177]
abbrev dktX10_init_0 : List UInt8 := dkwX10_init_0 ++ []
theorem dksX10_init_0 : cX10_init.data.toList.drop 0 = dktX10_init_0 := by decide +kernel
theorem dX10_init_0 : decode cX10_init 0 = .ok (.aload_n 0, 1) := dk_42 (dk_at dksX10_init_0 0 rfl rfl)
theorem dX10_init_1 : decode cX10_init 1 = .ok (.aload_n 1, 1) := dk_43 (dk_at dksX10_init_0 1 rfl rfl)
theorem dX10_init_2 : decode cX10_init 2 = .ok (.putfield 1, 3) := dk_181 0 1 (dk_at dksX10_init_0 2 rfl rfl)
theorem dX10_init_5 : decode cX10_init 5 = .ok (.aload_n 0, 1) := dk_42 (dk_at dksX10_init_0 5 rfl rfl)
theorem dX10_init_6 : decode cX10_init 6 = .ok (.invokespecial 7, 3) := dk_183 0 7 (dk_at dksX10_init_0 6 rfl rfl)
theorem dX10_init_9 : decode cX10_init 9 = .ok (.return_, 1) := dk_177 (dk_at dksX10_init_0 9 rfl rfl)
abbrev cX10_readAll : ByteArray := prog_10_method_2_code
def yX10_readAll : MethodName := ⟨RX10, "readAll", "()Z"⟩
def dkwX10_readAll_2 : List UInt8 := [180, 0, 17, 154, 0, 7, 4, 167, 0, 4, 3, 172]
abbrev dktX10_readAll_2 : List UInt8 := dkwX10_readAll_2 ++ []
def dkwX10_readAll_1 : List UInt8 := [182, 0, 31, 162, 0, 18, 42, 16, 59, 182, 0, 37, 87, 42, 182, 0, 13, 87, 167, 255, 220, 42]
abbrev dktX10_readAll_1 : List UInt8 := dkwX10_readAll_1 ++ dktX10_readAll_2
def dkwX10_readAll_0 : List UInt8 := [42, 182, 0, 13, 87, 42, 180, 0, 17, 154, 0, 35, 42, 180, 0, 21, 42, 180, 0, 1, 180, 0, 25]
abbrev dktX10_readAll_0 : List UInt8 := dkwX10_readAll_0 ++ dktX10_readAll_1
theorem dksX10_readAll_0 : cX10_readAll.data.toList.drop 0 = dktX10_readAll_0 := by decide +kernel
theorem dksX10_readAll_1 : cX10_readAll.data.toList.drop 23 = dktX10_readAll_1 := dk_seg dksX10_readAll_0 23 rfl rfl
theorem dksX10_readAll_2 : cX10_readAll.data.toList.drop 45 = dktX10_readAll_2 := dk_seg dksX10_readAll_1 22 rfl rfl
theorem dX10_readAll_0 : decode cX10_readAll 0 = .ok (.aload_n 0, 1) := dk_42 (dk_at dksX10_readAll_0 0 rfl rfl)
theorem dX10_readAll_1 : decode cX10_readAll 1 = .ok (.invokevirtual 13, 3) := dk_182 0 13 (dk_at dksX10_readAll_0 1 rfl rfl)
theorem dX10_readAll_4 : decode cX10_readAll 4 = .ok (.pop, 1) := dk_87 (dk_at dksX10_readAll_0 4 rfl rfl)
theorem dX10_readAll_5 : decode cX10_readAll 5 = .ok (.aload_n 0, 1) := dk_42 (dk_at dksX10_readAll_0 5 rfl rfl)
theorem dX10_readAll_6 : decode cX10_readAll 6 = .ok (.getfield 17, 3) := dk_180 0 17 (dk_at dksX10_readAll_0 6 rfl rfl)
theorem dX10_readAll_9 : decode cX10_readAll 9 = .ok (.ifCond .ne 35, 3) := dk_154 0 35 (dk_at dksX10_readAll_0 9 rfl rfl)
theorem dX10_readAll_12 : decode cX10_readAll 12 = .ok (.aload_n 0, 1) := dk_42 (dk_at dksX10_readAll_0 12 rfl rfl)
theorem dX10_readAll_13 : decode cX10_readAll 13 = .ok (.getfield 21, 3) := dk_180 0 21 (dk_at dksX10_readAll_0 13 rfl rfl)
theorem dX10_readAll_16 : decode cX10_readAll 16 = .ok (.aload_n 0, 1) := dk_42 (dk_at dksX10_readAll_0 16 rfl rfl)
theorem dX10_readAll_17 : decode cX10_readAll 17 = .ok (.getfield 1, 3) := dk_180 0 1 (dk_at dksX10_readAll_0 17 rfl rfl)
theorem dX10_readAll_20 : decode cX10_readAll 20 = .ok (.getfield 25, 3) := dk_180 0 25 (dk_at dksX10_readAll_0 20 rfl rfl)
theorem dX10_readAll_23 : decode cX10_readAll 23 = .ok (.invokevirtual 31, 3) := dk_182 0 31 (dk_at dksX10_readAll_1 0 rfl rfl)
theorem dX10_readAll_26 : decode cX10_readAll 26 = .ok (.if_icmp .ge 18, 3) := dk_162 0 18 (dk_at dksX10_readAll_1 3 rfl rfl)
theorem dX10_readAll_29 : decode cX10_readAll 29 = .ok (.aload_n 0, 1) := dk_42 (dk_at dksX10_readAll_1 6 rfl rfl)
theorem dX10_readAll_30 : decode cX10_readAll 30 = .ok (.bipush 59, 2) := dk_16 59 (dk_at dksX10_readAll_1 7 rfl rfl)
theorem dX10_readAll_32 : decode cX10_readAll 32 = .ok (.invokevirtual 37, 3) := dk_182 0 37 (dk_at dksX10_readAll_1 9 rfl rfl)
theorem dX10_readAll_35 : decode cX10_readAll 35 = .ok (.pop, 1) := dk_87 (dk_at dksX10_readAll_1 12 rfl rfl)
theorem dX10_readAll_36 : decode cX10_readAll 36 = .ok (.aload_n 0, 1) := dk_42 (dk_at dksX10_readAll_1 13 rfl rfl)
theorem dX10_readAll_37 : decode cX10_readAll 37 = .ok (.invokevirtual 13, 3) := dk_182 0 13 (dk_at dksX10_readAll_1 14 rfl rfl)
theorem dX10_readAll_40 : decode cX10_readAll 40 = .ok (.pop, 1) := dk_87 (dk_at dksX10_readAll_1 17 rfl rfl)
theorem dX10_readAll_41 : decode cX10_readAll 41 = .ok (.goto (-36), 3) := dk_167 255 220 (dk_at dksX10_readAll_1 18 rfl rfl)
theorem dX10_readAll_44 : decode cX10_readAll 44 = .ok (.aload_n 0, 1) := dk_42 (dk_at dksX10_readAll_1 21 rfl rfl)
theorem dX10_readAll_45 : decode cX10_readAll 45 = .ok (.getfield 17, 3) := dk_180 0 17 (dk_at dksX10_readAll_2 0 rfl rfl)
theorem dX10_readAll_48 : decode cX10_readAll 48 = .ok (.ifCond .ne 7, 3) := dk_154 0 7 (dk_at dksX10_readAll_2 3 rfl rfl)
theorem dX10_readAll_51 : decode cX10_readAll 51 = .ok (.iconst 1, 1) := dk_4 (dk_at dksX10_readAll_2 6 rfl rfl)
theorem dX10_readAll_52 : decode cX10_readAll 52 = .ok (.goto 4, 3) := dk_167 0 4 (dk_at dksX10_readAll_2 7 rfl rfl)
theorem dX10_readAll_55 : decode cX10_readAll 55 = .ok (.iconst 0, 1) := dk_3 (dk_at dksX10_readAll_2 10 rfl rfl)
theorem dX10_readAll_56 : decode cX10_readAll 56 = .ok (.ireturn, 1) := dk_172 (dk_at dksX10_readAll_2 11 rfl rfl)
abbrev cX10_order : ByteArray := prog_10_method_8_code
def yX10_order : MethodName := ⟨RX10, "order", "()LPostChaiseYard$Order;"⟩
def dkwX10_order_10 : List UInt8 := [183, 0, 90, 176]
abbrev dktX10_order_10 : List UInt8 := dkwX10_order_10 ++ []
def dkwX10_order_9 : List UInt8 := [182, 0, 84, 61, 167, 0, 12, 42, 16, 48, 16, 51, 182, 0, 84, 61, 187, 0, 88, 89, 43, 28]
abbrev dktX10_order_9 : List UInt8 := dkwX10_order_9 ++ dktX10_order_10
def dkwX10_order_8 : List UInt8 := [16, 10, 28, 104, 42, 16, 48, 16, 57, 182, 0, 84, 96, 61, 167, 0, 24, 42, 16, 48, 16, 50]
abbrev dktX10_order_8 : List UInt8 := dkwX10_order_8 ++ dktX10_order_9
def dkwX10_order_7 : List UInt8 := [16, 48, 161, 0, 60, 42, 180, 0, 1, 180, 0, 25, 42, 180, 0, 21, 182, 0, 41, 16, 57, 163, 0, 41]
abbrev dktX10_order_7 : List UInt8 := dkwX10_order_7 ++ dktX10_order_8
def dkwX10_order_6 : List UInt8 := [180, 0, 25, 182, 0, 31, 162, 0, 79, 42, 180, 0, 1, 180, 0, 25, 42, 180, 0, 21, 182, 0, 41]
abbrev dktX10_order_6 : List UInt8 := dkwX10_order_6 ++ dktX10_order_7
def dkwX10_order_5 : List UInt8 := [42, 16, 49, 16, 57, 182, 0, 84, 61, 42, 180, 0, 17, 154, 0, 96, 42, 180, 0, 21, 42, 180, 0, 1]
abbrev dktX10_order_5 : List UInt8 := dkwX10_order_5 ++ dktX10_order_6
def dkwX10_order_4 : List UInt8 := [171, 0, 0, 0, 0, 0, 127, 0, 0, 0, 2, 0, 0, 0, 0, 0, 0, 0, 27, 0, 0, 0, 1, 0, 0, 0, 115]
abbrev dktX10_order_4 : List UInt8 := dkwX10_order_4 ++ dktX10_order_5
def dkwX10_order_3 : List UInt8 := [4, 54, 4, 21, 4]
abbrev dktX10_order_3 : List UInt8 := dkwX10_order_3 ++ dktX10_order_4
def dkwX10_order_2 : List UInt8 := [45, 18, 80, 182, 0, 65, 153, 0, 21, 3, 54, 4, 167, 0, 15, 45, 18, 82, 182, 0, 65, 153, 0, 6]
abbrev dktX10_order_2 : List UInt8 := dkwX10_order_2 ++ dktX10_order_3
def dkwX10_order_1 : List UInt8 := [171, 0, 0, 0, 52, 0, 0, 0, 2, 0, 52, 151, 184, 0, 0, 0, 40, 0, 55, 145, 117, 0, 0, 0, 25]
abbrev dktX10_order_1 : List UInt8 := dkwX10_order_1 ++ dktX10_order_2
def dkwX10_order_0 : List UInt8 := [42, 182, 0, 74, 76, 42, 16, 32, 182, 0, 37, 87, 3, 61, 43, 78, 2, 54, 4, 45, 182, 0, 77]
abbrev dktX10_order_0 : List UInt8 := dkwX10_order_0 ++ dktX10_order_1
theorem dksX10_order_0 : cX10_order.data.toList.drop 0 = dktX10_order_0 := by decide +kernel
theorem dksX10_order_1 : cX10_order.data.toList.drop 23 = dktX10_order_1 := dk_seg dksX10_order_0 23 rfl rfl
theorem dksX10_order_2 : cX10_order.data.toList.drop 48 = dktX10_order_2 := dk_seg dksX10_order_1 25 rfl rfl
theorem dksX10_order_3 : cX10_order.data.toList.drop 72 = dktX10_order_3 := dk_seg dksX10_order_2 24 rfl rfl
theorem dksX10_order_4 : cX10_order.data.toList.drop 77 = dktX10_order_4 := dk_seg dksX10_order_3 5 rfl rfl
theorem dksX10_order_5 : cX10_order.data.toList.drop 104 = dktX10_order_5 := dk_seg dksX10_order_4 27 rfl rfl
theorem dksX10_order_6 : cX10_order.data.toList.drop 128 = dktX10_order_6 := dk_seg dksX10_order_5 24 rfl rfl
theorem dksX10_order_7 : cX10_order.data.toList.drop 151 = dktX10_order_7 := dk_seg dksX10_order_6 23 rfl rfl
theorem dksX10_order_8 : cX10_order.data.toList.drop 175 = dktX10_order_8 := dk_seg dksX10_order_7 24 rfl rfl
theorem dksX10_order_9 : cX10_order.data.toList.drop 197 = dktX10_order_9 := dk_seg dksX10_order_8 22 rfl rfl
theorem dksX10_order_10 : cX10_order.data.toList.drop 219 = dktX10_order_10 := dk_seg dksX10_order_9 22 rfl rfl
theorem dX10_order_0 : decode cX10_order 0 = .ok (.aload_n 0, 1) := dk_42 (dk_at dksX10_order_0 0 rfl rfl)
theorem dX10_order_1 : decode cX10_order 1 = .ok (.invokevirtual 74, 3) := dk_182 0 74 (dk_at dksX10_order_0 1 rfl rfl)
theorem dX10_order_4 : decode cX10_order 4 = .ok (.astore_n 1, 1) := dk_76 (dk_at dksX10_order_0 4 rfl rfl)
theorem dX10_order_5 : decode cX10_order 5 = .ok (.aload_n 0, 1) := dk_42 (dk_at dksX10_order_0 5 rfl rfl)
theorem dX10_order_6 : decode cX10_order 6 = .ok (.bipush 32, 2) := dk_16 32 (dk_at dksX10_order_0 6 rfl rfl)
theorem dX10_order_8 : decode cX10_order 8 = .ok (.invokevirtual 37, 3) := dk_182 0 37 (dk_at dksX10_order_0 8 rfl rfl)
theorem dX10_order_11 : decode cX10_order 11 = .ok (.pop, 1) := dk_87 (dk_at dksX10_order_0 11 rfl rfl)
theorem dX10_order_12 : decode cX10_order 12 = .ok (.iconst 0, 1) := dk_3 (dk_at dksX10_order_0 12 rfl rfl)
theorem dX10_order_13 : decode cX10_order 13 = .ok (.istore_n 2, 1) := dk_61 (dk_at dksX10_order_0 13 rfl rfl)
theorem dX10_order_14 : decode cX10_order 14 = .ok (.aload_n 1, 1) := dk_43 (dk_at dksX10_order_0 14 rfl rfl)
theorem dX10_order_15 : decode cX10_order 15 = .ok (.astore_n 3, 1) := dk_78 (dk_at dksX10_order_0 15 rfl rfl)
theorem dX10_order_16 : decode cX10_order 16 = .ok (.iconst (-1), 1) := dk_2 (dk_at dksX10_order_0 16 rfl rfl)
theorem dX10_order_17 : decode cX10_order 17 = .ok (.istore 4, 2) := dk_54 4 (dk_at dksX10_order_0 17 rfl rfl)
theorem dX10_order_19 : decode cX10_order 19 = .ok (.aload_n 3, 1) := dk_45 (dk_at dksX10_order_0 19 rfl rfl)
theorem dX10_order_20 : decode cX10_order 20 = .ok (.invokevirtual 77, 3) := dk_182 0 77 (dk_at dksX10_order_0 20 rfl rfl)
theorem dX10_order_23 : decode cX10_order 23 = .ok (.lookupswitch 52 #[(3446712, 40), (3641717, 25)], 25) := by decide +kernel
theorem dX10_order_48 : decode cX10_order 48 = .ok (.aload_n 3, 1) := dk_45 (dk_at dksX10_order_2 0 rfl rfl)
theorem dX10_order_49 : decode cX10_order 49 = .ok (.ldc 80, 2) := dk_18 80 (dk_at dksX10_order_2 1 rfl rfl)
theorem dX10_order_51 : decode cX10_order 51 = .ok (.invokevirtual 65, 3) := dk_182 0 65 (dk_at dksX10_order_2 3 rfl rfl)
theorem dX10_order_54 : decode cX10_order 54 = .ok (.ifCond .eq 21, 3) := dk_153 0 21 (dk_at dksX10_order_2 6 rfl rfl)
theorem dX10_order_57 : decode cX10_order 57 = .ok (.iconst 0, 1) := dk_3 (dk_at dksX10_order_2 9 rfl rfl)
theorem dX10_order_58 : decode cX10_order 58 = .ok (.istore 4, 2) := dk_54 4 (dk_at dksX10_order_2 10 rfl rfl)
theorem dX10_order_60 : decode cX10_order 60 = .ok (.goto 15, 3) := dk_167 0 15 (dk_at dksX10_order_2 12 rfl rfl)
theorem dX10_order_63 : decode cX10_order 63 = .ok (.aload_n 3, 1) := dk_45 (dk_at dksX10_order_2 15 rfl rfl)
theorem dX10_order_64 : decode cX10_order 64 = .ok (.ldc 82, 2) := dk_18 82 (dk_at dksX10_order_2 16 rfl rfl)
theorem dX10_order_66 : decode cX10_order 66 = .ok (.invokevirtual 65, 3) := dk_182 0 65 (dk_at dksX10_order_2 18 rfl rfl)
theorem dX10_order_69 : decode cX10_order 69 = .ok (.ifCond .eq 6, 3) := dk_153 0 6 (dk_at dksX10_order_2 21 rfl rfl)
theorem dX10_order_72 : decode cX10_order 72 = .ok (.iconst 1, 1) := dk_4 (dk_at dksX10_order_3 0 rfl rfl)
theorem dX10_order_73 : decode cX10_order 73 = .ok (.istore 4, 2) := dk_54 4 (dk_at dksX10_order_3 1 rfl rfl)
theorem dX10_order_75 : decode cX10_order 75 = .ok (.iload 4, 2) := dk_21 4 (dk_at dksX10_order_3 3 rfl rfl)
theorem dX10_order_77 : decode cX10_order 77 = .ok (.lookupswitch 127 #[(0, 27), (1, 115)], 27) := by decide +kernel
theorem dX10_order_104 : decode cX10_order 104 = .ok (.aload_n 0, 1) := dk_42 (dk_at dksX10_order_5 0 rfl rfl)
theorem dX10_order_105 : decode cX10_order 105 = .ok (.bipush 49, 2) := dk_16 49 (dk_at dksX10_order_5 1 rfl rfl)
theorem dX10_order_107 : decode cX10_order 107 = .ok (.bipush 57, 2) := dk_16 57 (dk_at dksX10_order_5 3 rfl rfl)
theorem dX10_order_109 : decode cX10_order 109 = .ok (.invokevirtual 84, 3) := dk_182 0 84 (dk_at dksX10_order_5 5 rfl rfl)
theorem dX10_order_112 : decode cX10_order 112 = .ok (.istore_n 2, 1) := dk_61 (dk_at dksX10_order_5 8 rfl rfl)
theorem dX10_order_113 : decode cX10_order 113 = .ok (.aload_n 0, 1) := dk_42 (dk_at dksX10_order_5 9 rfl rfl)
theorem dX10_order_114 : decode cX10_order 114 = .ok (.getfield 17, 3) := dk_180 0 17 (dk_at dksX10_order_5 10 rfl rfl)
theorem dX10_order_117 : decode cX10_order 117 = .ok (.ifCond .ne 96, 3) := dk_154 0 96 (dk_at dksX10_order_5 13 rfl rfl)
theorem dX10_order_120 : decode cX10_order 120 = .ok (.aload_n 0, 1) := dk_42 (dk_at dksX10_order_5 16 rfl rfl)
theorem dX10_order_121 : decode cX10_order 121 = .ok (.getfield 21, 3) := dk_180 0 21 (dk_at dksX10_order_5 17 rfl rfl)
theorem dX10_order_124 : decode cX10_order 124 = .ok (.aload_n 0, 1) := dk_42 (dk_at dksX10_order_5 20 rfl rfl)
theorem dX10_order_125 : decode cX10_order 125 = .ok (.getfield 1, 3) := dk_180 0 1 (dk_at dksX10_order_5 21 rfl rfl)
theorem dX10_order_128 : decode cX10_order 128 = .ok (.getfield 25, 3) := dk_180 0 25 (dk_at dksX10_order_6 0 rfl rfl)
theorem dX10_order_131 : decode cX10_order 131 = .ok (.invokevirtual 31, 3) := dk_182 0 31 (dk_at dksX10_order_6 3 rfl rfl)
theorem dX10_order_134 : decode cX10_order 134 = .ok (.if_icmp .ge 79, 3) := dk_162 0 79 (dk_at dksX10_order_6 6 rfl rfl)
theorem dX10_order_137 : decode cX10_order 137 = .ok (.aload_n 0, 1) := dk_42 (dk_at dksX10_order_6 9 rfl rfl)
theorem dX10_order_138 : decode cX10_order 138 = .ok (.getfield 1, 3) := dk_180 0 1 (dk_at dksX10_order_6 10 rfl rfl)
theorem dX10_order_141 : decode cX10_order 141 = .ok (.getfield 25, 3) := dk_180 0 25 (dk_at dksX10_order_6 13 rfl rfl)
theorem dX10_order_144 : decode cX10_order 144 = .ok (.aload_n 0, 1) := dk_42 (dk_at dksX10_order_6 16 rfl rfl)
theorem dX10_order_145 : decode cX10_order 145 = .ok (.getfield 21, 3) := dk_180 0 21 (dk_at dksX10_order_6 17 rfl rfl)
theorem dX10_order_148 : decode cX10_order 148 = .ok (.invokevirtual 41, 3) := dk_182 0 41 (dk_at dksX10_order_6 20 rfl rfl)
theorem dX10_order_151 : decode cX10_order 151 = .ok (.bipush 48, 2) := dk_16 48 (dk_at dksX10_order_7 0 rfl rfl)
theorem dX10_order_153 : decode cX10_order 153 = .ok (.if_icmp .lt 60, 3) := dk_161 0 60 (dk_at dksX10_order_7 2 rfl rfl)
theorem dX10_order_156 : decode cX10_order 156 = .ok (.aload_n 0, 1) := dk_42 (dk_at dksX10_order_7 5 rfl rfl)
theorem dX10_order_157 : decode cX10_order 157 = .ok (.getfield 1, 3) := dk_180 0 1 (dk_at dksX10_order_7 6 rfl rfl)
theorem dX10_order_160 : decode cX10_order 160 = .ok (.getfield 25, 3) := dk_180 0 25 (dk_at dksX10_order_7 9 rfl rfl)
theorem dX10_order_163 : decode cX10_order 163 = .ok (.aload_n 0, 1) := dk_42 (dk_at dksX10_order_7 12 rfl rfl)
theorem dX10_order_164 : decode cX10_order 164 = .ok (.getfield 21, 3) := dk_180 0 21 (dk_at dksX10_order_7 13 rfl rfl)
theorem dX10_order_167 : decode cX10_order 167 = .ok (.invokevirtual 41, 3) := dk_182 0 41 (dk_at dksX10_order_7 16 rfl rfl)
theorem dX10_order_170 : decode cX10_order 170 = .ok (.bipush 57, 2) := dk_16 57 (dk_at dksX10_order_7 19 rfl rfl)
theorem dX10_order_172 : decode cX10_order 172 = .ok (.if_icmp .gt 41, 3) := dk_163 0 41 (dk_at dksX10_order_7 21 rfl rfl)
theorem dX10_order_175 : decode cX10_order 175 = .ok (.bipush 10, 2) := dk_16 10 (dk_at dksX10_order_8 0 rfl rfl)
theorem dX10_order_177 : decode cX10_order 177 = .ok (.iload_n 2, 1) := dk_28 (dk_at dksX10_order_8 2 rfl rfl)
theorem dX10_order_178 : decode cX10_order 178 = .ok (.imul, 1) := dk_104 (dk_at dksX10_order_8 3 rfl rfl)
theorem dX10_order_179 : decode cX10_order 179 = .ok (.aload_n 0, 1) := dk_42 (dk_at dksX10_order_8 4 rfl rfl)
theorem dX10_order_180 : decode cX10_order 180 = .ok (.bipush 48, 2) := dk_16 48 (dk_at dksX10_order_8 5 rfl rfl)
theorem dX10_order_182 : decode cX10_order 182 = .ok (.bipush 57, 2) := dk_16 57 (dk_at dksX10_order_8 7 rfl rfl)
theorem dX10_order_184 : decode cX10_order 184 = .ok (.invokevirtual 84, 3) := dk_182 0 84 (dk_at dksX10_order_8 9 rfl rfl)
theorem dX10_order_187 : decode cX10_order 187 = .ok (.iadd, 1) := dk_96 (dk_at dksX10_order_8 12 rfl rfl)
theorem dX10_order_188 : decode cX10_order 188 = .ok (.istore_n 2, 1) := dk_61 (dk_at dksX10_order_8 13 rfl rfl)
theorem dX10_order_189 : decode cX10_order 189 = .ok (.goto 24, 3) := dk_167 0 24 (dk_at dksX10_order_8 14 rfl rfl)
theorem dX10_order_192 : decode cX10_order 192 = .ok (.aload_n 0, 1) := dk_42 (dk_at dksX10_order_8 17 rfl rfl)
theorem dX10_order_193 : decode cX10_order 193 = .ok (.bipush 48, 2) := dk_16 48 (dk_at dksX10_order_8 18 rfl rfl)
theorem dX10_order_195 : decode cX10_order 195 = .ok (.bipush 50, 2) := dk_16 50 (dk_at dksX10_order_8 20 rfl rfl)
theorem dX10_order_197 : decode cX10_order 197 = .ok (.invokevirtual 84, 3) := dk_182 0 84 (dk_at dksX10_order_9 0 rfl rfl)
theorem dX10_order_200 : decode cX10_order 200 = .ok (.istore_n 2, 1) := dk_61 (dk_at dksX10_order_9 3 rfl rfl)
theorem dX10_order_201 : decode cX10_order 201 = .ok (.goto 12, 3) := dk_167 0 12 (dk_at dksX10_order_9 4 rfl rfl)
theorem dX10_order_204 : decode cX10_order 204 = .ok (.aload_n 0, 1) := dk_42 (dk_at dksX10_order_9 7 rfl rfl)
theorem dX10_order_205 : decode cX10_order 205 = .ok (.bipush 48, 2) := dk_16 48 (dk_at dksX10_order_9 8 rfl rfl)
theorem dX10_order_207 : decode cX10_order 207 = .ok (.bipush 51, 2) := dk_16 51 (dk_at dksX10_order_9 10 rfl rfl)
theorem dX10_order_209 : decode cX10_order 209 = .ok (.invokevirtual 84, 3) := dk_182 0 84 (dk_at dksX10_order_9 12 rfl rfl)
theorem dX10_order_212 : decode cX10_order 212 = .ok (.istore_n 2, 1) := dk_61 (dk_at dksX10_order_9 15 rfl rfl)
theorem dX10_order_213 : decode cX10_order 213 = .ok (.new 88, 3) := dk_187 0 88 (dk_at dksX10_order_9 16 rfl rfl)
theorem dX10_order_216 : decode cX10_order 216 = .ok (.dup, 1) := dk_89 (dk_at dksX10_order_9 19 rfl rfl)
theorem dX10_order_217 : decode cX10_order 217 = .ok (.aload_n 1, 1) := dk_43 (dk_at dksX10_order_9 20 rfl rfl)
theorem dX10_order_218 : decode cX10_order 218 = .ok (.iload_n 2, 1) := dk_28 (dk_at dksX10_order_9 21 rfl rfl)
theorem dX10_order_219 : decode cX10_order 219 = .ok (.invokespecial 90, 3) := dk_183 0 90 (dk_at dksX10_order_10 0 rfl rfl)
theorem dX10_order_222 : decode cX10_order 222 = .ok (.areturn, 1) := dk_176 (dk_at dksX10_order_10 3 rfl rfl)
abbrev cX10_word : ByteArray := prog_10_method_5_code
def yX10_word : MethodName := ⟨RX10, "word", "()Ljava/lang/String;"⟩
def dkwX10_word_5 : List UInt8 := [182, 0, 46, 176]
abbrev dktX10_word_5 : List UInt8 := dkwX10_word_5 ++ []
def dkwX10_word_4 : List UInt8 := [89, 180, 0, 21, 42, 180, 0, 17, 153, 0, 7, 3, 167, 0, 4, 4, 96, 181, 0, 21, 167, 255, 149, 43]
abbrev dktX10_word_4 : List UInt8 := dkwX10_word_4 ++ dktX10_word_5
def dkwX10_word_3 : List UInt8 := [180, 0, 17, 42, 43, 182, 0, 46, 182, 0, 58, 154, 0, 7, 4, 167, 0, 4, 3, 128, 181, 0, 17, 42]
abbrev dktX10_word_3 : List UInt8 := dkwX10_word_3 ++ dktX10_word_4
def dkwX10_word_2 : List UInt8 := [180, 0, 25, 42, 180, 0, 21, 182, 0, 41, 167, 0, 5, 16, 32, 61, 43, 28, 182, 0, 54, 87, 42, 89]
abbrev dktX10_word_2 : List UInt8 := dkwX10_word_2 ++ dktX10_word_3
def dkwX10_word_1 : List UInt8 := [154, 0, 95, 42, 180, 0, 21, 42, 180, 0, 1, 180, 0, 25, 182, 0, 31, 162, 0, 20, 42, 180, 0, 1]
abbrev dktX10_word_1 : List UInt8 := dkwX10_word_1 ++ dktX10_word_2
def dkwX10_word_0 : List UInt8 := [187, 0, 32, 89, 183, 0, 45, 76, 42, 180, 0, 17, 154, 0, 106, 42, 43, 182, 0, 46, 182, 0, 50]
abbrev dktX10_word_0 : List UInt8 := dkwX10_word_0 ++ dktX10_word_1
theorem dksX10_word_0 : cX10_word.data.toList.drop 0 = dktX10_word_0 := by decide +kernel
theorem dksX10_word_1 : cX10_word.data.toList.drop 23 = dktX10_word_1 := dk_seg dksX10_word_0 23 rfl rfl
theorem dksX10_word_2 : cX10_word.data.toList.drop 47 = dktX10_word_2 := dk_seg dksX10_word_1 24 rfl rfl
theorem dksX10_word_3 : cX10_word.data.toList.drop 71 = dktX10_word_3 := dk_seg dksX10_word_2 24 rfl rfl
theorem dksX10_word_4 : cX10_word.data.toList.drop 95 = dktX10_word_4 := dk_seg dksX10_word_3 24 rfl rfl
theorem dksX10_word_5 : cX10_word.data.toList.drop 119 = dktX10_word_5 := dk_seg dksX10_word_4 24 rfl rfl
theorem dX10_word_0 : decode cX10_word 0 = .ok (.new 32, 3) := dk_187 0 32 (dk_at dksX10_word_0 0 rfl rfl)
theorem dX10_word_3 : decode cX10_word 3 = .ok (.dup, 1) := dk_89 (dk_at dksX10_word_0 3 rfl rfl)
theorem dX10_word_4 : decode cX10_word 4 = .ok (.invokespecial 45, 3) := dk_183 0 45 (dk_at dksX10_word_0 4 rfl rfl)
theorem dX10_word_7 : decode cX10_word 7 = .ok (.astore_n 1, 1) := dk_76 (dk_at dksX10_word_0 7 rfl rfl)
theorem dX10_word_8 : decode cX10_word 8 = .ok (.aload_n 0, 1) := dk_42 (dk_at dksX10_word_0 8 rfl rfl)
theorem dX10_word_9 : decode cX10_word 9 = .ok (.getfield 17, 3) := dk_180 0 17 (dk_at dksX10_word_0 9 rfl rfl)
theorem dX10_word_12 : decode cX10_word 12 = .ok (.ifCond .ne 106, 3) := dk_154 0 106 (dk_at dksX10_word_0 12 rfl rfl)
theorem dX10_word_15 : decode cX10_word 15 = .ok (.aload_n 0, 1) := dk_42 (dk_at dksX10_word_0 15 rfl rfl)
theorem dX10_word_16 : decode cX10_word 16 = .ok (.aload_n 1, 1) := dk_43 (dk_at dksX10_word_0 16 rfl rfl)
theorem dX10_word_17 : decode cX10_word 17 = .ok (.invokevirtual 46, 3) := dk_182 0 46 (dk_at dksX10_word_0 17 rfl rfl)
theorem dX10_word_20 : decode cX10_word 20 = .ok (.invokevirtual 50, 3) := dk_182 0 50 (dk_at dksX10_word_0 20 rfl rfl)
theorem dX10_word_23 : decode cX10_word 23 = .ok (.ifCond .ne 95, 3) := dk_154 0 95 (dk_at dksX10_word_1 0 rfl rfl)
theorem dX10_word_26 : decode cX10_word 26 = .ok (.aload_n 0, 1) := dk_42 (dk_at dksX10_word_1 3 rfl rfl)
theorem dX10_word_27 : decode cX10_word 27 = .ok (.getfield 21, 3) := dk_180 0 21 (dk_at dksX10_word_1 4 rfl rfl)
theorem dX10_word_30 : decode cX10_word 30 = .ok (.aload_n 0, 1) := dk_42 (dk_at dksX10_word_1 7 rfl rfl)
theorem dX10_word_31 : decode cX10_word 31 = .ok (.getfield 1, 3) := dk_180 0 1 (dk_at dksX10_word_1 8 rfl rfl)
theorem dX10_word_34 : decode cX10_word 34 = .ok (.getfield 25, 3) := dk_180 0 25 (dk_at dksX10_word_1 11 rfl rfl)
theorem dX10_word_37 : decode cX10_word 37 = .ok (.invokevirtual 31, 3) := dk_182 0 31 (dk_at dksX10_word_1 14 rfl rfl)
theorem dX10_word_40 : decode cX10_word 40 = .ok (.if_icmp .ge 20, 3) := dk_162 0 20 (dk_at dksX10_word_1 17 rfl rfl)
theorem dX10_word_43 : decode cX10_word 43 = .ok (.aload_n 0, 1) := dk_42 (dk_at dksX10_word_1 20 rfl rfl)
theorem dX10_word_44 : decode cX10_word 44 = .ok (.getfield 1, 3) := dk_180 0 1 (dk_at dksX10_word_1 21 rfl rfl)
theorem dX10_word_47 : decode cX10_word 47 = .ok (.getfield 25, 3) := dk_180 0 25 (dk_at dksX10_word_2 0 rfl rfl)
theorem dX10_word_50 : decode cX10_word 50 = .ok (.aload_n 0, 1) := dk_42 (dk_at dksX10_word_2 3 rfl rfl)
theorem dX10_word_51 : decode cX10_word 51 = .ok (.getfield 21, 3) := dk_180 0 21 (dk_at dksX10_word_2 4 rfl rfl)
theorem dX10_word_54 : decode cX10_word 54 = .ok (.invokevirtual 41, 3) := dk_182 0 41 (dk_at dksX10_word_2 7 rfl rfl)
theorem dX10_word_57 : decode cX10_word 57 = .ok (.goto 5, 3) := dk_167 0 5 (dk_at dksX10_word_2 10 rfl rfl)
theorem dX10_word_60 : decode cX10_word 60 = .ok (.bipush 32, 2) := dk_16 32 (dk_at dksX10_word_2 13 rfl rfl)
theorem dX10_word_62 : decode cX10_word 62 = .ok (.istore_n 2, 1) := dk_61 (dk_at dksX10_word_2 15 rfl rfl)
theorem dX10_word_63 : decode cX10_word 63 = .ok (.aload_n 1, 1) := dk_43 (dk_at dksX10_word_2 16 rfl rfl)
theorem dX10_word_64 : decode cX10_word 64 = .ok (.iload_n 2, 1) := dk_28 (dk_at dksX10_word_2 17 rfl rfl)
theorem dX10_word_65 : decode cX10_word 65 = .ok (.invokevirtual 54, 3) := dk_182 0 54 (dk_at dksX10_word_2 18 rfl rfl)
theorem dX10_word_68 : decode cX10_word 68 = .ok (.pop, 1) := dk_87 (dk_at dksX10_word_2 21 rfl rfl)
theorem dX10_word_69 : decode cX10_word 69 = .ok (.aload_n 0, 1) := dk_42 (dk_at dksX10_word_2 22 rfl rfl)
theorem dX10_word_70 : decode cX10_word 70 = .ok (.dup, 1) := dk_89 (dk_at dksX10_word_2 23 rfl rfl)
theorem dX10_word_71 : decode cX10_word 71 = .ok (.getfield 17, 3) := dk_180 0 17 (dk_at dksX10_word_3 0 rfl rfl)
theorem dX10_word_74 : decode cX10_word 74 = .ok (.aload_n 0, 1) := dk_42 (dk_at dksX10_word_3 3 rfl rfl)
theorem dX10_word_75 : decode cX10_word 75 = .ok (.aload_n 1, 1) := dk_43 (dk_at dksX10_word_3 4 rfl rfl)
theorem dX10_word_76 : decode cX10_word 76 = .ok (.invokevirtual 46, 3) := dk_182 0 46 (dk_at dksX10_word_3 5 rfl rfl)
theorem dX10_word_79 : decode cX10_word 79 = .ok (.invokevirtual 58, 3) := dk_182 0 58 (dk_at dksX10_word_3 8 rfl rfl)
theorem dX10_word_82 : decode cX10_word 82 = .ok (.ifCond .ne 7, 3) := dk_154 0 7 (dk_at dksX10_word_3 11 rfl rfl)
theorem dX10_word_85 : decode cX10_word 85 = .ok (.iconst 1, 1) := dk_4 (dk_at dksX10_word_3 14 rfl rfl)
theorem dX10_word_86 : decode cX10_word 86 = .ok (.goto 4, 3) := dk_167 0 4 (dk_at dksX10_word_3 15 rfl rfl)
theorem dX10_word_89 : decode cX10_word 89 = .ok (.iconst 0, 1) := dk_3 (dk_at dksX10_word_3 18 rfl rfl)
theorem dX10_word_90 : decode cX10_word 90 = .ok (.ior, 1) := dk_128 (dk_at dksX10_word_3 19 rfl rfl)
theorem dX10_word_91 : decode cX10_word 91 = .ok (.putfield 17, 3) := dk_181 0 17 (dk_at dksX10_word_3 20 rfl rfl)
theorem dX10_word_94 : decode cX10_word 94 = .ok (.aload_n 0, 1) := dk_42 (dk_at dksX10_word_3 23 rfl rfl)
theorem dX10_word_95 : decode cX10_word 95 = .ok (.dup, 1) := dk_89 (dk_at dksX10_word_4 0 rfl rfl)
theorem dX10_word_96 : decode cX10_word 96 = .ok (.getfield 21, 3) := dk_180 0 21 (dk_at dksX10_word_4 1 rfl rfl)
theorem dX10_word_99 : decode cX10_word 99 = .ok (.aload_n 0, 1) := dk_42 (dk_at dksX10_word_4 4 rfl rfl)
theorem dX10_word_100 : decode cX10_word 100 = .ok (.getfield 17, 3) := dk_180 0 17 (dk_at dksX10_word_4 5 rfl rfl)
theorem dX10_word_103 : decode cX10_word 103 = .ok (.ifCond .eq 7, 3) := dk_153 0 7 (dk_at dksX10_word_4 8 rfl rfl)
theorem dX10_word_106 : decode cX10_word 106 = .ok (.iconst 0, 1) := dk_3 (dk_at dksX10_word_4 11 rfl rfl)
theorem dX10_word_107 : decode cX10_word 107 = .ok (.goto 4, 3) := dk_167 0 4 (dk_at dksX10_word_4 12 rfl rfl)
theorem dX10_word_110 : decode cX10_word 110 = .ok (.iconst 1, 1) := dk_4 (dk_at dksX10_word_4 15 rfl rfl)
theorem dX10_word_111 : decode cX10_word 111 = .ok (.iadd, 1) := dk_96 (dk_at dksX10_word_4 16 rfl rfl)
theorem dX10_word_112 : decode cX10_word 112 = .ok (.putfield 21, 3) := dk_181 0 21 (dk_at dksX10_word_4 17 rfl rfl)
theorem dX10_word_115 : decode cX10_word 115 = .ok (.goto (-107), 3) := dk_167 255 149 (dk_at dksX10_word_4 20 rfl rfl)
theorem dX10_word_118 : decode cX10_word 118 = .ok (.aload_n 1, 1) := dk_43 (dk_at dksX10_word_4 23 rfl rfl)
theorem dX10_word_119 : decode cX10_word 119 = .ok (.invokevirtual 46, 3) := dk_182 0 46 (dk_at dksX10_word_5 0 rfl rfl)
theorem dX10_word_122 : decode cX10_word 122 = .ok (.areturn, 1) := dk_176 (dk_at dksX10_word_5 3 rfl rfl)
abbrev cX10_isWord : ByteArray := prog_10_method_6_code
def yX10_isWord : MethodName := ⟨RX10, "isWord", "(Ljava/lang/String;)Z"⟩
def dkwX10_isWord_1 : List UInt8 := [29, 50, 43, 182, 0, 65, 128, 61, 132, 3, 1, 167, 255, 225, 28, 172]
abbrev dktX10_isWord_1 : List UInt8 := dkwX10_isWord_1 ++ []
def dkwX10_isWord_0 : List UInt8 := [3, 61, 3, 62, 29, 42, 180, 0, 1, 180, 0, 61, 190, 162, 0, 25, 28, 42, 180, 0, 1, 180, 0, 61]
abbrev dktX10_isWord_0 : List UInt8 := dkwX10_isWord_0 ++ dktX10_isWord_1
theorem dksX10_isWord_0 : cX10_isWord.data.toList.drop 0 = dktX10_isWord_0 := by decide +kernel
theorem dksX10_isWord_1 : cX10_isWord.data.toList.drop 24 = dktX10_isWord_1 := dk_seg dksX10_isWord_0 24 rfl rfl
theorem dX10_isWord_0 : decode cX10_isWord 0 = .ok (.iconst 0, 1) := dk_3 (dk_at dksX10_isWord_0 0 rfl rfl)
theorem dX10_isWord_1 : decode cX10_isWord 1 = .ok (.istore_n 2, 1) := dk_61 (dk_at dksX10_isWord_0 1 rfl rfl)
theorem dX10_isWord_2 : decode cX10_isWord 2 = .ok (.iconst 0, 1) := dk_3 (dk_at dksX10_isWord_0 2 rfl rfl)
theorem dX10_isWord_3 : decode cX10_isWord 3 = .ok (.istore_n 3, 1) := dk_62 (dk_at dksX10_isWord_0 3 rfl rfl)
theorem dX10_isWord_4 : decode cX10_isWord 4 = .ok (.iload_n 3, 1) := dk_29 (dk_at dksX10_isWord_0 4 rfl rfl)
theorem dX10_isWord_5 : decode cX10_isWord 5 = .ok (.aload_n 0, 1) := dk_42 (dk_at dksX10_isWord_0 5 rfl rfl)
theorem dX10_isWord_6 : decode cX10_isWord 6 = .ok (.getfield 1, 3) := dk_180 0 1 (dk_at dksX10_isWord_0 6 rfl rfl)
theorem dX10_isWord_9 : decode cX10_isWord 9 = .ok (.getfield 61, 3) := dk_180 0 61 (dk_at dksX10_isWord_0 9 rfl rfl)
theorem dX10_isWord_12 : decode cX10_isWord 12 = .ok (.arraylength, 1) := dk_190 (dk_at dksX10_isWord_0 12 rfl rfl)
theorem dX10_isWord_13 : decode cX10_isWord 13 = .ok (.if_icmp .ge 25, 3) := dk_162 0 25 (dk_at dksX10_isWord_0 13 rfl rfl)
theorem dX10_isWord_16 : decode cX10_isWord 16 = .ok (.iload_n 2, 1) := dk_28 (dk_at dksX10_isWord_0 16 rfl rfl)
theorem dX10_isWord_17 : decode cX10_isWord 17 = .ok (.aload_n 0, 1) := dk_42 (dk_at dksX10_isWord_0 17 rfl rfl)
theorem dX10_isWord_18 : decode cX10_isWord 18 = .ok (.getfield 1, 3) := dk_180 0 1 (dk_at dksX10_isWord_0 18 rfl rfl)
theorem dX10_isWord_21 : decode cX10_isWord 21 = .ok (.getfield 61, 3) := dk_180 0 61 (dk_at dksX10_isWord_0 21 rfl rfl)
theorem dX10_isWord_24 : decode cX10_isWord 24 = .ok (.iload_n 3, 1) := dk_29 (dk_at dksX10_isWord_1 0 rfl rfl)
theorem dX10_isWord_25 : decode cX10_isWord 25 = .ok (.aaload, 1) := dk_50 (dk_at dksX10_isWord_1 1 rfl rfl)
theorem dX10_isWord_26 : decode cX10_isWord 26 = .ok (.aload_n 1, 1) := dk_43 (dk_at dksX10_isWord_1 2 rfl rfl)
theorem dX10_isWord_27 : decode cX10_isWord 27 = .ok (.invokevirtual 65, 3) := dk_182 0 65 (dk_at dksX10_isWord_1 3 rfl rfl)
theorem dX10_isWord_30 : decode cX10_isWord 30 = .ok (.ior, 1) := dk_128 (dk_at dksX10_isWord_1 6 rfl rfl)
theorem dX10_isWord_31 : decode cX10_isWord 31 = .ok (.istore_n 2, 1) := dk_61 (dk_at dksX10_isWord_1 7 rfl rfl)
theorem dX10_isWord_32 : decode cX10_isWord 32 = .ok (.iinc 3 1, 3) := dk_132 3 1 (dk_at dksX10_isWord_1 8 rfl rfl)
theorem dX10_isWord_35 : decode cX10_isWord 35 = .ok (.goto (-31), 3) := dk_167 255 225 (dk_at dksX10_isWord_1 11 rfl rfl)
theorem dX10_isWord_38 : decode cX10_isWord 38 = .ok (.iload_n 2, 1) := dk_28 (dk_at dksX10_isWord_1 14 rfl rfl)
theorem dX10_isWord_39 : decode cX10_isWord 39 = .ok (.ireturn, 1) := dk_172 (dk_at dksX10_isWord_1 15 rfl rfl)
abbrev cX10_isBeginning : ByteArray := prog_10_method_7_code
def yX10_isBeginning : MethodName := ⟨RX10, "isBeginning", "(Ljava/lang/String;)Z"⟩
def dkwX10_isBeginning_1 : List UInt8 := [29, 50, 43, 182, 0, 71, 128, 61, 132, 3, 1, 167, 255, 225, 28, 172]
abbrev dktX10_isBeginning_1 : List UInt8 := dkwX10_isBeginning_1 ++ []
def dkwX10_isBeginning_0 : List UInt8 := [3, 61, 3, 62, 29, 42, 180, 0, 1, 180, 0, 61, 190, 162, 0, 25, 28, 42, 180, 0, 1, 180, 0, 61]
abbrev dktX10_isBeginning_0 : List UInt8 := dkwX10_isBeginning_0 ++ dktX10_isBeginning_1
theorem dksX10_isBeginning_0 : cX10_isBeginning.data.toList.drop 0 = dktX10_isBeginning_0 := by decide +kernel
theorem dksX10_isBeginning_1 : cX10_isBeginning.data.toList.drop 24 = dktX10_isBeginning_1 := dk_seg dksX10_isBeginning_0 24 rfl rfl
theorem dX10_isBeginning_0 : decode cX10_isBeginning 0 = .ok (.iconst 0, 1) := dk_3 (dk_at dksX10_isBeginning_0 0 rfl rfl)
theorem dX10_isBeginning_1 : decode cX10_isBeginning 1 = .ok (.istore_n 2, 1) := dk_61 (dk_at dksX10_isBeginning_0 1 rfl rfl)
theorem dX10_isBeginning_2 : decode cX10_isBeginning 2 = .ok (.iconst 0, 1) := dk_3 (dk_at dksX10_isBeginning_0 2 rfl rfl)
theorem dX10_isBeginning_3 : decode cX10_isBeginning 3 = .ok (.istore_n 3, 1) := dk_62 (dk_at dksX10_isBeginning_0 3 rfl rfl)
theorem dX10_isBeginning_4 : decode cX10_isBeginning 4 = .ok (.iload_n 3, 1) := dk_29 (dk_at dksX10_isBeginning_0 4 rfl rfl)
theorem dX10_isBeginning_5 : decode cX10_isBeginning 5 = .ok (.aload_n 0, 1) := dk_42 (dk_at dksX10_isBeginning_0 5 rfl rfl)
theorem dX10_isBeginning_6 : decode cX10_isBeginning 6 = .ok (.getfield 1, 3) := dk_180 0 1 (dk_at dksX10_isBeginning_0 6 rfl rfl)
theorem dX10_isBeginning_9 : decode cX10_isBeginning 9 = .ok (.getfield 61, 3) := dk_180 0 61 (dk_at dksX10_isBeginning_0 9 rfl rfl)
theorem dX10_isBeginning_12 : decode cX10_isBeginning 12 = .ok (.arraylength, 1) := dk_190 (dk_at dksX10_isBeginning_0 12 rfl rfl)
theorem dX10_isBeginning_13 : decode cX10_isBeginning 13 = .ok (.if_icmp .ge 25, 3) := dk_162 0 25 (dk_at dksX10_isBeginning_0 13 rfl rfl)
theorem dX10_isBeginning_16 : decode cX10_isBeginning 16 = .ok (.iload_n 2, 1) := dk_28 (dk_at dksX10_isBeginning_0 16 rfl rfl)
theorem dX10_isBeginning_17 : decode cX10_isBeginning 17 = .ok (.aload_n 0, 1) := dk_42 (dk_at dksX10_isBeginning_0 17 rfl rfl)
theorem dX10_isBeginning_18 : decode cX10_isBeginning 18 = .ok (.getfield 1, 3) := dk_180 0 1 (dk_at dksX10_isBeginning_0 18 rfl rfl)
theorem dX10_isBeginning_21 : decode cX10_isBeginning 21 = .ok (.getfield 61, 3) := dk_180 0 61 (dk_at dksX10_isBeginning_0 21 rfl rfl)
theorem dX10_isBeginning_24 : decode cX10_isBeginning 24 = .ok (.iload_n 3, 1) := dk_29 (dk_at dksX10_isBeginning_1 0 rfl rfl)
theorem dX10_isBeginning_25 : decode cX10_isBeginning 25 = .ok (.aaload, 1) := dk_50 (dk_at dksX10_isBeginning_1 1 rfl rfl)
theorem dX10_isBeginning_26 : decode cX10_isBeginning 26 = .ok (.aload_n 1, 1) := dk_43 (dk_at dksX10_isBeginning_1 2 rfl rfl)
theorem dX10_isBeginning_27 : decode cX10_isBeginning 27 = .ok (.invokevirtual 71, 3) := dk_182 0 71 (dk_at dksX10_isBeginning_1 3 rfl rfl)
theorem dX10_isBeginning_30 : decode cX10_isBeginning 30 = .ok (.ior, 1) := dk_128 (dk_at dksX10_isBeginning_1 6 rfl rfl)
theorem dX10_isBeginning_31 : decode cX10_isBeginning 31 = .ok (.istore_n 2, 1) := dk_61 (dk_at dksX10_isBeginning_1 7 rfl rfl)
theorem dX10_isBeginning_32 : decode cX10_isBeginning 32 = .ok (.iinc 3 1, 3) := dk_132 3 1 (dk_at dksX10_isBeginning_1 8 rfl rfl)
theorem dX10_isBeginning_35 : decode cX10_isBeginning 35 = .ok (.goto (-31), 3) := dk_167 255 225 (dk_at dksX10_isBeginning_1 11 rfl rfl)
theorem dX10_isBeginning_38 : decode cX10_isBeginning 38 = .ok (.iload_n 2, 1) := dk_28 (dk_at dksX10_isBeginning_1 14 rfl rfl)
theorem dX10_isBeginning_39 : decode cX10_isBeginning 39 = .ok (.ireturn, 1) := dk_172 (dk_at dksX10_isBeginning_1 15 rfl rfl)
abbrev cX10_sign : ByteArray := prog_10_method_3_code
def yX10_sign : MethodName := ⟨RX10, "sign", "(C)Z"⟩
def dkwX10_sign_3 : List UInt8 := [154, 0, 7, 4, 167, 0, 4, 3, 128, 181, 0, 17, 28, 172]
abbrev dktX10_sign_3 : List UInt8 := dkwX10_sign_3 ++ []
def dkwX10_sign_2 : List UInt8 := [42, 89, 180, 0, 21, 28, 153, 0, 7, 4, 167, 0, 4, 3, 96, 181, 0, 21, 42, 89, 180, 0, 17, 28]
abbrev dktX10_sign_2 : List UInt8 := dkwX10_sign_2 ++ dktX10_sign_3
def dkwX10_sign_1 : List UInt8 := [42, 180, 0, 1, 180, 0, 25, 42, 180, 0, 21, 182, 0, 41, 27, 160, 0, 7, 4, 167, 0, 4, 3, 61]
abbrev dktX10_sign_1 : List UInt8 := dkwX10_sign_1 ++ dktX10_sign_2
def dkwX10_sign_0 : List UInt8 := [42, 180, 0, 17, 154, 0, 42, 42, 180, 0, 21, 42, 180, 0, 1, 180, 0, 25, 182, 0, 31, 162, 0, 25]
abbrev dktX10_sign_0 : List UInt8 := dkwX10_sign_0 ++ dktX10_sign_1
theorem dksX10_sign_0 : cX10_sign.data.toList.drop 0 = dktX10_sign_0 := by decide +kernel
theorem dksX10_sign_1 : cX10_sign.data.toList.drop 24 = dktX10_sign_1 := dk_seg dksX10_sign_0 24 rfl rfl
theorem dksX10_sign_2 : cX10_sign.data.toList.drop 48 = dktX10_sign_2 := dk_seg dksX10_sign_1 24 rfl rfl
theorem dksX10_sign_3 : cX10_sign.data.toList.drop 72 = dktX10_sign_3 := dk_seg dksX10_sign_2 24 rfl rfl
theorem dX10_sign_0 : decode cX10_sign 0 = .ok (.aload_n 0, 1) := dk_42 (dk_at dksX10_sign_0 0 rfl rfl)
theorem dX10_sign_1 : decode cX10_sign 1 = .ok (.getfield 17, 3) := dk_180 0 17 (dk_at dksX10_sign_0 1 rfl rfl)
theorem dX10_sign_4 : decode cX10_sign 4 = .ok (.ifCond .ne 42, 3) := dk_154 0 42 (dk_at dksX10_sign_0 4 rfl rfl)
theorem dX10_sign_7 : decode cX10_sign 7 = .ok (.aload_n 0, 1) := dk_42 (dk_at dksX10_sign_0 7 rfl rfl)
theorem dX10_sign_8 : decode cX10_sign 8 = .ok (.getfield 21, 3) := dk_180 0 21 (dk_at dksX10_sign_0 8 rfl rfl)
theorem dX10_sign_11 : decode cX10_sign 11 = .ok (.aload_n 0, 1) := dk_42 (dk_at dksX10_sign_0 11 rfl rfl)
theorem dX10_sign_12 : decode cX10_sign 12 = .ok (.getfield 1, 3) := dk_180 0 1 (dk_at dksX10_sign_0 12 rfl rfl)
theorem dX10_sign_15 : decode cX10_sign 15 = .ok (.getfield 25, 3) := dk_180 0 25 (dk_at dksX10_sign_0 15 rfl rfl)
theorem dX10_sign_18 : decode cX10_sign 18 = .ok (.invokevirtual 31, 3) := dk_182 0 31 (dk_at dksX10_sign_0 18 rfl rfl)
theorem dX10_sign_21 : decode cX10_sign 21 = .ok (.if_icmp .ge 25, 3) := dk_162 0 25 (dk_at dksX10_sign_0 21 rfl rfl)
theorem dX10_sign_24 : decode cX10_sign 24 = .ok (.aload_n 0, 1) := dk_42 (dk_at dksX10_sign_1 0 rfl rfl)
theorem dX10_sign_25 : decode cX10_sign 25 = .ok (.getfield 1, 3) := dk_180 0 1 (dk_at dksX10_sign_1 1 rfl rfl)
theorem dX10_sign_28 : decode cX10_sign 28 = .ok (.getfield 25, 3) := dk_180 0 25 (dk_at dksX10_sign_1 4 rfl rfl)
theorem dX10_sign_31 : decode cX10_sign 31 = .ok (.aload_n 0, 1) := dk_42 (dk_at dksX10_sign_1 7 rfl rfl)
theorem dX10_sign_32 : decode cX10_sign 32 = .ok (.getfield 21, 3) := dk_180 0 21 (dk_at dksX10_sign_1 8 rfl rfl)
theorem dX10_sign_35 : decode cX10_sign 35 = .ok (.invokevirtual 41, 3) := dk_182 0 41 (dk_at dksX10_sign_1 11 rfl rfl)
theorem dX10_sign_38 : decode cX10_sign 38 = .ok (.iload_n 1, 1) := dk_27 (dk_at dksX10_sign_1 14 rfl rfl)
theorem dX10_sign_39 : decode cX10_sign 39 = .ok (.if_icmp .ne 7, 3) := dk_160 0 7 (dk_at dksX10_sign_1 15 rfl rfl)
theorem dX10_sign_42 : decode cX10_sign 42 = .ok (.iconst 1, 1) := dk_4 (dk_at dksX10_sign_1 18 rfl rfl)
theorem dX10_sign_43 : decode cX10_sign 43 = .ok (.goto 4, 3) := dk_167 0 4 (dk_at dksX10_sign_1 19 rfl rfl)
theorem dX10_sign_46 : decode cX10_sign 46 = .ok (.iconst 0, 1) := dk_3 (dk_at dksX10_sign_1 22 rfl rfl)
theorem dX10_sign_47 : decode cX10_sign 47 = .ok (.istore_n 2, 1) := dk_61 (dk_at dksX10_sign_1 23 rfl rfl)
theorem dX10_sign_48 : decode cX10_sign 48 = .ok (.aload_n 0, 1) := dk_42 (dk_at dksX10_sign_2 0 rfl rfl)
theorem dX10_sign_49 : decode cX10_sign 49 = .ok (.dup, 1) := dk_89 (dk_at dksX10_sign_2 1 rfl rfl)
theorem dX10_sign_50 : decode cX10_sign 50 = .ok (.getfield 21, 3) := dk_180 0 21 (dk_at dksX10_sign_2 2 rfl rfl)
theorem dX10_sign_53 : decode cX10_sign 53 = .ok (.iload_n 2, 1) := dk_28 (dk_at dksX10_sign_2 5 rfl rfl)
theorem dX10_sign_54 : decode cX10_sign 54 = .ok (.ifCond .eq 7, 3) := dk_153 0 7 (dk_at dksX10_sign_2 6 rfl rfl)
theorem dX10_sign_57 : decode cX10_sign 57 = .ok (.iconst 1, 1) := dk_4 (dk_at dksX10_sign_2 9 rfl rfl)
theorem dX10_sign_58 : decode cX10_sign 58 = .ok (.goto 4, 3) := dk_167 0 4 (dk_at dksX10_sign_2 10 rfl rfl)
theorem dX10_sign_61 : decode cX10_sign 61 = .ok (.iconst 0, 1) := dk_3 (dk_at dksX10_sign_2 13 rfl rfl)
theorem dX10_sign_62 : decode cX10_sign 62 = .ok (.iadd, 1) := dk_96 (dk_at dksX10_sign_2 14 rfl rfl)
theorem dX10_sign_63 : decode cX10_sign 63 = .ok (.putfield 21, 3) := dk_181 0 21 (dk_at dksX10_sign_2 15 rfl rfl)
theorem dX10_sign_66 : decode cX10_sign 66 = .ok (.aload_n 0, 1) := dk_42 (dk_at dksX10_sign_2 18 rfl rfl)
theorem dX10_sign_67 : decode cX10_sign 67 = .ok (.dup, 1) := dk_89 (dk_at dksX10_sign_2 19 rfl rfl)
theorem dX10_sign_68 : decode cX10_sign 68 = .ok (.getfield 17, 3) := dk_180 0 17 (dk_at dksX10_sign_2 20 rfl rfl)
theorem dX10_sign_71 : decode cX10_sign 71 = .ok (.iload_n 2, 1) := dk_28 (dk_at dksX10_sign_2 23 rfl rfl)
theorem dX10_sign_72 : decode cX10_sign 72 = .ok (.ifCond .ne 7, 3) := dk_154 0 7 (dk_at dksX10_sign_3 0 rfl rfl)
theorem dX10_sign_75 : decode cX10_sign 75 = .ok (.iconst 1, 1) := dk_4 (dk_at dksX10_sign_3 3 rfl rfl)
theorem dX10_sign_76 : decode cX10_sign 76 = .ok (.goto 4, 3) := dk_167 0 4 (dk_at dksX10_sign_3 4 rfl rfl)
theorem dX10_sign_79 : decode cX10_sign 79 = .ok (.iconst 0, 1) := dk_3 (dk_at dksX10_sign_3 7 rfl rfl)
theorem dX10_sign_80 : decode cX10_sign 80 = .ok (.ior, 1) := dk_128 (dk_at dksX10_sign_3 8 rfl rfl)
theorem dX10_sign_81 : decode cX10_sign 81 = .ok (.putfield 17, 3) := dk_181 0 17 (dk_at dksX10_sign_3 9 rfl rfl)
theorem dX10_sign_84 : decode cX10_sign 84 = .ok (.iload_n 2, 1) := dk_28 (dk_at dksX10_sign_3 12 rfl rfl)
theorem dX10_sign_85 : decode cX10_sign 85 = .ok (.ireturn, 1) := dk_172 (dk_at dksX10_sign_3 13 rfl rfl)
abbrev cX10_digit : ByteArray := prog_10_method_4_code
def yX10_digit : MethodName := ⟨RX10, "digit", "(CC)I"⟩
def dkwX10_digit_3 : List UInt8 := [180, 0, 21, 42, 180, 0, 17, 153, 0, 7, 3, 167, 0, 4, 4, 96, 181, 0, 21, 29, 16, 48, 100, 172]
abbrev dktX10_digit_3 : List UInt8 := dkwX10_digit_3 ++ []
def dkwX10_digit_2 : List UInt8 := [180, 0, 17, 29, 27, 161, 0, 8, 29, 28, 164, 0, 7, 4, 167, 0, 4, 3, 128, 181, 0, 17, 42, 89]
abbrev dktX10_digit_2 : List UInt8 := dkwX10_digit_2 ++ dktX10_digit_3
def dkwX10_digit_1 : List UInt8 := [42, 180, 0, 1, 180, 0, 25, 42, 180, 0, 21, 182, 0, 41, 167, 0, 5, 16, 32, 62, 42, 89]
abbrev dktX10_digit_1 : List UInt8 := dkwX10_digit_1 ++ dktX10_digit_2
def dkwX10_digit_0 : List UInt8 := [42, 180, 0, 17, 154, 0, 37, 42, 180, 0, 21, 42, 180, 0, 1, 180, 0, 25, 182, 0, 31, 162, 0, 20]
abbrev dktX10_digit_0 : List UInt8 := dkwX10_digit_0 ++ dktX10_digit_1
theorem dksX10_digit_0 : cX10_digit.data.toList.drop 0 = dktX10_digit_0 := by decide +kernel
theorem dksX10_digit_1 : cX10_digit.data.toList.drop 24 = dktX10_digit_1 := dk_seg dksX10_digit_0 24 rfl rfl
theorem dksX10_digit_2 : cX10_digit.data.toList.drop 46 = dktX10_digit_2 := dk_seg dksX10_digit_1 22 rfl rfl
theorem dksX10_digit_3 : cX10_digit.data.toList.drop 70 = dktX10_digit_3 := dk_seg dksX10_digit_2 24 rfl rfl
theorem dX10_digit_0 : decode cX10_digit 0 = .ok (.aload_n 0, 1) := dk_42 (dk_at dksX10_digit_0 0 rfl rfl)
theorem dX10_digit_1 : decode cX10_digit 1 = .ok (.getfield 17, 3) := dk_180 0 17 (dk_at dksX10_digit_0 1 rfl rfl)
theorem dX10_digit_4 : decode cX10_digit 4 = .ok (.ifCond .ne 37, 3) := dk_154 0 37 (dk_at dksX10_digit_0 4 rfl rfl)
theorem dX10_digit_7 : decode cX10_digit 7 = .ok (.aload_n 0, 1) := dk_42 (dk_at dksX10_digit_0 7 rfl rfl)
theorem dX10_digit_8 : decode cX10_digit 8 = .ok (.getfield 21, 3) := dk_180 0 21 (dk_at dksX10_digit_0 8 rfl rfl)
theorem dX10_digit_11 : decode cX10_digit 11 = .ok (.aload_n 0, 1) := dk_42 (dk_at dksX10_digit_0 11 rfl rfl)
theorem dX10_digit_12 : decode cX10_digit 12 = .ok (.getfield 1, 3) := dk_180 0 1 (dk_at dksX10_digit_0 12 rfl rfl)
theorem dX10_digit_15 : decode cX10_digit 15 = .ok (.getfield 25, 3) := dk_180 0 25 (dk_at dksX10_digit_0 15 rfl rfl)
theorem dX10_digit_18 : decode cX10_digit 18 = .ok (.invokevirtual 31, 3) := dk_182 0 31 (dk_at dksX10_digit_0 18 rfl rfl)
theorem dX10_digit_21 : decode cX10_digit 21 = .ok (.if_icmp .ge 20, 3) := dk_162 0 20 (dk_at dksX10_digit_0 21 rfl rfl)
theorem dX10_digit_24 : decode cX10_digit 24 = .ok (.aload_n 0, 1) := dk_42 (dk_at dksX10_digit_1 0 rfl rfl)
theorem dX10_digit_25 : decode cX10_digit 25 = .ok (.getfield 1, 3) := dk_180 0 1 (dk_at dksX10_digit_1 1 rfl rfl)
theorem dX10_digit_28 : decode cX10_digit 28 = .ok (.getfield 25, 3) := dk_180 0 25 (dk_at dksX10_digit_1 4 rfl rfl)
theorem dX10_digit_31 : decode cX10_digit 31 = .ok (.aload_n 0, 1) := dk_42 (dk_at dksX10_digit_1 7 rfl rfl)
theorem dX10_digit_32 : decode cX10_digit 32 = .ok (.getfield 21, 3) := dk_180 0 21 (dk_at dksX10_digit_1 8 rfl rfl)
theorem dX10_digit_35 : decode cX10_digit 35 = .ok (.invokevirtual 41, 3) := dk_182 0 41 (dk_at dksX10_digit_1 11 rfl rfl)
theorem dX10_digit_38 : decode cX10_digit 38 = .ok (.goto 5, 3) := dk_167 0 5 (dk_at dksX10_digit_1 14 rfl rfl)
theorem dX10_digit_41 : decode cX10_digit 41 = .ok (.bipush 32, 2) := dk_16 32 (dk_at dksX10_digit_1 17 rfl rfl)
theorem dX10_digit_43 : decode cX10_digit 43 = .ok (.istore_n 3, 1) := dk_62 (dk_at dksX10_digit_1 19 rfl rfl)
theorem dX10_digit_44 : decode cX10_digit 44 = .ok (.aload_n 0, 1) := dk_42 (dk_at dksX10_digit_1 20 rfl rfl)
theorem dX10_digit_45 : decode cX10_digit 45 = .ok (.dup, 1) := dk_89 (dk_at dksX10_digit_1 21 rfl rfl)
theorem dX10_digit_46 : decode cX10_digit 46 = .ok (.getfield 17, 3) := dk_180 0 17 (dk_at dksX10_digit_2 0 rfl rfl)
theorem dX10_digit_49 : decode cX10_digit 49 = .ok (.iload_n 3, 1) := dk_29 (dk_at dksX10_digit_2 3 rfl rfl)
theorem dX10_digit_50 : decode cX10_digit 50 = .ok (.iload_n 1, 1) := dk_27 (dk_at dksX10_digit_2 4 rfl rfl)
theorem dX10_digit_51 : decode cX10_digit 51 = .ok (.if_icmp .lt 8, 3) := dk_161 0 8 (dk_at dksX10_digit_2 5 rfl rfl)
theorem dX10_digit_54 : decode cX10_digit 54 = .ok (.iload_n 3, 1) := dk_29 (dk_at dksX10_digit_2 8 rfl rfl)
theorem dX10_digit_55 : decode cX10_digit 55 = .ok (.iload_n 2, 1) := dk_28 (dk_at dksX10_digit_2 9 rfl rfl)
theorem dX10_digit_56 : decode cX10_digit 56 = .ok (.if_icmp .le 7, 3) := dk_164 0 7 (dk_at dksX10_digit_2 10 rfl rfl)
theorem dX10_digit_59 : decode cX10_digit 59 = .ok (.iconst 1, 1) := dk_4 (dk_at dksX10_digit_2 13 rfl rfl)
theorem dX10_digit_60 : decode cX10_digit 60 = .ok (.goto 4, 3) := dk_167 0 4 (dk_at dksX10_digit_2 14 rfl rfl)
theorem dX10_digit_63 : decode cX10_digit 63 = .ok (.iconst 0, 1) := dk_3 (dk_at dksX10_digit_2 17 rfl rfl)
theorem dX10_digit_64 : decode cX10_digit 64 = .ok (.ior, 1) := dk_128 (dk_at dksX10_digit_2 18 rfl rfl)
theorem dX10_digit_65 : decode cX10_digit 65 = .ok (.putfield 17, 3) := dk_181 0 17 (dk_at dksX10_digit_2 19 rfl rfl)
theorem dX10_digit_68 : decode cX10_digit 68 = .ok (.aload_n 0, 1) := dk_42 (dk_at dksX10_digit_2 22 rfl rfl)
theorem dX10_digit_69 : decode cX10_digit 69 = .ok (.dup, 1) := dk_89 (dk_at dksX10_digit_2 23 rfl rfl)
theorem dX10_digit_70 : decode cX10_digit 70 = .ok (.getfield 21, 3) := dk_180 0 21 (dk_at dksX10_digit_3 0 rfl rfl)
theorem dX10_digit_73 : decode cX10_digit 73 = .ok (.aload_n 0, 1) := dk_42 (dk_at dksX10_digit_3 3 rfl rfl)
theorem dX10_digit_74 : decode cX10_digit 74 = .ok (.getfield 17, 3) := dk_180 0 17 (dk_at dksX10_digit_3 4 rfl rfl)
theorem dX10_digit_77 : decode cX10_digit 77 = .ok (.ifCond .eq 7, 3) := dk_153 0 7 (dk_at dksX10_digit_3 7 rfl rfl)
theorem dX10_digit_80 : decode cX10_digit 80 = .ok (.iconst 0, 1) := dk_3 (dk_at dksX10_digit_3 10 rfl rfl)
theorem dX10_digit_81 : decode cX10_digit 81 = .ok (.goto 4, 3) := dk_167 0 4 (dk_at dksX10_digit_3 11 rfl rfl)
theorem dX10_digit_84 : decode cX10_digit 84 = .ok (.iconst 1, 1) := dk_4 (dk_at dksX10_digit_3 14 rfl rfl)
theorem dX10_digit_85 : decode cX10_digit 85 = .ok (.iadd, 1) := dk_96 (dk_at dksX10_digit_3 15 rfl rfl)
theorem dX10_digit_86 : decode cX10_digit 86 = .ok (.putfield 21, 3) := dk_181 0 21 (dk_at dksX10_digit_3 16 rfl rfl)
theorem dX10_digit_89 : decode cX10_digit 89 = .ok (.iload_n 3, 1) := dk_29 (dk_at dksX10_digit_3 19 rfl rfl)
theorem dX10_digit_90 : decode cX10_digit 90 = .ok (.bipush 48, 2) := dk_16 48 (dk_at dksX10_digit_3 20 rfl rfl)
theorem dX10_digit_92 : decode cX10_digit 92 = .ok (.isub, 1) := dk_100 (dk_at dksX10_digit_3 22 rfl rfl)
theorem dX10_digit_93 : decode cX10_digit 93 = .ok (.ireturn, 1) := dk_172 (dk_at dksX10_digit_3 23 rfl rfl)
abbrev cX10_isAtEnd : ByteArray := prog_10_method_9_code
def yX10_isAtEnd : MethodName := ⟨RX10, "isAtEnd", "()Z"⟩
def dkwX10_isAtEnd_0 : List UInt8 := [42, 180, 0, 21, 42, 180, 0, 1, 180, 0, 25, 182, 0, 31, 161, 0, 7, 4, 167, 0, 4, 3, 172]
abbrev dktX10_isAtEnd_0 : List UInt8 := dkwX10_isAtEnd_0 ++ []
theorem dksX10_isAtEnd_0 : cX10_isAtEnd.data.toList.drop 0 = dktX10_isAtEnd_0 := by decide +kernel
theorem dX10_isAtEnd_0 : decode cX10_isAtEnd 0 = .ok (.aload_n 0, 1) := dk_42 (dk_at dksX10_isAtEnd_0 0 rfl rfl)
theorem dX10_isAtEnd_1 : decode cX10_isAtEnd 1 = .ok (.getfield 21, 3) := dk_180 0 21 (dk_at dksX10_isAtEnd_0 1 rfl rfl)
theorem dX10_isAtEnd_4 : decode cX10_isAtEnd 4 = .ok (.aload_n 0, 1) := dk_42 (dk_at dksX10_isAtEnd_0 4 rfl rfl)
theorem dX10_isAtEnd_5 : decode cX10_isAtEnd 5 = .ok (.getfield 1, 3) := dk_180 0 1 (dk_at dksX10_isAtEnd_0 5 rfl rfl)
theorem dX10_isAtEnd_8 : decode cX10_isAtEnd 8 = .ok (.getfield 25, 3) := dk_180 0 25 (dk_at dksX10_isAtEnd_0 8 rfl rfl)
theorem dX10_isAtEnd_11 : decode cX10_isAtEnd 11 = .ok (.invokevirtual 31, 3) := dk_182 0 31 (dk_at dksX10_isAtEnd_0 11 rfl rfl)
theorem dX10_isAtEnd_14 : decode cX10_isAtEnd 14 = .ok (.if_icmp .lt 7, 3) := dk_161 0 7 (dk_at dksX10_isAtEnd_0 14 rfl rfl)
theorem dX10_isAtEnd_17 : decode cX10_isAtEnd 17 = .ok (.iconst 1, 1) := dk_4 (dk_at dksX10_isAtEnd_0 17 rfl rfl)
theorem dX10_isAtEnd_18 : decode cX10_isAtEnd 18 = .ok (.goto 4, 3) := dk_167 0 4 (dk_at dksX10_isAtEnd_0 18 rfl rfl)
theorem dX10_isAtEnd_21 : decode cX10_isAtEnd 21 = .ok (.iconst 0, 1) := dk_3 (dk_at dksX10_isAtEnd_0 21 rfl rfl)
theorem dX10_isAtEnd_22 : decode cX10_isAtEnd 22 = .ok (.ireturn, 1) := dk_172 (dk_at dksX10_isAtEnd_0 22 rfl rfl)
theorem q126 : (Jvm.Cond.initialized "PostChaiseYard$TextReader") ∈ lw_all := lw_g (lw_at lw_m1 50 rfl) rfl
theorem q453 : (Jvm.Cond.selects "PostChaiseYard$TextReader" ({ cls := "java/lang/Object", name := "getClass", desc := "()Ljava/lang/Class;" } : Jvm.MethodName) ({ cls := "java/lang/Object", name := "getClass", desc := "()Ljava/lang/Class;" } : Jvm.MethodName)) ∈ lw_all := lw_g (lw_at lw_m2 137 rfl) rfl
theorem q994 : (Jvm.Cond.fieldLinkNest "PostChaiseYard$TextReader" (61 : Nat) "PostChaiseYard" "words" "[Ljava/lang/String;" "PostChaiseYard") ∈ lw_tbl := lw_at lw_m4 198 rfl
theorem q999 : (Jvm.Cond.fieldLinkNest "PostChaiseYard$TextReader" (25 : Nat) "PostChaiseYard" "buffer" "Ljava/lang/StringBuilder;" "PostChaiseYard") ∈ lw_tbl := lw_at lw_m4 203 rfl
theorem q1439 : (Jvm.Cond.instantiable "PostChaiseYard$TextReader" (3 : Nat)) ∈ lw_all := lw_g (lw_at lw_m6 163 rfl) rfl
theorem q1441 : (Jvm.Cond.instanceMethod ({ cls := "PostChaiseYard$TextReader", name := "<init>", desc := "(LPostChaiseYard;)V" } : Jvm.MethodName)) ∈ lw_all := lw_g (lw_at lw_m6 165 rfl) rfl
theorem q1442 : (Jvm.Cond.code ({ cls := "PostChaiseYard$TextReader", name := "<init>", desc := "(LPostChaiseYard;)V" } : Jvm.MethodName) prog_10_method_1_code (2 : Nat) (Option.none : Option Jvm.ClassFile.FieldType)) ∈ lw_all := lw_g (lw_at lw_m6 166 rfl) rfl
theorem q1443 : (Jvm.Cond.methodLink "PostChaiseYard$TextReader" (7 : Nat) ({ cls := "java/lang/Object", name := "<init>", desc := "()V" } : Jvm.MethodName)) ∈ lw_all := lw_g (lw_at lw_m6 167 rfl) rfl
theorem q1444 : (Jvm.Cond.fieldLink "PostChaiseYard$TextReader" (21 : Nat) "PostChaiseYard$TextReader" "place" "I") ∈ lw_all := lw_g (lw_at lw_m6 168 rfl) rfl
theorem q1446 : (Jvm.Cond.fieldLink "PostChaiseYard$TextReader" (17 : Nat) "PostChaiseYard$TextReader" "isWrong" "Z") ∈ lw_all := lw_g (lw_at lw_m6 170 rfl) rfl
theorem q1447 : (Jvm.Cond.fieldLink "PostChaiseYard$TextReader" (1 : Nat) "PostChaiseYard$TextReader" "this$0" "LPostChaiseYard;") ∈ lw_all := lw_g (lw_at lw_m6 171 rfl) rfl
theorem q1448 : (Jvm.Cond.lays "PostChaiseYard$TextReader" "PostChaiseYard$TextReader" "place" "I") ∈ lw_all := lw_g (lw_at lw_m6 172 rfl) rfl
theorem q1449 : (Jvm.Cond.soleField "PostChaiseYard$TextReader" "place") ∈ lw_all := lw_g (lw_at lw_m6 173 rfl) rfl
theorem q1450 : (Jvm.Cond.lays "PostChaiseYard$TextReader" "PostChaiseYard$TextReader" "isWrong" "Z") ∈ lw_all := lw_g (lw_at lw_m6 174 rfl) rfl
theorem q1451 : (Jvm.Cond.soleField "PostChaiseYard$TextReader" "isWrong") ∈ lw_all := lw_g (lw_at lw_m6 175 rfl) rfl
theorem q1452 : (Jvm.Cond.laysFinal "PostChaiseYard$TextReader" "PostChaiseYard$TextReader" "this$0" "LPostChaiseYard;") ∈ lw_all := lw_g (lw_at lw_m6 176 rfl) rfl
theorem q1453 : (Jvm.Cond.soleField "PostChaiseYard$TextReader" "this$0") ∈ lw_all := lw_g (lw_at lw_m6 177 rfl) rfl
theorem q1454 : (Jvm.Cond.superclass "PostChaiseYard$TextReader" "java/lang/Object") ∈ lw_all := lw_g (lw_at lw_m6 178 rfl) rfl
theorem q1456 : (Jvm.Cond.instanceMethod ({ cls := "PostChaiseYard$TextReader", name := "readAll", desc := "()Z" } : Jvm.MethodName)) ∈ lw_all := lw_g (lw_at lw_m6 180 rfl) rfl
theorem q1457 : (Jvm.Cond.selects "PostChaiseYard$TextReader" ({ cls := "PostChaiseYard$TextReader", name := "readAll", desc := "()Z" } : Jvm.MethodName) ({ cls := "PostChaiseYard$TextReader", name := "readAll", desc := "()Z" } : Jvm.MethodName)) ∈ lw_all := lw_g (lw_at lw_m6 181 rfl) rfl
theorem q1458 : (Jvm.Cond.code ({ cls := "PostChaiseYard$TextReader", name := "readAll", desc := "()Z" } : Jvm.MethodName) prog_10_method_2_code (1 : Nat) (Option.some Jvm.ClassFile.FieldType.boolean)) ∈ lw_all := lw_g (lw_at lw_m6 182 rfl) rfl
theorem q1459 : (Jvm.Cond.methodLink "PostChaiseYard$TextReader" (13 : Nat) ({ cls := "PostChaiseYard$TextReader", name := "order", desc := "()LPostChaiseYard$Order;" } : Jvm.MethodName)) ∈ lw_all := lw_g (lw_at lw_m6 183 rfl) rfl
theorem q1460 : (Jvm.Cond.instanceMethod ({ cls := "PostChaiseYard$TextReader", name := "order", desc := "()LPostChaiseYard$Order;" } : Jvm.MethodName)) ∈ lw_all := lw_g (lw_at lw_m6 184 rfl) rfl
theorem q1461 : (Jvm.Cond.selects "PostChaiseYard$TextReader" ({ cls := "PostChaiseYard$TextReader", name := "order", desc := "()LPostChaiseYard$Order;" } : Jvm.MethodName) ({ cls := "PostChaiseYard$TextReader", name := "order", desc := "()LPostChaiseYard$Order;" } : Jvm.MethodName)) ∈ lw_all := lw_g (lw_at lw_m6 185 rfl) rfl
theorem q1462 : (Jvm.Cond.code ({ cls := "PostChaiseYard$TextReader", name := "order", desc := "()LPostChaiseYard$Order;" } : Jvm.MethodName) prog_10_method_8_code (5 : Nat) (Option.some (Jvm.ClassFile.FieldType.object "PostChaiseYard$Order"))) ∈ lw_all := lw_g (lw_at lw_m6 186 rfl) rfl
theorem q1463 : (Jvm.Cond.methodLink "PostChaiseYard$TextReader" (74 : Nat) ({ cls := "PostChaiseYard$TextReader", name := "word", desc := "()Ljava/lang/String;" } : Jvm.MethodName)) ∈ lw_all := lw_g (lw_at lw_m6 187 rfl) rfl
theorem q1464 : (Jvm.Cond.privateMethod ({ cls := "PostChaiseYard$TextReader", name := "word", desc := "()Ljava/lang/String;" } : Jvm.MethodName)) ∈ lw_tbl := lw_at lw_m6 188 rfl
theorem q1465 : (Jvm.Cond.instanceMethod ({ cls := "PostChaiseYard$TextReader", name := "word", desc := "()Ljava/lang/String;" } : Jvm.MethodName)) ∈ lw_all := lw_g (lw_at lw_m6 189 rfl) rfl
theorem q1466 : (Jvm.Cond.code ({ cls := "PostChaiseYard$TextReader", name := "word", desc := "()Ljava/lang/String;" } : Jvm.MethodName) prog_10_method_5_code (3 : Nat) (Option.some (Jvm.ClassFile.FieldType.object "java/lang/String"))) ∈ lw_all := lw_g (lw_at lw_m6 190 rfl) rfl
theorem q1467 : (Jvm.Cond.classLink "PostChaiseYard$TextReader" (32 : Nat) "java/lang/StringBuilder") ∈ lw_all := lw_g (lw_at lw_m6 191 rfl) rfl
theorem q1468 : (Jvm.Cond.methodLink "PostChaiseYard$TextReader" (45 : Nat) ({ cls := "java/lang/StringBuilder", name := "<init>", desc := "()V" } : Jvm.MethodName)) ∈ lw_all := lw_g (lw_at lw_m6 192 rfl) rfl
theorem q1469 : (Jvm.Cond.methodLink "PostChaiseYard$TextReader" (46 : Nat) ({ cls := "java/lang/StringBuilder", name := "toString", desc := "()Ljava/lang/String;" } : Jvm.MethodName)) ∈ lw_all := lw_g (lw_at lw_m6 193 rfl) rfl
theorem q1470 : (Jvm.Cond.methodLink "PostChaiseYard$TextReader" (50 : Nat) ({ cls := "PostChaiseYard$TextReader", name := "isWord", desc := "(Ljava/lang/String;)Z" } : Jvm.MethodName)) ∈ lw_all := lw_g (lw_at lw_m6 194 rfl) rfl
theorem q1471 : (Jvm.Cond.privateMethod ({ cls := "PostChaiseYard$TextReader", name := "isWord", desc := "(Ljava/lang/String;)Z" } : Jvm.MethodName)) ∈ lw_tbl := lw_at lw_m6 195 rfl
theorem q1472 : (Jvm.Cond.instanceMethod ({ cls := "PostChaiseYard$TextReader", name := "isWord", desc := "(Ljava/lang/String;)Z" } : Jvm.MethodName)) ∈ lw_all := lw_g (lw_at lw_m6 196 rfl) rfl
theorem q1473 : (Jvm.Cond.code ({ cls := "PostChaiseYard$TextReader", name := "isWord", desc := "(Ljava/lang/String;)Z" } : Jvm.MethodName) prog_10_method_6_code (4 : Nat) (Option.some Jvm.ClassFile.FieldType.boolean)) ∈ lw_all := lw_g (lw_at lw_m6 197 rfl) rfl
theorem q1474 : (Jvm.Cond.methodLink "PostChaiseYard$TextReader" (65 : Nat) ({ cls := "java/lang/String", name := "equals", desc := "(Ljava/lang/Object;)Z" } : Jvm.MethodName)) ∈ lw_all := lw_g (lw_at lw_m6 198 rfl) rfl
theorem q1481 : (Jvm.Cond.methodLink "PostChaiseYard$TextReader" (31 : Nat) ({ cls := "java/lang/StringBuilder", name := "length", desc := "()I" } : Jvm.MethodName)) ∈ lw_all := lw_g (lw_at lw_m6 205 rfl) rfl
theorem q1482 : (Jvm.Cond.methodLink "PostChaiseYard$TextReader" (41 : Nat) ({ cls := "java/lang/StringBuilder", name := "charAt", desc := "(I)C" } : Jvm.MethodName)) ∈ lw_all := lw_g (lw_at lw_m6 206 rfl) rfl
theorem q1495 : (Jvm.Cond.methodLink "PostChaiseYard$TextReader" (54 : Nat) ({ cls := "java/lang/StringBuilder", name := "append", desc := "(C)Ljava/lang/StringBuilder;" } : Jvm.MethodName)) ∈ lw_all := lw_g (lw_at lw_m6 219 rfl) rfl
theorem q1512 : (Jvm.Cond.methodLink "PostChaiseYard$TextReader" (58 : Nat) ({ cls := "PostChaiseYard$TextReader", name := "isBeginning", desc := "(Ljava/lang/String;)Z" } : Jvm.MethodName)) ∈ lw_all := lw_g (lw_at lw_m6 236 rfl) rfl
theorem q1513 : (Jvm.Cond.privateMethod ({ cls := "PostChaiseYard$TextReader", name := "isBeginning", desc := "(Ljava/lang/String;)Z" } : Jvm.MethodName)) ∈ lw_tbl := lw_at lw_m6 237 rfl
theorem q1514 : (Jvm.Cond.instanceMethod ({ cls := "PostChaiseYard$TextReader", name := "isBeginning", desc := "(Ljava/lang/String;)Z" } : Jvm.MethodName)) ∈ lw_all := lw_g (lw_at lw_m6 238 rfl) rfl
theorem q1515 : (Jvm.Cond.code ({ cls := "PostChaiseYard$TextReader", name := "isBeginning", desc := "(Ljava/lang/String;)Z" } : Jvm.MethodName) prog_10_method_7_code (4 : Nat) (Option.some Jvm.ClassFile.FieldType.boolean)) ∈ lw_all := lw_g (lw_at lw_m6 239 rfl) rfl
theorem q1516 : (Jvm.Cond.methodLink "PostChaiseYard$TextReader" (71 : Nat) ({ cls := "java/lang/String", name := "startsWith", desc := "(Ljava/lang/String;)Z" } : Jvm.MethodName)) ∈ lw_all := lw_g (lw_at lw_m7 0 rfl) rfl
theorem q1529 : (Jvm.Cond.methodLink "PostChaiseYard$TextReader" (37 : Nat) ({ cls := "PostChaiseYard$TextReader", name := "sign", desc := "(C)Z" } : Jvm.MethodName)) ∈ lw_all := lw_g (lw_at lw_m7 13 rfl) rfl
theorem q1530 : (Jvm.Cond.privateMethod ({ cls := "PostChaiseYard$TextReader", name := "sign", desc := "(C)Z" } : Jvm.MethodName)) ∈ lw_tbl := lw_at lw_m7 14 rfl
theorem q1531 : (Jvm.Cond.instanceMethod ({ cls := "PostChaiseYard$TextReader", name := "sign", desc := "(C)Z" } : Jvm.MethodName)) ∈ lw_all := lw_g (lw_at lw_m7 15 rfl) rfl
theorem q1532 : (Jvm.Cond.code ({ cls := "PostChaiseYard$TextReader", name := "sign", desc := "(C)Z" } : Jvm.MethodName) prog_10_method_3_code (3 : Nat) (Option.some Jvm.ClassFile.FieldType.boolean)) ∈ lw_all := lw_g (lw_at lw_m7 16 rfl) rfl
theorem q1533 : (Jvm.Cond.methodLink "PostChaiseYard$TextReader" (77 : Nat) ({ cls := "java/lang/String", name := "hashCode", desc := "()I" } : Jvm.MethodName)) ∈ lw_all := lw_g (lw_at lw_m7 17 rfl) rfl
theorem q1594 : (Jvm.Cond.stringRef "PostChaiseYard$TextReader" (80 : Nat) "wait") ∈ lw_tbl := lw_at lw_m7 78 rfl
theorem q1595 : (Jvm.Cond.stringRef "PostChaiseYard$TextReader" (82 : Nat) "pole") ∈ lw_tbl := lw_at lw_m7 79 rfl
theorem q1596 : (Jvm.Cond.methodLink "PostChaiseYard$TextReader" (84 : Nat) ({ cls := "PostChaiseYard$TextReader", name := "digit", desc := "(CC)I" } : Jvm.MethodName)) ∈ lw_all := lw_g (lw_at lw_m7 80 rfl) rfl
theorem q1597 : (Jvm.Cond.privateMethod ({ cls := "PostChaiseYard$TextReader", name := "digit", desc := "(CC)I" } : Jvm.MethodName)) ∈ lw_tbl := lw_at lw_m7 81 rfl
theorem q1598 : (Jvm.Cond.instanceMethod ({ cls := "PostChaiseYard$TextReader", name := "digit", desc := "(CC)I" } : Jvm.MethodName)) ∈ lw_all := lw_g (lw_at lw_m7 82 rfl) rfl
theorem q1599 : (Jvm.Cond.code ({ cls := "PostChaiseYard$TextReader", name := "digit", desc := "(CC)I" } : Jvm.MethodName) prog_10_method_4_code (4 : Nat) (Option.some Jvm.ClassFile.FieldType.int)) ∈ lw_all := lw_g (lw_at lw_m7 83 rfl) rfl
theorem q1600 : (Jvm.Cond.classLink "PostChaiseYard$TextReader" (88 : Nat) "PostChaiseYard$Order") ∈ lw_all := lw_g (lw_at lw_m7 84 rfl) rfl
theorem q1602 : (Jvm.Cond.methodLink "PostChaiseYard$TextReader" (90 : Nat) ({ cls := "PostChaiseYard$Order", name := "<init>", desc := "(Ljava/lang/String;I)V" } : Jvm.MethodName)) ∈ lw_all := lw_g (lw_at lw_m7 86 rfl) rfl
theorem q2114 : (Jvm.Cond.selects "PostChaiseYard$TextReader" ({ cls := "java/lang/Object", name := "equals", desc := "(Ljava/lang/Object;)Z" } : Jvm.MethodName) ({ cls := "java/lang/Object", name := "equals", desc := "(Ljava/lang/Object;)Z" } : Jvm.MethodName)) ∈ lw_all := lw_g (lw_at lw_m9 118 rfl) rfl
theorem q2424 : (Jvm.Cond.instanceMethod ({ cls := "PostChaiseYard$TextReader", name := "isAtEnd", desc := "()Z" } : Jvm.MethodName)) ∈ lw_all := lw_g (lw_at lw_m10 188 rfl) rfl
theorem q2425 : (Jvm.Cond.selects "PostChaiseYard$TextReader" ({ cls := "PostChaiseYard$TextReader", name := "isAtEnd", desc := "()Z" } : Jvm.MethodName) ({ cls := "PostChaiseYard$TextReader", name := "isAtEnd", desc := "()Z" } : Jvm.MethodName)) ∈ lw_all := lw_g (lw_at lw_m10 189 rfl) rfl
theorem q2426 : (Jvm.Cond.code ({ cls := "PostChaiseYard$TextReader", name := "isAtEnd", desc := "()Z" } : Jvm.MethodName) prog_10_method_9_code (1 : Nat) (Option.some Jvm.ClassFile.FieldType.boolean)) ∈ lw_all := lw_g (lw_at lw_m10 190 rfl) rfl
theorem q3019 : (Jvm.Cond.castable "PostChaiseYard$TextReader" "java/lang/Object") ∈ lw_tbl := lw_at lw_m13 63 rfl
theorem in_X10 : ∀ w ∈ wsX100, w ∈ lw_all := lw_in wsX100 [1448, 1450, 1452] (by decide +kernel) (by decide +kernel)

/-! PostChaiseYard$Order -/
set_option maxRecDepth 100000
def RX11 : String := "PostChaiseYard$Order"
def TX11 : u_T := fun k => match k with
  | 0 => ("PostChaiseYard$Order", "word", "Ljava/lang/String;", true)
  | _ => ("PostChaiseYard$Order", "number", "I", true)
def tyX11 : Nat → FieldType := fun k => match k with
  | 0 => .object "java/lang/String"
  | _ => .int
abbrev wsX110 : List Cond := u_ws RX11 TX11 2
theorem nmX11 : ∀ a, a < 2 → ∀ b, b < 2 → a ≠ b → (TX11 a).2.1 ≠ (TX11 b).2.1 := by decide +kernel
theorem tyX11_ok : ∀ k, k < 2 → parseFieldDescriptor (TX11 k).2.2.1 = some (tyX11 k) := by decide +kernel
abbrev cX11_init : ByteArray := prog_6_method_1_code
def yX11_init : MethodName := ⟨RX11, "<init>", "(Ljava/lang/String;I)V"⟩
def dkwX11_init_0 : List UInt8 := [42, 183, 0, 1, 42, 43, 181, 0, 7, 42, 28, 181, 0, 13, 177]
abbrev dktX11_init_0 : List UInt8 := dkwX11_init_0 ++ []
theorem dksX11_init_0 : cX11_init.data.toList.drop 0 = dktX11_init_0 := by decide +kernel
theorem dX11_init_0 : decode cX11_init 0 = .ok (.aload_n 0, 1) := dk_42 (dk_at dksX11_init_0 0 rfl rfl)
theorem dX11_init_1 : decode cX11_init 1 = .ok (.invokespecial 1, 3) := dk_183 0 1 (dk_at dksX11_init_0 1 rfl rfl)
theorem dX11_init_4 : decode cX11_init 4 = .ok (.aload_n 0, 1) := dk_42 (dk_at dksX11_init_0 4 rfl rfl)
theorem dX11_init_5 : decode cX11_init 5 = .ok (.aload_n 1, 1) := dk_43 (dk_at dksX11_init_0 5 rfl rfl)
theorem dX11_init_6 : decode cX11_init 6 = .ok (.putfield 7, 3) := dk_181 0 7 (dk_at dksX11_init_0 6 rfl rfl)
theorem dX11_init_9 : decode cX11_init 9 = .ok (.aload_n 0, 1) := dk_42 (dk_at dksX11_init_0 9 rfl rfl)
theorem dX11_init_10 : decode cX11_init 10 = .ok (.iload_n 2, 1) := dk_28 (dk_at dksX11_init_0 10 rfl rfl)
theorem dX11_init_11 : decode cX11_init 11 = .ok (.putfield 13, 3) := dk_181 0 13 (dk_at dksX11_init_0 11 rfl rfl)
theorem dX11_init_14 : decode cX11_init 14 = .ok (.return_, 1) := dk_177 (dk_at dksX11_init_0 14 rfl rfl)
abbrev cX11_carryOut : ByteArray := prog_6_method_2_code
def yX11_carryOut : MethodName := ⟨RX11, "carryOut", "(LPostChaiseYard$State;)Z"⟩
def dkwX11_carryOut_14 : List UInt8 := [192, 0, 89, 180, 0, 91, 198, 0, 5, 3, 172, 43, 42, 180, 0, 13, 182, 0, 95, 87, 4, 172]
abbrev dktX11_carryOut_14 : List UInt8 := dkwX11_carryOut_14 ++ []
def dkwX11_carryOut_13 : List UInt8 := [42, 180, 0, 13, 182, 0, 83, 87, 4, 172, 43, 180, 0, 86, 42, 180, 0, 13, 185, 0, 64, 2, 0]
abbrev dktX11_carryOut_13 : List UInt8 := dkwX11_carryOut_13 ++ dktX11_carryOut_14
def dkwX11_carryOut_12 : List UInt8 := [180, 0, 61, 42, 180, 0, 13, 185, 0, 64, 2, 0, 192, 0, 77, 180, 0, 79, 154, 0, 5, 3, 172, 43]
abbrev dktX11_carryOut_12 : List UInt8 := dkwX11_carryOut_12 ++ dktX11_carryOut_13
def dkwX11_carryOut_11 : List UInt8 := [185, 0, 70, 2, 0, 156, 0, 5, 3, 172, 43, 42, 180, 0, 13, 182, 0, 74, 87, 4, 172, 43]
abbrev dktX11_carryOut_11 : List UInt8 := dkwX11_carryOut_11 ++ dktX11_carryOut_12
def dkwX11_carryOut_10 : List UInt8 := [182, 0, 53, 87, 4, 172, 43, 180, 0, 57, 43, 180, 0, 61, 42, 180, 0, 13, 185, 0, 64, 2, 0]
abbrev dktX11_carryOut_10 : List UInt8 := dkwX11_carryOut_10 ++ dktX11_carryOut_11
def dkwX11_carryOut_9 : List UInt8 := [182, 0, 45, 87, 4, 172, 43, 42, 180, 0, 13, 182, 0, 49, 154, 0, 5, 3, 172, 43, 42, 180, 0, 13]
abbrev dktX11_carryOut_9 : List UInt8 := dkwX11_carryOut_9 ++ dktX11_carryOut_10
def dkwX11_carryOut_8 : List UInt8 := [167, 0, 20, 42, 180, 0, 7, 18, 29, 182, 0, 25, 153, 0, 7, 4, 167, 0, 4, 5, 42, 180, 0, 13]
abbrev dktX11_carryOut_8 : List UInt8 := dkwX11_carryOut_8 ++ dktX11_carryOut_9
def dkwX11_carryOut_7 : List UInt8 := [43, 182, 0, 39, 154, 0, 5, 3, 172, 43, 42, 180, 0, 7, 18, 23, 182, 0, 25, 153, 0, 7, 3]
abbrev dktX11_carryOut_7 : List UInt8 := dkwX11_carryOut_7 ++ dktX11_carryOut_8
def dkwX11_carryOut_6 : List UInt8 := [170, 0, 0, 0, 0, 188, 0, 0, 0, 0, 0, 0, 0, 5, 0, 0, 0, 38, 0, 0, 0, 38, 0, 0, 0, 38, 0, 0, 0, 91, 0, 0, 0, 115, 0, 0, 0, 153]
abbrev dktX11_carryOut_6 : List UInt8 := dkwX11_carryOut_6 ++ dktX11_carryOut_7
def dkwX11_carryOut_5 : List UInt8 := [18, 37, 182, 0, 25, 153, 0, 5, 8, 62, 29]
abbrev dktX11_carryOut_5 : List UInt8 := dkwX11_carryOut_5 ++ dktX11_carryOut_6
def dkwX11_carryOut_4 : List UInt8 := [153, 0, 33, 6, 62, 167, 0, 28, 44, 18, 35, 182, 0, 25, 153, 0, 19, 7, 62, 167, 0, 14, 44]
abbrev dktX11_carryOut_4 : List UInt8 := dkwX11_carryOut_4 ++ dktX11_carryOut_5
def dkwX11_carryOut_3 : List UInt8 := [62, 167, 0, 56, 44, 18, 31, 182, 0, 25, 153, 0, 47, 5, 62, 167, 0, 42, 44, 18, 33, 182, 0, 25]
abbrev dktX11_carryOut_3 : List UInt8 := dkwX11_carryOut_3 ++ dktX11_carryOut_4
def dkwX11_carryOut_2 : List UInt8 := [44, 18, 23, 182, 0, 25, 153, 0, 75, 3, 62, 167, 0, 70, 44, 18, 29, 182, 0, 25, 153, 0, 61, 4]
abbrev dktX11_carryOut_2 : List UInt8 := dkwX11_carryOut_2 ++ dktX11_carryOut_3
def dkwX11_carryOut_1 : List UInt8 := [171, 0, 0, 0, 138, 0, 0, 0, 6, 177, 250, 143, 112, 0, 0, 0, 57, 0, 1, 124, 129, 0, 0, 0, 113, 0, 46, 122, 94, 0, 0, 0, 127, 0, 55, 145, 117, 0, 0, 0, 99, 6, 66, 11, 250, 0, 0, 0, 71, 6, 92, 217, 202, 0, 0, 0, 85]
abbrev dktX11_carryOut_1 : List UInt8 := dkwX11_carryOut_1 ++ dktX11_carryOut_2
def dkwX11_carryOut_0 : List UInt8 := [42, 180, 0, 7, 77, 2, 62, 44, 182, 0, 17]
abbrev dktX11_carryOut_0 : List UInt8 := dkwX11_carryOut_0 ++ dktX11_carryOut_1
theorem dksX11_carryOut_0 : cX11_carryOut.data.toList.drop 0 = dktX11_carryOut_0 := by decide +kernel
theorem dksX11_carryOut_1 : cX11_carryOut.data.toList.drop 11 = dktX11_carryOut_1 := dk_seg dksX11_carryOut_0 11 rfl rfl
theorem dksX11_carryOut_2 : cX11_carryOut.data.toList.drop 68 = dktX11_carryOut_2 := dk_seg dksX11_carryOut_1 57 rfl rfl
theorem dksX11_carryOut_3 : cX11_carryOut.data.toList.drop 92 = dktX11_carryOut_3 := dk_seg dksX11_carryOut_2 24 rfl rfl
theorem dksX11_carryOut_4 : cX11_carryOut.data.toList.drop 116 = dktX11_carryOut_4 := dk_seg dksX11_carryOut_3 24 rfl rfl
theorem dksX11_carryOut_5 : cX11_carryOut.data.toList.drop 139 = dktX11_carryOut_5 := dk_seg dksX11_carryOut_4 23 rfl rfl
theorem dksX11_carryOut_6 : cX11_carryOut.data.toList.drop 150 = dktX11_carryOut_6 := dk_seg dksX11_carryOut_5 11 rfl rfl
theorem dksX11_carryOut_7 : cX11_carryOut.data.toList.drop 188 = dktX11_carryOut_7 := dk_seg dksX11_carryOut_6 38 rfl rfl
theorem dksX11_carryOut_8 : cX11_carryOut.data.toList.drop 211 = dktX11_carryOut_8 := dk_seg dksX11_carryOut_7 23 rfl rfl
theorem dksX11_carryOut_9 : cX11_carryOut.data.toList.drop 235 = dktX11_carryOut_9 := dk_seg dksX11_carryOut_8 24 rfl rfl
theorem dksX11_carryOut_10 : cX11_carryOut.data.toList.drop 259 = dktX11_carryOut_10 := dk_seg dksX11_carryOut_9 24 rfl rfl
theorem dksX11_carryOut_11 : cX11_carryOut.data.toList.drop 282 = dktX11_carryOut_11 := dk_seg dksX11_carryOut_10 23 rfl rfl
theorem dksX11_carryOut_12 : cX11_carryOut.data.toList.drop 304 = dktX11_carryOut_12 := dk_seg dksX11_carryOut_11 22 rfl rfl
theorem dksX11_carryOut_13 : cX11_carryOut.data.toList.drop 328 = dktX11_carryOut_13 := dk_seg dksX11_carryOut_12 24 rfl rfl
theorem dksX11_carryOut_14 : cX11_carryOut.data.toList.drop 351 = dktX11_carryOut_14 := dk_seg dksX11_carryOut_13 23 rfl rfl
theorem dX11_carryOut_0 : decode cX11_carryOut 0 = .ok (.aload_n 0, 1) := dk_42 (dk_at dksX11_carryOut_0 0 rfl rfl)
theorem dX11_carryOut_1 : decode cX11_carryOut 1 = .ok (.getfield 7, 3) := dk_180 0 7 (dk_at dksX11_carryOut_0 1 rfl rfl)
theorem dX11_carryOut_4 : decode cX11_carryOut 4 = .ok (.astore_n 2, 1) := dk_77 (dk_at dksX11_carryOut_0 4 rfl rfl)
theorem dX11_carryOut_5 : decode cX11_carryOut 5 = .ok (.iconst (-1), 1) := dk_2 (dk_at dksX11_carryOut_0 5 rfl rfl)
theorem dX11_carryOut_6 : decode cX11_carryOut 6 = .ok (.istore_n 3, 1) := dk_62 (dk_at dksX11_carryOut_0 6 rfl rfl)
theorem dX11_carryOut_7 : decode cX11_carryOut 7 = .ok (.aload_n 2, 1) := dk_44 (dk_at dksX11_carryOut_0 7 rfl rfl)
theorem dX11_carryOut_8 : decode cX11_carryOut 8 = .ok (.invokevirtual 17, 3) := dk_182 0 17 (dk_at dksX11_carryOut_0 8 rfl rfl)
theorem dX11_carryOut_11 : decode cX11_carryOut 11 = .ok (.lookupswitch 138 #[(-1308979344, 57), (97409, 113), (3045982, 127), (3641717, 99), (104991738, 71), (106748362, 85)], 57) := by decide +kernel
theorem dX11_carryOut_68 : decode cX11_carryOut 68 = .ok (.aload_n 2, 1) := dk_44 (dk_at dksX11_carryOut_2 0 rfl rfl)
theorem dX11_carryOut_69 : decode cX11_carryOut 69 = .ok (.ldc 23, 2) := dk_18 23 (dk_at dksX11_carryOut_2 1 rfl rfl)
theorem dX11_carryOut_71 : decode cX11_carryOut 71 = .ok (.invokevirtual 25, 3) := dk_182 0 25 (dk_at dksX11_carryOut_2 3 rfl rfl)
theorem dX11_carryOut_74 : decode cX11_carryOut 74 = .ok (.ifCond .eq 75, 3) := dk_153 0 75 (dk_at dksX11_carryOut_2 6 rfl rfl)
theorem dX11_carryOut_77 : decode cX11_carryOut 77 = .ok (.iconst 0, 1) := dk_3 (dk_at dksX11_carryOut_2 9 rfl rfl)
theorem dX11_carryOut_78 : decode cX11_carryOut 78 = .ok (.istore_n 3, 1) := dk_62 (dk_at dksX11_carryOut_2 10 rfl rfl)
theorem dX11_carryOut_79 : decode cX11_carryOut 79 = .ok (.goto 70, 3) := dk_167 0 70 (dk_at dksX11_carryOut_2 11 rfl rfl)
theorem dX11_carryOut_82 : decode cX11_carryOut 82 = .ok (.aload_n 2, 1) := dk_44 (dk_at dksX11_carryOut_2 14 rfl rfl)
theorem dX11_carryOut_83 : decode cX11_carryOut 83 = .ok (.ldc 29, 2) := dk_18 29 (dk_at dksX11_carryOut_2 15 rfl rfl)
theorem dX11_carryOut_85 : decode cX11_carryOut 85 = .ok (.invokevirtual 25, 3) := dk_182 0 25 (dk_at dksX11_carryOut_2 17 rfl rfl)
theorem dX11_carryOut_88 : decode cX11_carryOut 88 = .ok (.ifCond .eq 61, 3) := dk_153 0 61 (dk_at dksX11_carryOut_2 20 rfl rfl)
theorem dX11_carryOut_91 : decode cX11_carryOut 91 = .ok (.iconst 1, 1) := dk_4 (dk_at dksX11_carryOut_2 23 rfl rfl)
theorem dX11_carryOut_92 : decode cX11_carryOut 92 = .ok (.istore_n 3, 1) := dk_62 (dk_at dksX11_carryOut_3 0 rfl rfl)
theorem dX11_carryOut_93 : decode cX11_carryOut 93 = .ok (.goto 56, 3) := dk_167 0 56 (dk_at dksX11_carryOut_3 1 rfl rfl)
theorem dX11_carryOut_96 : decode cX11_carryOut 96 = .ok (.aload_n 2, 1) := dk_44 (dk_at dksX11_carryOut_3 4 rfl rfl)
theorem dX11_carryOut_97 : decode cX11_carryOut 97 = .ok (.ldc 31, 2) := dk_18 31 (dk_at dksX11_carryOut_3 5 rfl rfl)
theorem dX11_carryOut_99 : decode cX11_carryOut 99 = .ok (.invokevirtual 25, 3) := dk_182 0 25 (dk_at dksX11_carryOut_3 7 rfl rfl)
theorem dX11_carryOut_102 : decode cX11_carryOut 102 = .ok (.ifCond .eq 47, 3) := dk_153 0 47 (dk_at dksX11_carryOut_3 10 rfl rfl)
theorem dX11_carryOut_105 : decode cX11_carryOut 105 = .ok (.iconst 2, 1) := dk_5 (dk_at dksX11_carryOut_3 13 rfl rfl)
theorem dX11_carryOut_106 : decode cX11_carryOut 106 = .ok (.istore_n 3, 1) := dk_62 (dk_at dksX11_carryOut_3 14 rfl rfl)
theorem dX11_carryOut_107 : decode cX11_carryOut 107 = .ok (.goto 42, 3) := dk_167 0 42 (dk_at dksX11_carryOut_3 15 rfl rfl)
theorem dX11_carryOut_110 : decode cX11_carryOut 110 = .ok (.aload_n 2, 1) := dk_44 (dk_at dksX11_carryOut_3 18 rfl rfl)
theorem dX11_carryOut_111 : decode cX11_carryOut 111 = .ok (.ldc 33, 2) := dk_18 33 (dk_at dksX11_carryOut_3 19 rfl rfl)
theorem dX11_carryOut_113 : decode cX11_carryOut 113 = .ok (.invokevirtual 25, 3) := dk_182 0 25 (dk_at dksX11_carryOut_3 21 rfl rfl)
theorem dX11_carryOut_116 : decode cX11_carryOut 116 = .ok (.ifCond .eq 33, 3) := dk_153 0 33 (dk_at dksX11_carryOut_4 0 rfl rfl)
theorem dX11_carryOut_119 : decode cX11_carryOut 119 = .ok (.iconst 3, 1) := dk_6 (dk_at dksX11_carryOut_4 3 rfl rfl)
theorem dX11_carryOut_120 : decode cX11_carryOut 120 = .ok (.istore_n 3, 1) := dk_62 (dk_at dksX11_carryOut_4 4 rfl rfl)
theorem dX11_carryOut_121 : decode cX11_carryOut 121 = .ok (.goto 28, 3) := dk_167 0 28 (dk_at dksX11_carryOut_4 5 rfl rfl)
theorem dX11_carryOut_124 : decode cX11_carryOut 124 = .ok (.aload_n 2, 1) := dk_44 (dk_at dksX11_carryOut_4 8 rfl rfl)
theorem dX11_carryOut_125 : decode cX11_carryOut 125 = .ok (.ldc 35, 2) := dk_18 35 (dk_at dksX11_carryOut_4 9 rfl rfl)
theorem dX11_carryOut_127 : decode cX11_carryOut 127 = .ok (.invokevirtual 25, 3) := dk_182 0 25 (dk_at dksX11_carryOut_4 11 rfl rfl)
theorem dX11_carryOut_130 : decode cX11_carryOut 130 = .ok (.ifCond .eq 19, 3) := dk_153 0 19 (dk_at dksX11_carryOut_4 14 rfl rfl)
theorem dX11_carryOut_133 : decode cX11_carryOut 133 = .ok (.iconst 4, 1) := dk_7 (dk_at dksX11_carryOut_4 17 rfl rfl)
theorem dX11_carryOut_134 : decode cX11_carryOut 134 = .ok (.istore_n 3, 1) := dk_62 (dk_at dksX11_carryOut_4 18 rfl rfl)
theorem dX11_carryOut_135 : decode cX11_carryOut 135 = .ok (.goto 14, 3) := dk_167 0 14 (dk_at dksX11_carryOut_4 19 rfl rfl)
theorem dX11_carryOut_138 : decode cX11_carryOut 138 = .ok (.aload_n 2, 1) := dk_44 (dk_at dksX11_carryOut_4 22 rfl rfl)
theorem dX11_carryOut_139 : decode cX11_carryOut 139 = .ok (.ldc 37, 2) := dk_18 37 (dk_at dksX11_carryOut_5 0 rfl rfl)
theorem dX11_carryOut_141 : decode cX11_carryOut 141 = .ok (.invokevirtual 25, 3) := dk_182 0 25 (dk_at dksX11_carryOut_5 2 rfl rfl)
theorem dX11_carryOut_144 : decode cX11_carryOut 144 = .ok (.ifCond .eq 5, 3) := dk_153 0 5 (dk_at dksX11_carryOut_5 5 rfl rfl)
theorem dX11_carryOut_147 : decode cX11_carryOut 147 = .ok (.iconst 5, 1) := dk_8 (dk_at dksX11_carryOut_5 8 rfl rfl)
theorem dX11_carryOut_148 : decode cX11_carryOut 148 = .ok (.istore_n 3, 1) := dk_62 (dk_at dksX11_carryOut_5 9 rfl rfl)
theorem dX11_carryOut_149 : decode cX11_carryOut 149 = .ok (.iload_n 3, 1) := dk_29 (dk_at dksX11_carryOut_5 10 rfl rfl)
theorem dX11_carryOut_150 : decode cX11_carryOut 150 = .ok (.tableswitch 188 0 5 #[38, 38, 38, 91, 115, 153], 38) := by decide +kernel
theorem dX11_carryOut_188 : decode cX11_carryOut 188 = .ok (.aload_n 1, 1) := dk_43 (dk_at dksX11_carryOut_7 0 rfl rfl)
theorem dX11_carryOut_189 : decode cX11_carryOut 189 = .ok (.invokevirtual 39, 3) := dk_182 0 39 (dk_at dksX11_carryOut_7 1 rfl rfl)
theorem dX11_carryOut_192 : decode cX11_carryOut 192 = .ok (.ifCond .ne 5, 3) := dk_154 0 5 (dk_at dksX11_carryOut_7 4 rfl rfl)
theorem dX11_carryOut_195 : decode cX11_carryOut 195 = .ok (.iconst 0, 1) := dk_3 (dk_at dksX11_carryOut_7 7 rfl rfl)
theorem dX11_carryOut_196 : decode cX11_carryOut 196 = .ok (.ireturn, 1) := dk_172 (dk_at dksX11_carryOut_7 8 rfl rfl)
theorem dX11_carryOut_197 : decode cX11_carryOut 197 = .ok (.aload_n 1, 1) := dk_43 (dk_at dksX11_carryOut_7 9 rfl rfl)
theorem dX11_carryOut_198 : decode cX11_carryOut 198 = .ok (.aload_n 0, 1) := dk_42 (dk_at dksX11_carryOut_7 10 rfl rfl)
theorem dX11_carryOut_199 : decode cX11_carryOut 199 = .ok (.getfield 7, 3) := dk_180 0 7 (dk_at dksX11_carryOut_7 11 rfl rfl)
theorem dX11_carryOut_202 : decode cX11_carryOut 202 = .ok (.ldc 23, 2) := dk_18 23 (dk_at dksX11_carryOut_7 14 rfl rfl)
theorem dX11_carryOut_204 : decode cX11_carryOut 204 = .ok (.invokevirtual 25, 3) := dk_182 0 25 (dk_at dksX11_carryOut_7 16 rfl rfl)
theorem dX11_carryOut_207 : decode cX11_carryOut 207 = .ok (.ifCond .eq 7, 3) := dk_153 0 7 (dk_at dksX11_carryOut_7 19 rfl rfl)
theorem dX11_carryOut_210 : decode cX11_carryOut 210 = .ok (.iconst 0, 1) := dk_3 (dk_at dksX11_carryOut_7 22 rfl rfl)
theorem dX11_carryOut_211 : decode cX11_carryOut 211 = .ok (.goto 20, 3) := dk_167 0 20 (dk_at dksX11_carryOut_8 0 rfl rfl)
theorem dX11_carryOut_214 : decode cX11_carryOut 214 = .ok (.aload_n 0, 1) := dk_42 (dk_at dksX11_carryOut_8 3 rfl rfl)
theorem dX11_carryOut_215 : decode cX11_carryOut 215 = .ok (.getfield 7, 3) := dk_180 0 7 (dk_at dksX11_carryOut_8 4 rfl rfl)
theorem dX11_carryOut_218 : decode cX11_carryOut 218 = .ok (.ldc 29, 2) := dk_18 29 (dk_at dksX11_carryOut_8 7 rfl rfl)
theorem dX11_carryOut_220 : decode cX11_carryOut 220 = .ok (.invokevirtual 25, 3) := dk_182 0 25 (dk_at dksX11_carryOut_8 9 rfl rfl)
theorem dX11_carryOut_223 : decode cX11_carryOut 223 = .ok (.ifCond .eq 7, 3) := dk_153 0 7 (dk_at dksX11_carryOut_8 12 rfl rfl)
theorem dX11_carryOut_226 : decode cX11_carryOut 226 = .ok (.iconst 1, 1) := dk_4 (dk_at dksX11_carryOut_8 15 rfl rfl)
theorem dX11_carryOut_227 : decode cX11_carryOut 227 = .ok (.goto 4, 3) := dk_167 0 4 (dk_at dksX11_carryOut_8 16 rfl rfl)
theorem dX11_carryOut_230 : decode cX11_carryOut 230 = .ok (.iconst 2, 1) := dk_5 (dk_at dksX11_carryOut_8 19 rfl rfl)
theorem dX11_carryOut_231 : decode cX11_carryOut 231 = .ok (.aload_n 0, 1) := dk_42 (dk_at dksX11_carryOut_8 20 rfl rfl)
theorem dX11_carryOut_232 : decode cX11_carryOut 232 = .ok (.getfield 13, 3) := dk_180 0 13 (dk_at dksX11_carryOut_8 21 rfl rfl)
theorem dX11_carryOut_235 : decode cX11_carryOut 235 = .ok (.invokevirtual 45, 3) := dk_182 0 45 (dk_at dksX11_carryOut_9 0 rfl rfl)
theorem dX11_carryOut_238 : decode cX11_carryOut 238 = .ok (.pop, 1) := dk_87 (dk_at dksX11_carryOut_9 3 rfl rfl)
theorem dX11_carryOut_239 : decode cX11_carryOut 239 = .ok (.iconst 1, 1) := dk_4 (dk_at dksX11_carryOut_9 4 rfl rfl)
theorem dX11_carryOut_240 : decode cX11_carryOut 240 = .ok (.ireturn, 1) := dk_172 (dk_at dksX11_carryOut_9 5 rfl rfl)
theorem dX11_carryOut_241 : decode cX11_carryOut 241 = .ok (.aload_n 1, 1) := dk_43 (dk_at dksX11_carryOut_9 6 rfl rfl)
theorem dX11_carryOut_242 : decode cX11_carryOut 242 = .ok (.aload_n 0, 1) := dk_42 (dk_at dksX11_carryOut_9 7 rfl rfl)
theorem dX11_carryOut_243 : decode cX11_carryOut 243 = .ok (.getfield 13, 3) := dk_180 0 13 (dk_at dksX11_carryOut_9 8 rfl rfl)
theorem dX11_carryOut_246 : decode cX11_carryOut 246 = .ok (.invokevirtual 49, 3) := dk_182 0 49 (dk_at dksX11_carryOut_9 11 rfl rfl)
theorem dX11_carryOut_249 : decode cX11_carryOut 249 = .ok (.ifCond .ne 5, 3) := dk_154 0 5 (dk_at dksX11_carryOut_9 14 rfl rfl)
theorem dX11_carryOut_252 : decode cX11_carryOut 252 = .ok (.iconst 0, 1) := dk_3 (dk_at dksX11_carryOut_9 17 rfl rfl)
theorem dX11_carryOut_253 : decode cX11_carryOut 253 = .ok (.ireturn, 1) := dk_172 (dk_at dksX11_carryOut_9 18 rfl rfl)
theorem dX11_carryOut_254 : decode cX11_carryOut 254 = .ok (.aload_n 1, 1) := dk_43 (dk_at dksX11_carryOut_9 19 rfl rfl)
theorem dX11_carryOut_255 : decode cX11_carryOut 255 = .ok (.aload_n 0, 1) := dk_42 (dk_at dksX11_carryOut_9 20 rfl rfl)
theorem dX11_carryOut_256 : decode cX11_carryOut 256 = .ok (.getfield 13, 3) := dk_180 0 13 (dk_at dksX11_carryOut_9 21 rfl rfl)
theorem dX11_carryOut_259 : decode cX11_carryOut 259 = .ok (.invokevirtual 53, 3) := dk_182 0 53 (dk_at dksX11_carryOut_10 0 rfl rfl)
theorem dX11_carryOut_262 : decode cX11_carryOut 262 = .ok (.pop, 1) := dk_87 (dk_at dksX11_carryOut_10 3 rfl rfl)
theorem dX11_carryOut_263 : decode cX11_carryOut 263 = .ok (.iconst 1, 1) := dk_4 (dk_at dksX11_carryOut_10 4 rfl rfl)
theorem dX11_carryOut_264 : decode cX11_carryOut 264 = .ok (.ireturn, 1) := dk_172 (dk_at dksX11_carryOut_10 5 rfl rfl)
theorem dX11_carryOut_265 : decode cX11_carryOut 265 = .ok (.aload_n 1, 1) := dk_43 (dk_at dksX11_carryOut_10 6 rfl rfl)
theorem dX11_carryOut_266 : decode cX11_carryOut 266 = .ok (.getfield 57, 3) := dk_180 0 57 (dk_at dksX11_carryOut_10 7 rfl rfl)
theorem dX11_carryOut_269 : decode cX11_carryOut 269 = .ok (.aload_n 1, 1) := dk_43 (dk_at dksX11_carryOut_10 10 rfl rfl)
theorem dX11_carryOut_270 : decode cX11_carryOut 270 = .ok (.getfield 61, 3) := dk_180 0 61 (dk_at dksX11_carryOut_10 11 rfl rfl)
theorem dX11_carryOut_273 : decode cX11_carryOut 273 = .ok (.aload_n 0, 1) := dk_42 (dk_at dksX11_carryOut_10 14 rfl rfl)
theorem dX11_carryOut_274 : decode cX11_carryOut 274 = .ok (.getfield 13, 3) := dk_180 0 13 (dk_at dksX11_carryOut_10 15 rfl rfl)
theorem dX11_carryOut_277 : decode cX11_carryOut 277 = .ok (.invokeinterface 64 2, 5) := by decide +kernel
theorem dX11_carryOut_282 : decode cX11_carryOut 282 = .ok (.invokeinterface 70 2, 5) := by decide +kernel
theorem dX11_carryOut_287 : decode cX11_carryOut 287 = .ok (.ifCond .ge 5, 3) := dk_156 0 5 (dk_at dksX11_carryOut_11 5 rfl rfl)
theorem dX11_carryOut_290 : decode cX11_carryOut 290 = .ok (.iconst 0, 1) := dk_3 (dk_at dksX11_carryOut_11 8 rfl rfl)
theorem dX11_carryOut_291 : decode cX11_carryOut 291 = .ok (.ireturn, 1) := dk_172 (dk_at dksX11_carryOut_11 9 rfl rfl)
theorem dX11_carryOut_292 : decode cX11_carryOut 292 = .ok (.aload_n 1, 1) := dk_43 (dk_at dksX11_carryOut_11 10 rfl rfl)
theorem dX11_carryOut_293 : decode cX11_carryOut 293 = .ok (.aload_n 0, 1) := dk_42 (dk_at dksX11_carryOut_11 11 rfl rfl)
theorem dX11_carryOut_294 : decode cX11_carryOut 294 = .ok (.getfield 13, 3) := dk_180 0 13 (dk_at dksX11_carryOut_11 12 rfl rfl)
theorem dX11_carryOut_297 : decode cX11_carryOut 297 = .ok (.invokevirtual 74, 3) := dk_182 0 74 (dk_at dksX11_carryOut_11 15 rfl rfl)
theorem dX11_carryOut_300 : decode cX11_carryOut 300 = .ok (.pop, 1) := dk_87 (dk_at dksX11_carryOut_11 18 rfl rfl)
theorem dX11_carryOut_301 : decode cX11_carryOut 301 = .ok (.iconst 1, 1) := dk_4 (dk_at dksX11_carryOut_11 19 rfl rfl)
theorem dX11_carryOut_302 : decode cX11_carryOut 302 = .ok (.ireturn, 1) := dk_172 (dk_at dksX11_carryOut_11 20 rfl rfl)
theorem dX11_carryOut_303 : decode cX11_carryOut 303 = .ok (.aload_n 1, 1) := dk_43 (dk_at dksX11_carryOut_11 21 rfl rfl)
theorem dX11_carryOut_304 : decode cX11_carryOut 304 = .ok (.getfield 61, 3) := dk_180 0 61 (dk_at dksX11_carryOut_12 0 rfl rfl)
theorem dX11_carryOut_307 : decode cX11_carryOut 307 = .ok (.aload_n 0, 1) := dk_42 (dk_at dksX11_carryOut_12 3 rfl rfl)
theorem dX11_carryOut_308 : decode cX11_carryOut 308 = .ok (.getfield 13, 3) := dk_180 0 13 (dk_at dksX11_carryOut_12 4 rfl rfl)
theorem dX11_carryOut_311 : decode cX11_carryOut 311 = .ok (.invokeinterface 64 2, 5) := by decide +kernel
theorem dX11_carryOut_316 : decode cX11_carryOut 316 = .ok (.checkcast 77, 3) := dk_192 0 77 (dk_at dksX11_carryOut_12 12 rfl rfl)
theorem dX11_carryOut_319 : decode cX11_carryOut 319 = .ok (.getfield 79, 3) := dk_180 0 79 (dk_at dksX11_carryOut_12 15 rfl rfl)
theorem dX11_carryOut_322 : decode cX11_carryOut 322 = .ok (.ifCond .ne 5, 3) := dk_154 0 5 (dk_at dksX11_carryOut_12 18 rfl rfl)
theorem dX11_carryOut_325 : decode cX11_carryOut 325 = .ok (.iconst 0, 1) := dk_3 (dk_at dksX11_carryOut_12 21 rfl rfl)
theorem dX11_carryOut_326 : decode cX11_carryOut 326 = .ok (.ireturn, 1) := dk_172 (dk_at dksX11_carryOut_12 22 rfl rfl)
theorem dX11_carryOut_327 : decode cX11_carryOut 327 = .ok (.aload_n 1, 1) := dk_43 (dk_at dksX11_carryOut_12 23 rfl rfl)
theorem dX11_carryOut_328 : decode cX11_carryOut 328 = .ok (.aload_n 0, 1) := dk_42 (dk_at dksX11_carryOut_13 0 rfl rfl)
theorem dX11_carryOut_329 : decode cX11_carryOut 329 = .ok (.getfield 13, 3) := dk_180 0 13 (dk_at dksX11_carryOut_13 1 rfl rfl)
theorem dX11_carryOut_332 : decode cX11_carryOut 332 = .ok (.invokevirtual 83, 3) := dk_182 0 83 (dk_at dksX11_carryOut_13 4 rfl rfl)
theorem dX11_carryOut_335 : decode cX11_carryOut 335 = .ok (.pop, 1) := dk_87 (dk_at dksX11_carryOut_13 7 rfl rfl)
theorem dX11_carryOut_336 : decode cX11_carryOut 336 = .ok (.iconst 1, 1) := dk_4 (dk_at dksX11_carryOut_13 8 rfl rfl)
theorem dX11_carryOut_337 : decode cX11_carryOut 337 = .ok (.ireturn, 1) := dk_172 (dk_at dksX11_carryOut_13 9 rfl rfl)
theorem dX11_carryOut_338 : decode cX11_carryOut 338 = .ok (.aload_n 1, 1) := dk_43 (dk_at dksX11_carryOut_13 10 rfl rfl)
theorem dX11_carryOut_339 : decode cX11_carryOut 339 = .ok (.getfield 86, 3) := dk_180 0 86 (dk_at dksX11_carryOut_13 11 rfl rfl)
theorem dX11_carryOut_342 : decode cX11_carryOut 342 = .ok (.aload_n 0, 1) := dk_42 (dk_at dksX11_carryOut_13 14 rfl rfl)
theorem dX11_carryOut_343 : decode cX11_carryOut 343 = .ok (.getfield 13, 3) := dk_180 0 13 (dk_at dksX11_carryOut_13 15 rfl rfl)
theorem dX11_carryOut_346 : decode cX11_carryOut 346 = .ok (.invokeinterface 64 2, 5) := by decide +kernel
theorem dX11_carryOut_351 : decode cX11_carryOut 351 = .ok (.checkcast 89, 3) := dk_192 0 89 (dk_at dksX11_carryOut_14 0 rfl rfl)
theorem dX11_carryOut_354 : decode cX11_carryOut 354 = .ok (.getfield 91, 3) := dk_180 0 91 (dk_at dksX11_carryOut_14 3 rfl rfl)
theorem dX11_carryOut_357 : decode cX11_carryOut 357 = .ok (.ifnull 5, 3) := dk_198 0 5 (dk_at dksX11_carryOut_14 6 rfl rfl)
theorem dX11_carryOut_360 : decode cX11_carryOut 360 = .ok (.iconst 0, 1) := dk_3 (dk_at dksX11_carryOut_14 9 rfl rfl)
theorem dX11_carryOut_361 : decode cX11_carryOut 361 = .ok (.ireturn, 1) := dk_172 (dk_at dksX11_carryOut_14 10 rfl rfl)
theorem dX11_carryOut_362 : decode cX11_carryOut 362 = .ok (.aload_n 1, 1) := dk_43 (dk_at dksX11_carryOut_14 11 rfl rfl)
theorem dX11_carryOut_363 : decode cX11_carryOut 363 = .ok (.aload_n 0, 1) := dk_42 (dk_at dksX11_carryOut_14 12 rfl rfl)
theorem dX11_carryOut_364 : decode cX11_carryOut 364 = .ok (.getfield 13, 3) := dk_180 0 13 (dk_at dksX11_carryOut_14 13 rfl rfl)
theorem dX11_carryOut_367 : decode cX11_carryOut 367 = .ok (.invokevirtual 95, 3) := dk_182 0 95 (dk_at dksX11_carryOut_14 16 rfl rfl)
theorem dX11_carryOut_370 : decode cX11_carryOut 370 = .ok (.pop, 1) := dk_87 (dk_at dksX11_carryOut_14 19 rfl rfl)
theorem dX11_carryOut_371 : decode cX11_carryOut 371 = .ok (.iconst 1, 1) := dk_4 (dk_at dksX11_carryOut_14 20 rfl rfl)
theorem dX11_carryOut_372 : decode cX11_carryOut 372 = .ok (.ireturn, 1) := dk_172 (dk_at dksX11_carryOut_14 21 rfl rfl)
theorem q127 : (Jvm.Cond.initialized "PostChaiseYard$Order") ∈ lw_all := lw_g (lw_at lw_m1 51 rfl) rfl
theorem q336 : (Jvm.Cond.fieldLink "PostChaiseYard$Order" (61 : Nat) "PostChaiseYard$State" "boys" "Ljava/util/List;") ∈ lw_all := lw_g (lw_at lw_m2 20 rfl) rfl
theorem q339 : (Jvm.Cond.fieldLink "PostChaiseYard$Order" (57 : Nat) "PostChaiseYard$State" "row" "Ljava/util/List;") ∈ lw_all := lw_g (lw_at lw_m2 23 rfl) rfl
theorem q342 : (Jvm.Cond.fieldLink "PostChaiseYard$Order" (86 : Nat) "PostChaiseYard$State" "chaises" "Ljava/util/List;") ∈ lw_all := lw_g (lw_at lw_m2 26 rfl) rfl
theorem q449 : (Jvm.Cond.selects "PostChaiseYard$Order" ({ cls := "java/lang/Object", name := "getClass", desc := "()Ljava/lang/Class;" } : Jvm.MethodName) ({ cls := "java/lang/Object", name := "getClass", desc := "()Ljava/lang/Class;" } : Jvm.MethodName)) ∈ lw_all := lw_g (lw_at lw_m2 133 rfl) rfl
theorem q501 : (Jvm.Cond.fieldLink "PostChaiseYard$Order" (79 : Nat) "PostChaiseYard$Boy" "isInBed" "Z") ∈ lw_all := lw_g (lw_at lw_m2 185 rfl) rfl
theorem q548 : (Jvm.Cond.fieldLink "PostChaiseYard$Order" (91 : Nat) "PostChaiseYard$Chaise" "trip" "LPostChaiseYard$Trip;") ∈ lw_all := lw_g (lw_at lw_m2 232 rfl) rfl
theorem q1601 : (Jvm.Cond.instantiable "PostChaiseYard$Order" (2 : Nat)) ∈ lw_all := lw_g (lw_at lw_m7 85 rfl) rfl
theorem q1603 : (Jvm.Cond.instanceMethod ({ cls := "PostChaiseYard$Order", name := "<init>", desc := "(Ljava/lang/String;I)V" } : Jvm.MethodName)) ∈ lw_all := lw_g (lw_at lw_m7 87 rfl) rfl
theorem q1604 : (Jvm.Cond.code ({ cls := "PostChaiseYard$Order", name := "<init>", desc := "(Ljava/lang/String;I)V" } : Jvm.MethodName) prog_6_method_1_code (3 : Nat) (Option.none : Option Jvm.ClassFile.FieldType)) ∈ lw_all := lw_g (lw_at lw_m7 88 rfl) rfl
theorem q1605 : (Jvm.Cond.methodLink "PostChaiseYard$Order" (1 : Nat) ({ cls := "java/lang/Object", name := "<init>", desc := "()V" } : Jvm.MethodName)) ∈ lw_all := lw_g (lw_at lw_m7 89 rfl) rfl
theorem q1606 : (Jvm.Cond.fieldLink "PostChaiseYard$Order" (7 : Nat) "PostChaiseYard$Order" "word" "Ljava/lang/String;") ∈ lw_all := lw_g (lw_at lw_m7 90 rfl) rfl
theorem q1607 : (Jvm.Cond.fieldLink "PostChaiseYard$Order" (13 : Nat) "PostChaiseYard$Order" "number" "I") ∈ lw_all := lw_g (lw_at lw_m7 91 rfl) rfl
theorem q1608 : (Jvm.Cond.laysFinal "PostChaiseYard$Order" "PostChaiseYard$Order" "word" "Ljava/lang/String;") ∈ lw_all := lw_g (lw_at lw_m7 92 rfl) rfl
theorem q1609 : (Jvm.Cond.soleField "PostChaiseYard$Order" "word") ∈ lw_all := lw_g (lw_at lw_m7 93 rfl) rfl
theorem q1610 : (Jvm.Cond.laysFinal "PostChaiseYard$Order" "PostChaiseYard$Order" "number" "I") ∈ lw_all := lw_g (lw_at lw_m7 94 rfl) rfl
theorem q1611 : (Jvm.Cond.soleField "PostChaiseYard$Order" "number") ∈ lw_all := lw_g (lw_at lw_m7 95 rfl) rfl
theorem q1612 : (Jvm.Cond.superclass "PostChaiseYard$Order" "java/lang/Object") ∈ lw_all := lw_g (lw_at lw_m7 96 rfl) rfl
theorem q2108 : (Jvm.Cond.selects "PostChaiseYard$Order" ({ cls := "java/lang/Object", name := "equals", desc := "(Ljava/lang/Object;)Z" } : Jvm.MethodName) ({ cls := "java/lang/Object", name := "equals", desc := "(Ljava/lang/Object;)Z" } : Jvm.MethodName)) ∈ lw_all := lw_g (lw_at lw_m9 112 rfl) rfl
theorem q2429 : (Jvm.Cond.instanceMethod ({ cls := "PostChaiseYard$Order", name := "carryOut", desc := "(LPostChaiseYard$State;)Z" } : Jvm.MethodName)) ∈ lw_all := lw_g (lw_at lw_m10 193 rfl) rfl
theorem q2430 : (Jvm.Cond.selects "PostChaiseYard$Order" ({ cls := "PostChaiseYard$Order", name := "carryOut", desc := "(LPostChaiseYard$State;)Z" } : Jvm.MethodName) ({ cls := "PostChaiseYard$Order", name := "carryOut", desc := "(LPostChaiseYard$State;)Z" } : Jvm.MethodName)) ∈ lw_all := lw_g (lw_at lw_m10 194 rfl) rfl
theorem q2431 : (Jvm.Cond.code ({ cls := "PostChaiseYard$Order", name := "carryOut", desc := "(LPostChaiseYard$State;)Z" } : Jvm.MethodName) prog_6_method_2_code (4 : Nat) (Option.some Jvm.ClassFile.FieldType.boolean)) ∈ lw_all := lw_g (lw_at lw_m10 195 rfl) rfl
theorem q2432 : (Jvm.Cond.methodLink "PostChaiseYard$Order" (17 : Nat) ({ cls := "java/lang/String", name := "hashCode", desc := "()I" } : Jvm.MethodName)) ∈ lw_all := lw_g (lw_at lw_m10 196 rfl) rfl
theorem q2433 : (Jvm.Cond.stringRef "PostChaiseYard$Order" (23 : Nat) "express") ∈ lw_tbl := lw_at lw_m10 197 rfl
theorem q2434 : (Jvm.Cond.methodLink "PostChaiseYard$Order" (25 : Nat) ({ cls := "java/lang/String", name := "equals", desc := "(Ljava/lang/Object;)Z" } : Jvm.MethodName)) ∈ lw_all := lw_g (lw_at lw_m10 198 rfl) rfl
theorem q2435 : (Jvm.Cond.stringRef "PostChaiseYard$Order" (29 : Nat) "noble") ∈ lw_tbl := lw_at lw_m10 199 rfl
theorem q2436 : (Jvm.Cond.stringRef "PostChaiseYard$Order" (31 : Nat) "plain") ∈ lw_tbl := lw_at lw_m10 200 rfl
theorem q2437 : (Jvm.Cond.stringRef "PostChaiseYard$Order" (33 : Nat) "wait") ∈ lw_tbl := lw_at lw_m10 201 rfl
theorem q2438 : (Jvm.Cond.stringRef "PostChaiseYard$Order" (35 : Nat) "bed") ∈ lw_tbl := lw_at lw_m10 202 rfl
theorem q2439 : (Jvm.Cond.stringRef "PostChaiseYard$Order" (37 : Nat) "call") ∈ lw_tbl := lw_at lw_m10 203 rfl
theorem q2440 : (Jvm.Cond.methodLink "PostChaiseYard$Order" (39 : Nat) ({ cls := "PostChaiseYard$State", name := "canArrive", desc := "()Z" } : Jvm.MethodName)) ∈ lw_all := lw_g (lw_at lw_m10 204 rfl) rfl
theorem q2441 : (Jvm.Cond.methodLink "PostChaiseYard$Order" (45 : Nat) ({ cls := "PostChaiseYard$State", name := "arrive", desc := "(II)I" } : Jvm.MethodName)) ∈ lw_all := lw_g (lw_at lw_m10 205 rfl) rfl
theorem q2442 : (Jvm.Cond.methodLink "PostChaiseYard$Order" (49 : Nat) ({ cls := "PostChaiseYard$State", name := "canPass", desc := "(I)Z" } : Jvm.MethodName)) ∈ lw_all := lw_g (lw_at lw_m10 206 rfl) rfl
theorem q2443 : (Jvm.Cond.methodLink "PostChaiseYard$Order" (53 : Nat) ({ cls := "PostChaiseYard$State", name := "pass", desc := "(I)I" } : Jvm.MethodName)) ∈ lw_all := lw_g (lw_at lw_m10 207 rfl) rfl
theorem q2444 : (Jvm.Cond.interfaceEntry "PostChaiseYard$Order" (64 : Nat)) ∈ lw_tbl := lw_at lw_m10 208 rfl
theorem q2445 : (Jvm.Cond.methodLink "PostChaiseYard$Order" (64 : Nat) ({ cls := "java/util/List", name := "get", desc := "(I)Ljava/lang/Object;" } : Jvm.MethodName)) ∈ lw_all := lw_g (lw_at lw_m10 209 rfl) rfl
theorem q2446 : (Jvm.Cond.interfaceEntry "PostChaiseYard$Order" (70 : Nat)) ∈ lw_tbl := lw_at lw_m10 210 rfl
theorem q2447 : (Jvm.Cond.methodLink "PostChaiseYard$Order" (70 : Nat) ({ cls := "java/util/List", name := "indexOf", desc := "(Ljava/lang/Object;)I" } : Jvm.MethodName)) ∈ lw_all := lw_g (lw_at lw_m10 211 rfl) rfl
theorem q2448 : (Jvm.Cond.methodLink "PostChaiseYard$Order" (74 : Nat) ({ cls := "PostChaiseYard$State", name := "sendToBed", desc := "(I)I" } : Jvm.MethodName)) ∈ lw_all := lw_g (lw_at lw_m10 212 rfl) rfl
theorem q2449 : (Jvm.Cond.classLink "PostChaiseYard$Order" (77 : Nat) "PostChaiseYard$Boy") ∈ lw_all := lw_g (lw_at lw_m10 213 rfl) rfl
theorem q2450 : (Jvm.Cond.methodLink "PostChaiseYard$Order" (83 : Nat) ({ cls := "PostChaiseYard$State", name := "callBoy", desc := "(I)I" } : Jvm.MethodName)) ∈ lw_all := lw_g (lw_at lw_m10 214 rfl) rfl
theorem q2451 : (Jvm.Cond.classLink "PostChaiseYard$Order" (89 : Nat) "PostChaiseYard$Chaise") ∈ lw_all := lw_g (lw_at lw_m10 215 rfl) rfl
theorem q2452 : (Jvm.Cond.methodLink "PostChaiseYard$Order" (95 : Nat) ({ cls := "PostChaiseYard$State", name := "putOnPole", desc := "(I)I" } : Jvm.MethodName)) ∈ lw_all := lw_g (lw_at lw_m10 216 rfl) rfl
theorem q3021 : (Jvm.Cond.castable "PostChaiseYard$Order" "java/lang/Object") ∈ lw_tbl := lw_at lw_m13 65 rfl
theorem in_X11 : ∀ w ∈ wsX110, w ∈ lw_all := lw_in wsX110 [1608, 1610] (by decide +kernel) (by decide +kernel)

/-! PostChaiseYard$State -/
set_option maxRecDepth 100000
def RX2 : String := "PostChaiseYard$State"
def TX2 : u_T := fun k => match k with
  | 0 => ("PostChaiseYard$State", "time", "I", false)
  | 1 => ("PostChaiseYard$State", "pace", "I", false)
  | 2 => ("PostChaiseYard$State", "poleLimit", "I", false)
  | 3 => ("PostChaiseYard$State", "repairLeft", "I", false)
  | 4 => ("PostChaiseYard$State", "spentOnPoles", "I", false)
  | 5 => ("PostChaiseYard$State", "brokenPoles", "I", false)
  | 6 => ("PostChaiseYard$State", "inRepair", "LPostChaiseYard$Chaise;", false)
  | 7 => ("PostChaiseYard$State", "guests", "Ljava/util/List;", true)
  | 8 => ("PostChaiseYard$State", "statuses", "[LPostChaiseYard$Status;", true)
  | 9 => ("PostChaiseYard$State", "waits", "[I", true)
  | 10 => ("PostChaiseYard$State", "line", "Ljava/util/PriorityQueue;", true)
  | 11 => ("PostChaiseYard$State", "pairs", "Ljava/util/List;", true)
  | 12 => ("PostChaiseYard$State", "boys", "Ljava/util/List;", true)
  | 13 => ("PostChaiseYard$State", "row", "Ljava/util/List;", true)
  | 14 => ("PostChaiseYard$State", "chaises", "Ljava/util/List;", true)
  | _ => ("PostChaiseYard$State", "income", "Ljava/util/TreeMap;", true)
def tyX2 : Nat → FieldType := fun k => match k with
  | 0 => .int
  | 1 => .int
  | 2 => .int
  | 3 => .int
  | 4 => .int
  | 5 => .int
  | 6 => .object "PostChaiseYard$Chaise"
  | 7 => .object "java/util/List"
  | 8 => .array (.object "PostChaiseYard$Status")
  | 9 => .array .int
  | 10 => .object "java/util/PriorityQueue"
  | 11 => .object "java/util/List"
  | 12 => .object "java/util/List"
  | 13 => .object "java/util/List"
  | 14 => .object "java/util/List"
  | _ => .object "java/util/TreeMap"
abbrev wsX20 : List Cond := u_ws RX2 TX2 16
set_option maxRecDepth 100000 in
theorem nmX2 : ∀ a, a < 16 → ∀ b, b < 16 → a ≠ b → (TX2 a).2.1 ≠ (TX2 b).2.1 := by decide +kernel
set_option maxRecDepth 100000 in
theorem tyX2_ok : ∀ k, k < 16 → parseFieldDescriptor (TX2 k).2.2.1 = some (tyX2 k) := by decide +kernel
abbrev cX2_init : ByteArray := prog_8_method_1_code
def yX2_init : MethodName := ⟨RX2, "<init>", "()V"⟩
def dkwX2_init_6 : List UInt8 := [180, 0, 45, 27, 184, 0, 49, 3, 184, 0, 49, 182, 0, 55, 87, 132, 1, 1, 167, 255, 232, 177]
abbrev dktX2_init_6 : List UInt8 := dkwX2_init_6 ++ []
def dkwX2_init_5 : List UInt8 := [183, 0, 44, 185, 0, 20, 2, 0, 87, 132, 1, 1, 167, 255, 230, 3, 60, 27, 7, 162, 0, 25, 42]
abbrev dktX2_init_5 : List UInt8 := dkwX2_init_5 ++ dktX2_init_6
def dkwX2_init_4 : List UInt8 := [132, 1, 1, 167, 255, 207, 3, 60, 27, 6, 162, 0, 27, 42, 180, 0, 39, 187, 0, 42, 89, 27]
abbrev dktX2_init_4 : List UInt8 := dkwX2_init_4 ++ dktX2_init_5
def dkwX2_init_3 : List UInt8 := [180, 0, 32, 42, 180, 0, 26, 27, 185, 0, 35, 2, 0, 192, 0, 29, 185, 0, 20, 2, 0, 87]
abbrev dktX2_init_3 : List UInt8 := dkwX2_init_3 ++ dktX2_init_4
def dkwX2_init_2 : List UInt8 := [162, 0, 50, 42, 180, 0, 26, 187, 0, 29, 89, 27, 183, 0, 31, 185, 0, 20, 2, 0, 87, 42]
abbrev dktX2_init_2 : List UInt8 := dkwX2_init_2 ++ dktX2_init_3
def dkwX2_init_1 : List UInt8 := [187, 0, 15, 89, 27, 183, 0, 17, 185, 0, 20, 2, 0, 87, 132, 1, 1, 167, 255, 230, 3, 60, 27, 7]
abbrev dktX2_init_1 : List UInt8 := dkwX2_init_1 ++ dktX2_init_2
def dkwX2_init_0 : List UInt8 := [42, 16, 40, 189, 0, 3, 16, 40, 188, 10, 183, 0, 5, 3, 60, 27, 8, 162, 0, 27, 42, 180, 0, 11]
abbrev dktX2_init_0 : List UInt8 := dkwX2_init_0 ++ dktX2_init_1
theorem dksX2_init_0 : cX2_init.data.toList.drop 0 = dktX2_init_0 := by decide +kernel
theorem dksX2_init_1 : cX2_init.data.toList.drop 24 = dktX2_init_1 := dk_seg dksX2_init_0 24 rfl rfl
theorem dksX2_init_2 : cX2_init.data.toList.drop 48 = dktX2_init_2 := dk_seg dksX2_init_1 24 rfl rfl
theorem dksX2_init_3 : cX2_init.data.toList.drop 70 = dktX2_init_3 := dk_seg dksX2_init_2 22 rfl rfl
theorem dksX2_init_4 : cX2_init.data.toList.drop 92 = dktX2_init_4 := dk_seg dksX2_init_3 22 rfl rfl
theorem dksX2_init_5 : cX2_init.data.toList.drop 114 = dktX2_init_5 := dk_seg dksX2_init_4 22 rfl rfl
theorem dksX2_init_6 : cX2_init.data.toList.drop 137 = dktX2_init_6 := dk_seg dksX2_init_5 23 rfl rfl
theorem dX2_init_0 : decode cX2_init 0 = .ok (.aload_n 0, 1) := dk_42 (dk_at dksX2_init_0 0 rfl rfl)
theorem dX2_init_1 : decode cX2_init 1 = .ok (.bipush 40, 2) := dk_16 40 (dk_at dksX2_init_0 1 rfl rfl)
theorem dX2_init_3 : decode cX2_init 3 = .ok (.anewarray 3, 3) := dk_189 0 3 (dk_at dksX2_init_0 3 rfl rfl)
theorem dX2_init_6 : decode cX2_init 6 = .ok (.bipush 40, 2) := dk_16 40 (dk_at dksX2_init_0 6 rfl rfl)
theorem dX2_init_8 : decode cX2_init 8 = .ok (.newarray .int, 2) := dk_188_10 (dk_at dksX2_init_0 8 rfl rfl)
theorem dX2_init_10 : decode cX2_init 10 = .ok (.invokespecial 5, 3) := dk_183 0 5 (dk_at dksX2_init_0 10 rfl rfl)
theorem dX2_init_13 : decode cX2_init 13 = .ok (.iconst 0, 1) := dk_3 (dk_at dksX2_init_0 13 rfl rfl)
theorem dX2_init_14 : decode cX2_init 14 = .ok (.istore_n 1, 1) := dk_60 (dk_at dksX2_init_0 14 rfl rfl)
theorem dX2_init_15 : decode cX2_init 15 = .ok (.iload_n 1, 1) := dk_27 (dk_at dksX2_init_0 15 rfl rfl)
theorem dX2_init_16 : decode cX2_init 16 = .ok (.iconst 5, 1) := dk_8 (dk_at dksX2_init_0 16 rfl rfl)
theorem dX2_init_17 : decode cX2_init 17 = .ok (.if_icmp .ge 27, 3) := dk_162 0 27 (dk_at dksX2_init_0 17 rfl rfl)
theorem dX2_init_20 : decode cX2_init 20 = .ok (.aload_n 0, 1) := dk_42 (dk_at dksX2_init_0 20 rfl rfl)
theorem dX2_init_21 : decode cX2_init 21 = .ok (.getfield 11, 3) := dk_180 0 11 (dk_at dksX2_init_0 21 rfl rfl)
theorem dX2_init_24 : decode cX2_init 24 = .ok (.new 15, 3) := dk_187 0 15 (dk_at dksX2_init_1 0 rfl rfl)
theorem dX2_init_27 : decode cX2_init 27 = .ok (.dup, 1) := dk_89 (dk_at dksX2_init_1 3 rfl rfl)
theorem dX2_init_28 : decode cX2_init 28 = .ok (.iload_n 1, 1) := dk_27 (dk_at dksX2_init_1 4 rfl rfl)
theorem dX2_init_29 : decode cX2_init 29 = .ok (.invokespecial 17, 3) := dk_183 0 17 (dk_at dksX2_init_1 5 rfl rfl)
theorem dX2_init_32 : decode cX2_init 32 = .ok (.invokeinterface 20 2, 5) := by decide +kernel
theorem dX2_init_37 : decode cX2_init 37 = .ok (.pop, 1) := dk_87 (dk_at dksX2_init_1 13 rfl rfl)
theorem dX2_init_38 : decode cX2_init 38 = .ok (.iinc 1 1, 3) := dk_132 1 1 (dk_at dksX2_init_1 14 rfl rfl)
theorem dX2_init_41 : decode cX2_init 41 = .ok (.goto (-26), 3) := dk_167 255 230 (dk_at dksX2_init_1 17 rfl rfl)
theorem dX2_init_44 : decode cX2_init 44 = .ok (.iconst 0, 1) := dk_3 (dk_at dksX2_init_1 20 rfl rfl)
theorem dX2_init_45 : decode cX2_init 45 = .ok (.istore_n 1, 1) := dk_60 (dk_at dksX2_init_1 21 rfl rfl)
theorem dX2_init_46 : decode cX2_init 46 = .ok (.iload_n 1, 1) := dk_27 (dk_at dksX2_init_1 22 rfl rfl)
theorem dX2_init_47 : decode cX2_init 47 = .ok (.iconst 4, 1) := dk_7 (dk_at dksX2_init_1 23 rfl rfl)
theorem dX2_init_48 : decode cX2_init 48 = .ok (.if_icmp .ge 50, 3) := dk_162 0 50 (dk_at dksX2_init_2 0 rfl rfl)
theorem dX2_init_51 : decode cX2_init 51 = .ok (.aload_n 0, 1) := dk_42 (dk_at dksX2_init_2 3 rfl rfl)
theorem dX2_init_52 : decode cX2_init 52 = .ok (.getfield 26, 3) := dk_180 0 26 (dk_at dksX2_init_2 4 rfl rfl)
theorem dX2_init_55 : decode cX2_init 55 = .ok (.new 29, 3) := dk_187 0 29 (dk_at dksX2_init_2 7 rfl rfl)
theorem dX2_init_58 : decode cX2_init 58 = .ok (.dup, 1) := dk_89 (dk_at dksX2_init_2 10 rfl rfl)
theorem dX2_init_59 : decode cX2_init 59 = .ok (.iload_n 1, 1) := dk_27 (dk_at dksX2_init_2 11 rfl rfl)
theorem dX2_init_60 : decode cX2_init 60 = .ok (.invokespecial 31, 3) := dk_183 0 31 (dk_at dksX2_init_2 12 rfl rfl)
theorem dX2_init_63 : decode cX2_init 63 = .ok (.invokeinterface 20 2, 5) := by decide +kernel
theorem dX2_init_68 : decode cX2_init 68 = .ok (.pop, 1) := dk_87 (dk_at dksX2_init_2 20 rfl rfl)
theorem dX2_init_69 : decode cX2_init 69 = .ok (.aload_n 0, 1) := dk_42 (dk_at dksX2_init_2 21 rfl rfl)
theorem dX2_init_70 : decode cX2_init 70 = .ok (.getfield 32, 3) := dk_180 0 32 (dk_at dksX2_init_3 0 rfl rfl)
theorem dX2_init_73 : decode cX2_init 73 = .ok (.aload_n 0, 1) := dk_42 (dk_at dksX2_init_3 3 rfl rfl)
theorem dX2_init_74 : decode cX2_init 74 = .ok (.getfield 26, 3) := dk_180 0 26 (dk_at dksX2_init_3 4 rfl rfl)
theorem dX2_init_77 : decode cX2_init 77 = .ok (.iload_n 1, 1) := dk_27 (dk_at dksX2_init_3 7 rfl rfl)
theorem dX2_init_78 : decode cX2_init 78 = .ok (.invokeinterface 35 2, 5) := by decide +kernel
theorem dX2_init_83 : decode cX2_init 83 = .ok (.checkcast 29, 3) := dk_192 0 29 (dk_at dksX2_init_3 13 rfl rfl)
theorem dX2_init_86 : decode cX2_init 86 = .ok (.invokeinterface 20 2, 5) := by decide +kernel
theorem dX2_init_91 : decode cX2_init 91 = .ok (.pop, 1) := dk_87 (dk_at dksX2_init_3 21 rfl rfl)
theorem dX2_init_92 : decode cX2_init 92 = .ok (.iinc 1 1, 3) := dk_132 1 1 (dk_at dksX2_init_4 0 rfl rfl)
theorem dX2_init_95 : decode cX2_init 95 = .ok (.goto (-49), 3) := dk_167 255 207 (dk_at dksX2_init_4 3 rfl rfl)
theorem dX2_init_98 : decode cX2_init 98 = .ok (.iconst 0, 1) := dk_3 (dk_at dksX2_init_4 6 rfl rfl)
theorem dX2_init_99 : decode cX2_init 99 = .ok (.istore_n 1, 1) := dk_60 (dk_at dksX2_init_4 7 rfl rfl)
theorem dX2_init_100 : decode cX2_init 100 = .ok (.iload_n 1, 1) := dk_27 (dk_at dksX2_init_4 8 rfl rfl)
theorem dX2_init_101 : decode cX2_init 101 = .ok (.iconst 3, 1) := dk_6 (dk_at dksX2_init_4 9 rfl rfl)
theorem dX2_init_102 : decode cX2_init 102 = .ok (.if_icmp .ge 27, 3) := dk_162 0 27 (dk_at dksX2_init_4 10 rfl rfl)
theorem dX2_init_105 : decode cX2_init 105 = .ok (.aload_n 0, 1) := dk_42 (dk_at dksX2_init_4 13 rfl rfl)
theorem dX2_init_106 : decode cX2_init 106 = .ok (.getfield 39, 3) := dk_180 0 39 (dk_at dksX2_init_4 14 rfl rfl)
theorem dX2_init_109 : decode cX2_init 109 = .ok (.new 42, 3) := dk_187 0 42 (dk_at dksX2_init_4 17 rfl rfl)
theorem dX2_init_112 : decode cX2_init 112 = .ok (.dup, 1) := dk_89 (dk_at dksX2_init_4 20 rfl rfl)
theorem dX2_init_113 : decode cX2_init 113 = .ok (.iload_n 1, 1) := dk_27 (dk_at dksX2_init_4 21 rfl rfl)
theorem dX2_init_114 : decode cX2_init 114 = .ok (.invokespecial 44, 3) := dk_183 0 44 (dk_at dksX2_init_5 0 rfl rfl)
theorem dX2_init_117 : decode cX2_init 117 = .ok (.invokeinterface 20 2, 5) := by decide +kernel
theorem dX2_init_122 : decode cX2_init 122 = .ok (.pop, 1) := dk_87 (dk_at dksX2_init_5 8 rfl rfl)
theorem dX2_init_123 : decode cX2_init 123 = .ok (.iinc 1 1, 3) := dk_132 1 1 (dk_at dksX2_init_5 9 rfl rfl)
theorem dX2_init_126 : decode cX2_init 126 = .ok (.goto (-26), 3) := dk_167 255 230 (dk_at dksX2_init_5 12 rfl rfl)
theorem dX2_init_129 : decode cX2_init 129 = .ok (.iconst 0, 1) := dk_3 (dk_at dksX2_init_5 15 rfl rfl)
theorem dX2_init_130 : decode cX2_init 130 = .ok (.istore_n 1, 1) := dk_60 (dk_at dksX2_init_5 16 rfl rfl)
theorem dX2_init_131 : decode cX2_init 131 = .ok (.iload_n 1, 1) := dk_27 (dk_at dksX2_init_5 17 rfl rfl)
theorem dX2_init_132 : decode cX2_init 132 = .ok (.iconst 4, 1) := dk_7 (dk_at dksX2_init_5 18 rfl rfl)
theorem dX2_init_133 : decode cX2_init 133 = .ok (.if_icmp .ge 25, 3) := dk_162 0 25 (dk_at dksX2_init_5 19 rfl rfl)
theorem dX2_init_136 : decode cX2_init 136 = .ok (.aload_n 0, 1) := dk_42 (dk_at dksX2_init_5 22 rfl rfl)
theorem dX2_init_137 : decode cX2_init 137 = .ok (.getfield 45, 3) := dk_180 0 45 (dk_at dksX2_init_6 0 rfl rfl)
theorem dX2_init_140 : decode cX2_init 140 = .ok (.iload_n 1, 1) := dk_27 (dk_at dksX2_init_6 3 rfl rfl)
theorem dX2_init_141 : decode cX2_init 141 = .ok (.invokestatic 49, 3) := dk_184 0 49 (dk_at dksX2_init_6 4 rfl rfl)
theorem dX2_init_144 : decode cX2_init 144 = .ok (.iconst 0, 1) := dk_3 (dk_at dksX2_init_6 7 rfl rfl)
theorem dX2_init_145 : decode cX2_init 145 = .ok (.invokestatic 49, 3) := dk_184 0 49 (dk_at dksX2_init_6 8 rfl rfl)
theorem dX2_init_148 : decode cX2_init 148 = .ok (.invokevirtual 55, 3) := dk_182 0 55 (dk_at dksX2_init_6 11 rfl rfl)
theorem dX2_init_151 : decode cX2_init 151 = .ok (.pop, 1) := dk_87 (dk_at dksX2_init_6 14 rfl rfl)
theorem dX2_init_152 : decode cX2_init 152 = .ok (.iinc 1 1, 3) := dk_132 1 1 (dk_at dksX2_init_6 15 rfl rfl)
theorem dX2_init_155 : decode cX2_init 155 = .ok (.goto (-24), 3) := dk_167 255 232 (dk_at dksX2_init_6 18 rfl rfl)
theorem dX2_init_158 : decode cX2_init 158 = .ok (.return_, 1) := dk_177 (dk_at dksX2_init_6 21 rfl rfl)
abbrev cX2_init_2 : ByteArray := prog_8_method_2_code
def yX2_init_2 : MethodName := ⟨RX2, "<init>", "([LPostChaiseYard$Status;[I)V"⟩
def dkwX2_init_2_4 : List UInt8 := [181, 0, 45, 42, 43, 181, 0, 87, 42, 44, 181, 0, 91, 177]
abbrev dktX2_init_2_4 : List UInt8 := dkwX2_init_2_4 ++ []
def dkwX2_init_2_3 : List UInt8 := [181, 0, 32, 42, 187, 0, 73, 89, 183, 0, 75, 181, 0, 39, 42, 187, 0, 56, 89, 183, 0, 86]
abbrev dktX2_init_2_3 : List UInt8 := dkwX2_init_2_3 ++ dktX2_init_2_4
def dkwX2_init_2_2 : List UInt8 := [181, 0, 11, 42, 187, 0, 73, 89, 183, 0, 75, 181, 0, 26, 42, 187, 0, 73, 89, 183, 0, 75]
abbrev dktX2_init_2_2 : List UInt8 := dkwX2_init_2_2 ++ dktX2_init_2_3
def dkwX2_init_2_1 : List UInt8 := [181, 0, 76, 42, 187, 0, 79, 89, 183, 0, 81, 181, 0, 82, 42, 187, 0, 73, 89, 183, 0, 75]
abbrev dktX2_init_2_1 : List UInt8 := dkwX2_init_2_1 ++ dktX2_init_2_2
def dkwX2_init_2_0 : List UInt8 := [42, 183, 0, 61, 42, 6, 181, 0, 66, 42, 16, 60, 181, 0, 70, 42, 187, 0, 73, 89, 183, 0, 75]
abbrev dktX2_init_2_0 : List UInt8 := dkwX2_init_2_0 ++ dktX2_init_2_1
theorem dksX2_init_2_0 : cX2_init_2.data.toList.drop 0 = dktX2_init_2_0 := by decide +kernel
theorem dksX2_init_2_1 : cX2_init_2.data.toList.drop 23 = dktX2_init_2_1 := dk_seg dksX2_init_2_0 23 rfl rfl
theorem dksX2_init_2_2 : cX2_init_2.data.toList.drop 45 = dktX2_init_2_2 := dk_seg dksX2_init_2_1 22 rfl rfl
theorem dksX2_init_2_3 : cX2_init_2.data.toList.drop 67 = dktX2_init_2_3 := dk_seg dksX2_init_2_2 22 rfl rfl
theorem dksX2_init_2_4 : cX2_init_2.data.toList.drop 89 = dktX2_init_2_4 := dk_seg dksX2_init_2_3 22 rfl rfl
theorem dX2_init_2_0 : decode cX2_init_2 0 = .ok (.aload_n 0, 1) := dk_42 (dk_at dksX2_init_2_0 0 rfl rfl)
theorem dX2_init_2_1 : decode cX2_init_2 1 = .ok (.invokespecial 61, 3) := dk_183 0 61 (dk_at dksX2_init_2_0 1 rfl rfl)
theorem dX2_init_2_4 : decode cX2_init_2 4 = .ok (.aload_n 0, 1) := dk_42 (dk_at dksX2_init_2_0 4 rfl rfl)
theorem dX2_init_2_5 : decode cX2_init_2 5 = .ok (.iconst 3, 1) := dk_6 (dk_at dksX2_init_2_0 5 rfl rfl)
theorem dX2_init_2_6 : decode cX2_init_2 6 = .ok (.putfield 66, 3) := dk_181 0 66 (dk_at dksX2_init_2_0 6 rfl rfl)
theorem dX2_init_2_9 : decode cX2_init_2 9 = .ok (.aload_n 0, 1) := dk_42 (dk_at dksX2_init_2_0 9 rfl rfl)
theorem dX2_init_2_10 : decode cX2_init_2 10 = .ok (.bipush 60, 2) := dk_16 60 (dk_at dksX2_init_2_0 10 rfl rfl)
theorem dX2_init_2_12 : decode cX2_init_2 12 = .ok (.putfield 70, 3) := dk_181 0 70 (dk_at dksX2_init_2_0 12 rfl rfl)
theorem dX2_init_2_15 : decode cX2_init_2 15 = .ok (.aload_n 0, 1) := dk_42 (dk_at dksX2_init_2_0 15 rfl rfl)
theorem dX2_init_2_16 : decode cX2_init_2 16 = .ok (.new 73, 3) := dk_187 0 73 (dk_at dksX2_init_2_0 16 rfl rfl)
theorem dX2_init_2_19 : decode cX2_init_2 19 = .ok (.dup, 1) := dk_89 (dk_at dksX2_init_2_0 19 rfl rfl)
theorem dX2_init_2_20 : decode cX2_init_2 20 = .ok (.invokespecial 75, 3) := dk_183 0 75 (dk_at dksX2_init_2_0 20 rfl rfl)
theorem dX2_init_2_23 : decode cX2_init_2 23 = .ok (.putfield 76, 3) := dk_181 0 76 (dk_at dksX2_init_2_1 0 rfl rfl)
theorem dX2_init_2_26 : decode cX2_init_2 26 = .ok (.aload_n 0, 1) := dk_42 (dk_at dksX2_init_2_1 3 rfl rfl)
theorem dX2_init_2_27 : decode cX2_init_2 27 = .ok (.new 79, 3) := dk_187 0 79 (dk_at dksX2_init_2_1 4 rfl rfl)
theorem dX2_init_2_30 : decode cX2_init_2 30 = .ok (.dup, 1) := dk_89 (dk_at dksX2_init_2_1 7 rfl rfl)
theorem dX2_init_2_31 : decode cX2_init_2 31 = .ok (.invokespecial 81, 3) := dk_183 0 81 (dk_at dksX2_init_2_1 8 rfl rfl)
theorem dX2_init_2_34 : decode cX2_init_2 34 = .ok (.putfield 82, 3) := dk_181 0 82 (dk_at dksX2_init_2_1 11 rfl rfl)
theorem dX2_init_2_37 : decode cX2_init_2 37 = .ok (.aload_n 0, 1) := dk_42 (dk_at dksX2_init_2_1 14 rfl rfl)
theorem dX2_init_2_38 : decode cX2_init_2 38 = .ok (.new 73, 3) := dk_187 0 73 (dk_at dksX2_init_2_1 15 rfl rfl)
theorem dX2_init_2_41 : decode cX2_init_2 41 = .ok (.dup, 1) := dk_89 (dk_at dksX2_init_2_1 18 rfl rfl)
theorem dX2_init_2_42 : decode cX2_init_2 42 = .ok (.invokespecial 75, 3) := dk_183 0 75 (dk_at dksX2_init_2_1 19 rfl rfl)
theorem dX2_init_2_45 : decode cX2_init_2 45 = .ok (.putfield 11, 3) := dk_181 0 11 (dk_at dksX2_init_2_2 0 rfl rfl)
theorem dX2_init_2_48 : decode cX2_init_2 48 = .ok (.aload_n 0, 1) := dk_42 (dk_at dksX2_init_2_2 3 rfl rfl)
theorem dX2_init_2_49 : decode cX2_init_2 49 = .ok (.new 73, 3) := dk_187 0 73 (dk_at dksX2_init_2_2 4 rfl rfl)
theorem dX2_init_2_52 : decode cX2_init_2 52 = .ok (.dup, 1) := dk_89 (dk_at dksX2_init_2_2 7 rfl rfl)
theorem dX2_init_2_53 : decode cX2_init_2 53 = .ok (.invokespecial 75, 3) := dk_183 0 75 (dk_at dksX2_init_2_2 8 rfl rfl)
theorem dX2_init_2_56 : decode cX2_init_2 56 = .ok (.putfield 26, 3) := dk_181 0 26 (dk_at dksX2_init_2_2 11 rfl rfl)
theorem dX2_init_2_59 : decode cX2_init_2 59 = .ok (.aload_n 0, 1) := dk_42 (dk_at dksX2_init_2_2 14 rfl rfl)
theorem dX2_init_2_60 : decode cX2_init_2 60 = .ok (.new 73, 3) := dk_187 0 73 (dk_at dksX2_init_2_2 15 rfl rfl)
theorem dX2_init_2_63 : decode cX2_init_2 63 = .ok (.dup, 1) := dk_89 (dk_at dksX2_init_2_2 18 rfl rfl)
theorem dX2_init_2_64 : decode cX2_init_2 64 = .ok (.invokespecial 75, 3) := dk_183 0 75 (dk_at dksX2_init_2_2 19 rfl rfl)
theorem dX2_init_2_67 : decode cX2_init_2 67 = .ok (.putfield 32, 3) := dk_181 0 32 (dk_at dksX2_init_2_3 0 rfl rfl)
theorem dX2_init_2_70 : decode cX2_init_2 70 = .ok (.aload_n 0, 1) := dk_42 (dk_at dksX2_init_2_3 3 rfl rfl)
theorem dX2_init_2_71 : decode cX2_init_2 71 = .ok (.new 73, 3) := dk_187 0 73 (dk_at dksX2_init_2_3 4 rfl rfl)
theorem dX2_init_2_74 : decode cX2_init_2 74 = .ok (.dup, 1) := dk_89 (dk_at dksX2_init_2_3 7 rfl rfl)
theorem dX2_init_2_75 : decode cX2_init_2 75 = .ok (.invokespecial 75, 3) := dk_183 0 75 (dk_at dksX2_init_2_3 8 rfl rfl)
theorem dX2_init_2_78 : decode cX2_init_2 78 = .ok (.putfield 39, 3) := dk_181 0 39 (dk_at dksX2_init_2_3 11 rfl rfl)
theorem dX2_init_2_81 : decode cX2_init_2 81 = .ok (.aload_n 0, 1) := dk_42 (dk_at dksX2_init_2_3 14 rfl rfl)
theorem dX2_init_2_82 : decode cX2_init_2 82 = .ok (.new 56, 3) := dk_187 0 56 (dk_at dksX2_init_2_3 15 rfl rfl)
theorem dX2_init_2_85 : decode cX2_init_2 85 = .ok (.dup, 1) := dk_89 (dk_at dksX2_init_2_3 18 rfl rfl)
theorem dX2_init_2_86 : decode cX2_init_2 86 = .ok (.invokespecial 86, 3) := dk_183 0 86 (dk_at dksX2_init_2_3 19 rfl rfl)
theorem dX2_init_2_89 : decode cX2_init_2 89 = .ok (.putfield 45, 3) := dk_181 0 45 (dk_at dksX2_init_2_4 0 rfl rfl)
theorem dX2_init_2_92 : decode cX2_init_2 92 = .ok (.aload_n 0, 1) := dk_42 (dk_at dksX2_init_2_4 3 rfl rfl)
theorem dX2_init_2_93 : decode cX2_init_2 93 = .ok (.aload_n 1, 1) := dk_43 (dk_at dksX2_init_2_4 4 rfl rfl)
theorem dX2_init_2_94 : decode cX2_init_2 94 = .ok (.putfield 87, 3) := dk_181 0 87 (dk_at dksX2_init_2_4 5 rfl rfl)
theorem dX2_init_2_97 : decode cX2_init_2 97 = .ok (.aload_n 0, 1) := dk_42 (dk_at dksX2_init_2_4 8 rfl rfl)
theorem dX2_init_2_98 : decode cX2_init_2 98 = .ok (.aload_n 2, 1) := dk_44 (dk_at dksX2_init_2_4 9 rfl rfl)
theorem dX2_init_2_99 : decode cX2_init_2 99 = .ok (.putfield 91, 3) := dk_181 0 91 (dk_at dksX2_init_2_4 10 rfl rfl)
theorem dX2_init_2_102 : decode cX2_init_2 102 = .ok (.return_, 1) := dk_177 (dk_at dksX2_init_2_4 13 rfl rfl)
abbrev cX2_whyNoDeparture : ByteArray := prog_8_method_16_code
def yX2_whyNoDeparture : MethodName := ⟨RX2, "whyNoDeparture", "()I"⟩
def dkwX2_whyNoDeparture_2 : List UInt8 := [154, 0, 7, 7, 167, 0, 4, 3, 172]
abbrev dktX2_whyNoDeparture_2 : List UInt8 := dkwX2_whyNoDeparture_2 ++ []
def dkwX2_whyNoDeparture_1 : List UInt8 := [167, 0, 31, 42, 180, 0, 32, 185, 1, 4, 1, 0, 153, 0, 7, 6, 167, 0, 15, 42, 182, 1, 5]
abbrev dktX2_whyNoDeparture_1 : List UInt8 := dkwX2_whyNoDeparture_1 ++ dktX2_whyNoDeparture_2
def dkwX2_whyNoDeparture_0 : List UInt8 := [42, 180, 0, 82, 182, 0, 253, 153, 0, 7, 4, 167, 0, 42, 42, 182, 1, 1, 154, 0, 7, 5]
abbrev dktX2_whyNoDeparture_0 : List UInt8 := dkwX2_whyNoDeparture_0 ++ dktX2_whyNoDeparture_1
theorem dksX2_whyNoDeparture_0 : cX2_whyNoDeparture.data.toList.drop 0 = dktX2_whyNoDeparture_0 := by decide +kernel
theorem dksX2_whyNoDeparture_1 : cX2_whyNoDeparture.data.toList.drop 22 = dktX2_whyNoDeparture_1 := dk_seg dksX2_whyNoDeparture_0 22 rfl rfl
theorem dksX2_whyNoDeparture_2 : cX2_whyNoDeparture.data.toList.drop 45 = dktX2_whyNoDeparture_2 := dk_seg dksX2_whyNoDeparture_1 23 rfl rfl
theorem dX2_whyNoDeparture_0 : decode cX2_whyNoDeparture 0 = .ok (.aload_n 0, 1) := dk_42 (dk_at dksX2_whyNoDeparture_0 0 rfl rfl)
theorem dX2_whyNoDeparture_1 : decode cX2_whyNoDeparture 1 = .ok (.getfield 82, 3) := dk_180 0 82 (dk_at dksX2_whyNoDeparture_0 1 rfl rfl)
theorem dX2_whyNoDeparture_4 : decode cX2_whyNoDeparture 4 = .ok (.invokevirtual 253, 3) := dk_182 0 253 (dk_at dksX2_whyNoDeparture_0 4 rfl rfl)
theorem dX2_whyNoDeparture_7 : decode cX2_whyNoDeparture 7 = .ok (.ifCond .eq 7, 3) := dk_153 0 7 (dk_at dksX2_whyNoDeparture_0 7 rfl rfl)
theorem dX2_whyNoDeparture_10 : decode cX2_whyNoDeparture 10 = .ok (.iconst 1, 1) := dk_4 (dk_at dksX2_whyNoDeparture_0 10 rfl rfl)
theorem dX2_whyNoDeparture_11 : decode cX2_whyNoDeparture 11 = .ok (.goto 42, 3) := dk_167 0 42 (dk_at dksX2_whyNoDeparture_0 11 rfl rfl)
theorem dX2_whyNoDeparture_14 : decode cX2_whyNoDeparture 14 = .ok (.aload_n 0, 1) := dk_42 (dk_at dksX2_whyNoDeparture_0 14 rfl rfl)
theorem dX2_whyNoDeparture_15 : decode cX2_whyNoDeparture 15 = .ok (.invokevirtual 257, 3) := dk_182 1 1 (dk_at dksX2_whyNoDeparture_0 15 rfl rfl)
theorem dX2_whyNoDeparture_18 : decode cX2_whyNoDeparture 18 = .ok (.ifCond .ne 7, 3) := dk_154 0 7 (dk_at dksX2_whyNoDeparture_0 18 rfl rfl)
theorem dX2_whyNoDeparture_21 : decode cX2_whyNoDeparture 21 = .ok (.iconst 2, 1) := dk_5 (dk_at dksX2_whyNoDeparture_0 21 rfl rfl)
theorem dX2_whyNoDeparture_22 : decode cX2_whyNoDeparture 22 = .ok (.goto 31, 3) := dk_167 0 31 (dk_at dksX2_whyNoDeparture_1 0 rfl rfl)
theorem dX2_whyNoDeparture_25 : decode cX2_whyNoDeparture 25 = .ok (.aload_n 0, 1) := dk_42 (dk_at dksX2_whyNoDeparture_1 3 rfl rfl)
theorem dX2_whyNoDeparture_26 : decode cX2_whyNoDeparture 26 = .ok (.getfield 32, 3) := dk_180 0 32 (dk_at dksX2_whyNoDeparture_1 4 rfl rfl)
theorem dX2_whyNoDeparture_29 : decode cX2_whyNoDeparture 29 = .ok (.invokeinterface 260 1, 5) := by decide +kernel
theorem dX2_whyNoDeparture_34 : decode cX2_whyNoDeparture 34 = .ok (.ifCond .eq 7, 3) := dk_153 0 7 (dk_at dksX2_whyNoDeparture_1 12 rfl rfl)
theorem dX2_whyNoDeparture_37 : decode cX2_whyNoDeparture 37 = .ok (.iconst 3, 1) := dk_6 (dk_at dksX2_whyNoDeparture_1 15 rfl rfl)
theorem dX2_whyNoDeparture_38 : decode cX2_whyNoDeparture 38 = .ok (.goto 15, 3) := dk_167 0 15 (dk_at dksX2_whyNoDeparture_1 16 rfl rfl)
theorem dX2_whyNoDeparture_41 : decode cX2_whyNoDeparture 41 = .ok (.aload_n 0, 1) := dk_42 (dk_at dksX2_whyNoDeparture_1 19 rfl rfl)
theorem dX2_whyNoDeparture_42 : decode cX2_whyNoDeparture 42 = .ok (.invokevirtual 261, 3) := dk_182 1 5 (dk_at dksX2_whyNoDeparture_1 20 rfl rfl)
theorem dX2_whyNoDeparture_45 : decode cX2_whyNoDeparture 45 = .ok (.ifCond .ne 7, 3) := dk_154 0 7 (dk_at dksX2_whyNoDeparture_2 0 rfl rfl)
theorem dX2_whyNoDeparture_48 : decode cX2_whyNoDeparture 48 = .ok (.iconst 4, 1) := dk_7 (dk_at dksX2_whyNoDeparture_2 3 rfl rfl)
theorem dX2_whyNoDeparture_49 : decode cX2_whyNoDeparture 49 = .ok (.goto 4, 3) := dk_167 0 4 (dk_at dksX2_whyNoDeparture_2 4 rfl rfl)
theorem dX2_whyNoDeparture_52 : decode cX2_whyNoDeparture 52 = .ok (.iconst 0, 1) := dk_3 (dk_at dksX2_whyNoDeparture_2 7 rfl rfl)
theorem dX2_whyNoDeparture_53 : decode cX2_whyNoDeparture 53 = .ok (.ireturn, 1) := dk_172 (dk_at dksX2_whyNoDeparture_2 8 rfl rfl)
abbrev cX2_isSomeRested : ByteArray := prog_8_method_17_code
def yX2_isSomeRested : MethodName := ⟨RX2, "isSomeRested", "()Z"⟩
def dkwX2_isSomeRested_1 : List UInt8 := [182, 1, 8, 128, 60, 132, 2, 1, 167, 255, 229, 27, 172]
abbrev dktX2_isSomeRested_1 : List UInt8 := dkwX2_isSomeRested_1 ++ []
def dkwX2_isSomeRested_0 : List UInt8 := [3, 60, 3, 61, 28, 8, 162, 0, 28, 27, 42, 180, 0, 11, 28, 185, 0, 35, 2, 0, 192, 0, 15]
abbrev dktX2_isSomeRested_0 : List UInt8 := dkwX2_isSomeRested_0 ++ dktX2_isSomeRested_1
theorem dksX2_isSomeRested_0 : cX2_isSomeRested.data.toList.drop 0 = dktX2_isSomeRested_0 := by decide +kernel
theorem dksX2_isSomeRested_1 : cX2_isSomeRested.data.toList.drop 23 = dktX2_isSomeRested_1 := dk_seg dksX2_isSomeRested_0 23 rfl rfl
theorem dX2_isSomeRested_0 : decode cX2_isSomeRested 0 = .ok (.iconst 0, 1) := dk_3 (dk_at dksX2_isSomeRested_0 0 rfl rfl)
theorem dX2_isSomeRested_1 : decode cX2_isSomeRested 1 = .ok (.istore_n 1, 1) := dk_60 (dk_at dksX2_isSomeRested_0 1 rfl rfl)
theorem dX2_isSomeRested_2 : decode cX2_isSomeRested 2 = .ok (.iconst 0, 1) := dk_3 (dk_at dksX2_isSomeRested_0 2 rfl rfl)
theorem dX2_isSomeRested_3 : decode cX2_isSomeRested 3 = .ok (.istore_n 2, 1) := dk_61 (dk_at dksX2_isSomeRested_0 3 rfl rfl)
theorem dX2_isSomeRested_4 : decode cX2_isSomeRested 4 = .ok (.iload_n 2, 1) := dk_28 (dk_at dksX2_isSomeRested_0 4 rfl rfl)
theorem dX2_isSomeRested_5 : decode cX2_isSomeRested 5 = .ok (.iconst 5, 1) := dk_8 (dk_at dksX2_isSomeRested_0 5 rfl rfl)
theorem dX2_isSomeRested_6 : decode cX2_isSomeRested 6 = .ok (.if_icmp .ge 28, 3) := dk_162 0 28 (dk_at dksX2_isSomeRested_0 6 rfl rfl)
theorem dX2_isSomeRested_9 : decode cX2_isSomeRested 9 = .ok (.iload_n 1, 1) := dk_27 (dk_at dksX2_isSomeRested_0 9 rfl rfl)
theorem dX2_isSomeRested_10 : decode cX2_isSomeRested 10 = .ok (.aload_n 0, 1) := dk_42 (dk_at dksX2_isSomeRested_0 10 rfl rfl)
theorem dX2_isSomeRested_11 : decode cX2_isSomeRested 11 = .ok (.getfield 11, 3) := dk_180 0 11 (dk_at dksX2_isSomeRested_0 11 rfl rfl)
theorem dX2_isSomeRested_14 : decode cX2_isSomeRested 14 = .ok (.iload_n 2, 1) := dk_28 (dk_at dksX2_isSomeRested_0 14 rfl rfl)
theorem dX2_isSomeRested_15 : decode cX2_isSomeRested 15 = .ok (.invokeinterface 35 2, 5) := by decide +kernel
theorem dX2_isSomeRested_20 : decode cX2_isSomeRested 20 = .ok (.checkcast 15, 3) := dk_192 0 15 (dk_at dksX2_isSomeRested_0 20 rfl rfl)
theorem dX2_isSomeRested_23 : decode cX2_isSomeRested 23 = .ok (.invokevirtual 264, 3) := dk_182 1 8 (dk_at dksX2_isSomeRested_1 0 rfl rfl)
theorem dX2_isSomeRested_26 : decode cX2_isSomeRested 26 = .ok (.ior, 1) := dk_128 (dk_at dksX2_isSomeRested_1 3 rfl rfl)
theorem dX2_isSomeRested_27 : decode cX2_isSomeRested 27 = .ok (.istore_n 1, 1) := dk_60 (dk_at dksX2_isSomeRested_1 4 rfl rfl)
theorem dX2_isSomeRested_28 : decode cX2_isSomeRested 28 = .ok (.iinc 2 1, 3) := dk_132 2 1 (dk_at dksX2_isSomeRested_1 5 rfl rfl)
theorem dX2_isSomeRested_31 : decode cX2_isSomeRested 31 = .ok (.goto (-27), 3) := dk_167 255 229 (dk_at dksX2_isSomeRested_1 8 rfl rfl)
theorem dX2_isSomeRested_34 : decode cX2_isSomeRested 34 = .ok (.iload_n 1, 1) := dk_27 (dk_at dksX2_isSomeRested_1 11 rfl rfl)
theorem dX2_isSomeRested_35 : decode cX2_isSomeRested 35 = .ok (.ireturn, 1) := dk_172 (dk_at dksX2_isSomeRested_1 12 rfl rfl)
abbrev cX2_isSomeReady : ByteArray := prog_8_method_18_code
def yX2_isSomeReady : MethodName := ⟨RX2, "isSomeReady", "()Z"⟩
def dkwX2_isSomeReady_1 : List UInt8 := [182, 1, 11, 128, 60, 132, 2, 1, 167, 255, 229, 27, 172]
abbrev dktX2_isSomeReady_1 : List UInt8 := dkwX2_isSomeReady_1 ++ []
def dkwX2_isSomeReady_0 : List UInt8 := [3, 60, 3, 61, 28, 6, 162, 0, 28, 27, 42, 180, 0, 39, 28, 185, 0, 35, 2, 0, 192, 0, 42]
abbrev dktX2_isSomeReady_0 : List UInt8 := dkwX2_isSomeReady_0 ++ dktX2_isSomeReady_1
theorem dksX2_isSomeReady_0 : cX2_isSomeReady.data.toList.drop 0 = dktX2_isSomeReady_0 := by decide +kernel
theorem dksX2_isSomeReady_1 : cX2_isSomeReady.data.toList.drop 23 = dktX2_isSomeReady_1 := dk_seg dksX2_isSomeReady_0 23 rfl rfl
theorem dX2_isSomeReady_0 : decode cX2_isSomeReady 0 = .ok (.iconst 0, 1) := dk_3 (dk_at dksX2_isSomeReady_0 0 rfl rfl)
theorem dX2_isSomeReady_1 : decode cX2_isSomeReady 1 = .ok (.istore_n 1, 1) := dk_60 (dk_at dksX2_isSomeReady_0 1 rfl rfl)
theorem dX2_isSomeReady_2 : decode cX2_isSomeReady 2 = .ok (.iconst 0, 1) := dk_3 (dk_at dksX2_isSomeReady_0 2 rfl rfl)
theorem dX2_isSomeReady_3 : decode cX2_isSomeReady 3 = .ok (.istore_n 2, 1) := dk_61 (dk_at dksX2_isSomeReady_0 3 rfl rfl)
theorem dX2_isSomeReady_4 : decode cX2_isSomeReady 4 = .ok (.iload_n 2, 1) := dk_28 (dk_at dksX2_isSomeReady_0 4 rfl rfl)
theorem dX2_isSomeReady_5 : decode cX2_isSomeReady 5 = .ok (.iconst 3, 1) := dk_6 (dk_at dksX2_isSomeReady_0 5 rfl rfl)
theorem dX2_isSomeReady_6 : decode cX2_isSomeReady 6 = .ok (.if_icmp .ge 28, 3) := dk_162 0 28 (dk_at dksX2_isSomeReady_0 6 rfl rfl)
theorem dX2_isSomeReady_9 : decode cX2_isSomeReady 9 = .ok (.iload_n 1, 1) := dk_27 (dk_at dksX2_isSomeReady_0 9 rfl rfl)
theorem dX2_isSomeReady_10 : decode cX2_isSomeReady 10 = .ok (.aload_n 0, 1) := dk_42 (dk_at dksX2_isSomeReady_0 10 rfl rfl)
theorem dX2_isSomeReady_11 : decode cX2_isSomeReady 11 = .ok (.getfield 39, 3) := dk_180 0 39 (dk_at dksX2_isSomeReady_0 11 rfl rfl)
theorem dX2_isSomeReady_14 : decode cX2_isSomeReady 14 = .ok (.iload_n 2, 1) := dk_28 (dk_at dksX2_isSomeReady_0 14 rfl rfl)
theorem dX2_isSomeReady_15 : decode cX2_isSomeReady 15 = .ok (.invokeinterface 35 2, 5) := by decide +kernel
theorem dX2_isSomeReady_20 : decode cX2_isSomeReady 20 = .ok (.checkcast 42, 3) := dk_192 0 42 (dk_at dksX2_isSomeReady_0 20 rfl rfl)
theorem dX2_isSomeReady_23 : decode cX2_isSomeReady 23 = .ok (.invokevirtual 267, 3) := dk_182 1 11 (dk_at dksX2_isSomeReady_1 0 rfl rfl)
theorem dX2_isSomeReady_26 : decode cX2_isSomeReady 26 = .ok (.ior, 1) := dk_128 (dk_at dksX2_isSomeReady_1 3 rfl rfl)
theorem dX2_isSomeReady_27 : decode cX2_isSomeReady 27 = .ok (.istore_n 1, 1) := dk_60 (dk_at dksX2_isSomeReady_1 4 rfl rfl)
theorem dX2_isSomeReady_28 : decode cX2_isSomeReady 28 = .ok (.iinc 2 1, 3) := dk_132 2 1 (dk_at dksX2_isSomeReady_1 5 rfl rfl)
theorem dX2_isSomeReady_31 : decode cX2_isSomeReady 31 = .ok (.goto (-27), 3) := dk_167 255 229 (dk_at dksX2_isSomeReady_1 8 rfl rfl)
theorem dX2_isSomeReady_34 : decode cX2_isSomeReady 34 = .ok (.iload_n 1, 1) := dk_27 (dk_at dksX2_isSomeReady_1 11 rfl rfl)
theorem dX2_isSomeReady_35 : decode cX2_isSomeReady 35 = .ok (.ireturn, 1) := dk_172 (dk_at dksX2_isSomeReady_1 12 rfl rfl)
abbrev cX2_hasDeparted : ByteArray := prog_8_method_22_code
def yX2_hasDeparted : MethodName := ⟨RX2, "hasDeparted", "(I)Z"⟩
def dkwX2_hasDeparted_1 : List UInt8 := [4, 167, 0, 4, 3, 172]
abbrev dktX2_hasDeparted_1 : List UInt8 := dkwX2_hasDeparted_1 ++ []
def dkwX2_hasDeparted_0 : List UInt8 := [42, 180, 0, 87, 27, 50, 178, 1, 39, 165, 0, 15, 42, 180, 0, 87, 27, 50, 178, 0, 236, 166, 0, 7]
abbrev dktX2_hasDeparted_0 : List UInt8 := dkwX2_hasDeparted_0 ++ dktX2_hasDeparted_1
theorem dksX2_hasDeparted_0 : cX2_hasDeparted.data.toList.drop 0 = dktX2_hasDeparted_0 := by decide +kernel
theorem dksX2_hasDeparted_1 : cX2_hasDeparted.data.toList.drop 24 = dktX2_hasDeparted_1 := dk_seg dksX2_hasDeparted_0 24 rfl rfl
theorem dX2_hasDeparted_0 : decode cX2_hasDeparted 0 = .ok (.aload_n 0, 1) := dk_42 (dk_at dksX2_hasDeparted_0 0 rfl rfl)
theorem dX2_hasDeparted_1 : decode cX2_hasDeparted 1 = .ok (.getfield 87, 3) := dk_180 0 87 (dk_at dksX2_hasDeparted_0 1 rfl rfl)
theorem dX2_hasDeparted_4 : decode cX2_hasDeparted 4 = .ok (.iload_n 1, 1) := dk_27 (dk_at dksX2_hasDeparted_0 4 rfl rfl)
theorem dX2_hasDeparted_5 : decode cX2_hasDeparted 5 = .ok (.aaload, 1) := dk_50 (dk_at dksX2_hasDeparted_0 5 rfl rfl)
theorem dX2_hasDeparted_6 : decode cX2_hasDeparted 6 = .ok (.getstatic 295, 3) := dk_178 1 39 (dk_at dksX2_hasDeparted_0 6 rfl rfl)
theorem dX2_hasDeparted_9 : decode cX2_hasDeparted 9 = .ok (.if_acmp .eq 15, 3) := dk_165 0 15 (dk_at dksX2_hasDeparted_0 9 rfl rfl)
theorem dX2_hasDeparted_12 : decode cX2_hasDeparted 12 = .ok (.aload_n 0, 1) := dk_42 (dk_at dksX2_hasDeparted_0 12 rfl rfl)
theorem dX2_hasDeparted_13 : decode cX2_hasDeparted 13 = .ok (.getfield 87, 3) := dk_180 0 87 (dk_at dksX2_hasDeparted_0 13 rfl rfl)
theorem dX2_hasDeparted_16 : decode cX2_hasDeparted 16 = .ok (.iload_n 1, 1) := dk_27 (dk_at dksX2_hasDeparted_0 16 rfl rfl)
theorem dX2_hasDeparted_17 : decode cX2_hasDeparted 17 = .ok (.aaload, 1) := dk_50 (dk_at dksX2_hasDeparted_0 17 rfl rfl)
theorem dX2_hasDeparted_18 : decode cX2_hasDeparted 18 = .ok (.getstatic 236, 3) := dk_178 0 236 (dk_at dksX2_hasDeparted_0 18 rfl rfl)
theorem dX2_hasDeparted_21 : decode cX2_hasDeparted 21 = .ok (.if_acmp .ne 7, 3) := dk_166 0 7 (dk_at dksX2_hasDeparted_0 21 rfl rfl)
theorem dX2_hasDeparted_24 : decode cX2_hasDeparted 24 = .ok (.iconst 1, 1) := dk_4 (dk_at dksX2_hasDeparted_1 0 rfl rfl)
theorem dX2_hasDeparted_25 : decode cX2_hasDeparted 25 = .ok (.goto 4, 3) := dk_167 0 4 (dk_at dksX2_hasDeparted_1 1 rfl rfl)
theorem dX2_hasDeparted_28 : decode cX2_hasDeparted 28 = .ok (.iconst 0, 1) := dk_3 (dk_at dksX2_hasDeparted_1 4 rfl rfl)
theorem dX2_hasDeparted_29 : decode cX2_hasDeparted 29 = .ok (.ireturn, 1) := dk_172 (dk_at dksX2_hasDeparted_1 5 rfl rfl)
abbrev cX2_copy : ByteArray := prog_8_method_3_code
def yX2_copy : MethodName := ⟨RX2, "copy", "()LPostChaiseYard$State;"⟩
def dkwX2_copy_19 : List UInt8 := [192, 0, 50, 182, 0, 55, 87, 132, 2, 1, 167, 255, 222, 43, 176]
abbrev dktX2_copy_19 : List UInt8 := dkwX2_copy_19 ++ []
def dkwX2_copy_18 : List UInt8 := [162, 0, 35, 43, 180, 0, 45, 28, 184, 0, 49, 42, 180, 0, 45, 28, 184, 0, 49, 182, 0, 163]
abbrev dktX2_copy_18 : List UInt8 := dkwX2_copy_18 ++ dktX2_copy_19
def dkwX2_copy_17 : List UInt8 := [42, 180, 0, 158, 180, 0, 162, 185, 0, 35, 2, 0, 192, 0, 42, 181, 0, 158, 3, 61, 28, 7]
abbrev dktX2_copy_17 : List UInt8 := dkwX2_copy_17 ++ dktX2_copy_18
def dkwX2_copy_16 : List UInt8 := [185, 0, 20, 2, 0, 87, 132, 2, 1, 167, 255, 153, 42, 180, 0, 158, 198, 0, 26, 43, 43, 180, 0, 39]
abbrev dktX2_copy_16 : List UInt8 := dkwX2_copy_16 ++ dktX2_copy_17
def dkwX2_copy_15 : List UInt8 := [180, 0, 134, 185, 0, 35, 2, 0, 192, 0, 29, 182, 0, 155, 181, 0, 140, 43, 180, 0, 39, 25, 4]
abbrev dktX2_copy_15 : List UInt8 := dkwX2_copy_15 ++ dktX2_copy_16
def dkwX2_copy_14 : List UInt8 := [180, 0, 150, 185, 0, 35, 2, 0, 192, 0, 15, 43, 180, 0, 26, 45, 180, 0, 140, 180, 0, 151]
abbrev dktX2_copy_14 : List UInt8 := dkwX2_copy_14 ++ dktX2_copy_15
def dkwX2_copy_13 : List UInt8 := [180, 0, 140, 198, 0, 59, 25, 4, 45, 180, 0, 140, 43, 180, 0, 11, 45, 180, 0, 140, 180, 0, 144]
abbrev dktX2_copy_13 : List UInt8 := dkwX2_copy_13 ++ dktX2_copy_14
def dkwX2_copy_12 : List UInt8 := [162, 0, 104, 42, 180, 0, 39, 28, 185, 0, 35, 2, 0, 192, 0, 42, 78, 45, 182, 0, 137, 58, 4, 45]
abbrev dktX2_copy_12 : List UInt8 := dkwX2_copy_12 ++ dktX2_copy_13
def dkwX2_copy_11 : List UInt8 := [185, 0, 35, 2, 0, 192, 0, 29, 185, 0, 20, 2, 0, 87, 132, 2, 1, 167, 255, 202, 3, 61, 28, 6]
abbrev dktX2_copy_11 : List UInt8 := dkwX2_copy_11 ++ dktX2_copy_12
def dkwX2_copy_10 : List UInt8 := [180, 0, 32, 43, 180, 0, 26, 42, 180, 0, 32, 28, 185, 0, 35, 2, 0, 192, 0, 29, 180, 0, 134]
abbrev dktX2_copy_10 : List UInt8 := dkwX2_copy_10 ++ dktX2_copy_11
def dkwX2_copy_9 : List UInt8 := [87, 132, 2, 1, 167, 255, 222, 3, 61, 28, 42, 180, 0, 32, 185, 0, 118, 1, 0, 162, 0, 47, 43]
abbrev dktX2_copy_9 : List UInt8 := dkwX2_copy_9 ++ dktX2_copy_10
def dkwX2_copy_8 : List UInt8 := [180, 0, 26, 42, 180, 0, 26, 28, 185, 0, 35, 2, 0, 192, 0, 29, 182, 0, 131, 185, 0, 20, 2, 0]
abbrev dktX2_copy_8 : List UInt8 := dkwX2_copy_8 ++ dktX2_copy_9
def dkwX2_copy_7 : List UInt8 := [182, 0, 127, 185, 0, 20, 2, 0, 87, 132, 2, 1, 167, 255, 222, 3, 61, 28, 7, 162, 0, 35, 43]
abbrev dktX2_copy_7 : List UInt8 := dkwX2_copy_7 ++ dktX2_copy_8
def dkwX2_copy_6 : List UInt8 := [3, 61, 28, 8, 162, 0, 35, 43, 180, 0, 11, 42, 180, 0, 11, 28, 185, 0, 35, 2, 0, 192, 0, 15]
abbrev dktX2_copy_6 : List UInt8 := dkwX2_copy_6 ++ dktX2_copy_7
def dkwX2_copy_5 : List UInt8 := [185, 0, 35, 2, 0, 192, 0, 122, 185, 0, 20, 2, 0, 87, 132, 2, 1, 167, 255, 217, 43, 182, 0, 124]
abbrev dktX2_copy_5 : List UInt8 := dkwX2_copy_5 ++ dktX2_copy_6
def dkwX2_copy_4 : List UInt8 := [28, 42, 180, 0, 76, 185, 0, 118, 1, 0, 162, 0, 32, 43, 180, 0, 76, 42, 180, 0, 76, 28]
abbrev dktX2_copy_4 : List UInt8 := dkwX2_copy_4 ++ dktX2_copy_5
def dkwX2_copy_3 : List UInt8 := [180, 0, 109, 181, 0, 109, 43, 42, 180, 0, 112, 181, 0, 112, 43, 42, 180, 0, 115, 181, 0, 115, 3, 61]
abbrev dktX2_copy_3 : List UInt8 := dkwX2_copy_3 ++ dktX2_copy_4
def dkwX2_copy_2 : List UInt8 := [180, 0, 106, 181, 0, 106, 43, 42, 180, 0, 66, 181, 0, 66, 43, 42, 180, 0, 70, 181, 0, 70, 43, 42]
abbrev dktX2_copy_2 : List UInt8 := dkwX2_copy_2 ++ dktX2_copy_3
def dkwX2_copy_1 : List UInt8 := [183, 0, 5, 76, 42, 180, 0, 87, 3, 43, 180, 0, 87, 3, 42, 180, 0, 87, 190, 184, 0, 100, 43, 42]
abbrev dktX2_copy_1 : List UInt8 := dkwX2_copy_1 ++ dktX2_copy_2
def dkwX2_copy_0 : List UInt8 := [187, 0, 6, 89, 42, 180, 0, 87, 190, 189, 0, 3, 42, 180, 0, 91, 182, 0, 95, 192, 0, 96]
abbrev dktX2_copy_0 : List UInt8 := dkwX2_copy_0 ++ dktX2_copy_1
theorem dksX2_copy_0 : cX2_copy.data.toList.drop 0 = dktX2_copy_0 := by decide +kernel
theorem dksX2_copy_1 : cX2_copy.data.toList.drop 22 = dktX2_copy_1 := dk_seg dksX2_copy_0 22 rfl rfl
theorem dksX2_copy_2 : cX2_copy.data.toList.drop 46 = dktX2_copy_2 := dk_seg dksX2_copy_1 24 rfl rfl
theorem dksX2_copy_3 : cX2_copy.data.toList.drop 70 = dktX2_copy_3 := dk_seg dksX2_copy_2 24 rfl rfl
theorem dksX2_copy_4 : cX2_copy.data.toList.drop 94 = dktX2_copy_4 := dk_seg dksX2_copy_3 24 rfl rfl
theorem dksX2_copy_5 : cX2_copy.data.toList.drop 116 = dktX2_copy_5 := dk_seg dksX2_copy_4 22 rfl rfl
theorem dksX2_copy_6 : cX2_copy.data.toList.drop 140 = dktX2_copy_6 := dk_seg dksX2_copy_5 24 rfl rfl
theorem dksX2_copy_7 : cX2_copy.data.toList.drop 164 = dktX2_copy_7 := dk_seg dksX2_copy_6 24 rfl rfl
theorem dksX2_copy_8 : cX2_copy.data.toList.drop 187 = dktX2_copy_8 := dk_seg dksX2_copy_7 23 rfl rfl
theorem dksX2_copy_9 : cX2_copy.data.toList.drop 211 = dktX2_copy_9 := dk_seg dksX2_copy_8 24 rfl rfl
theorem dksX2_copy_10 : cX2_copy.data.toList.drop 234 = dktX2_copy_10 := dk_seg dksX2_copy_9 23 rfl rfl
theorem dksX2_copy_11 : cX2_copy.data.toList.drop 257 = dktX2_copy_11 := dk_seg dksX2_copy_10 23 rfl rfl
theorem dksX2_copy_12 : cX2_copy.data.toList.drop 281 = dktX2_copy_12 := dk_seg dksX2_copy_11 24 rfl rfl
theorem dksX2_copy_13 : cX2_copy.data.toList.drop 305 = dktX2_copy_13 := dk_seg dksX2_copy_12 24 rfl rfl
theorem dksX2_copy_14 : cX2_copy.data.toList.drop 328 = dktX2_copy_14 := dk_seg dksX2_copy_13 23 rfl rfl
theorem dksX2_copy_15 : cX2_copy.data.toList.drop 350 = dktX2_copy_15 := dk_seg dksX2_copy_14 22 rfl rfl
theorem dksX2_copy_16 : cX2_copy.data.toList.drop 373 = dktX2_copy_16 := dk_seg dksX2_copy_15 23 rfl rfl
theorem dksX2_copy_17 : cX2_copy.data.toList.drop 397 = dktX2_copy_17 := dk_seg dksX2_copy_16 24 rfl rfl
theorem dksX2_copy_18 : cX2_copy.data.toList.drop 419 = dktX2_copy_18 := dk_seg dksX2_copy_17 22 rfl rfl
theorem dksX2_copy_19 : cX2_copy.data.toList.drop 441 = dktX2_copy_19 := dk_seg dksX2_copy_18 22 rfl rfl
theorem dX2_copy_0 : decode cX2_copy 0 = .ok (.new 6, 3) := dk_187 0 6 (dk_at dksX2_copy_0 0 rfl rfl)
theorem dX2_copy_3 : decode cX2_copy 3 = .ok (.dup, 1) := dk_89 (dk_at dksX2_copy_0 3 rfl rfl)
theorem dX2_copy_4 : decode cX2_copy 4 = .ok (.aload_n 0, 1) := dk_42 (dk_at dksX2_copy_0 4 rfl rfl)
theorem dX2_copy_5 : decode cX2_copy 5 = .ok (.getfield 87, 3) := dk_180 0 87 (dk_at dksX2_copy_0 5 rfl rfl)
theorem dX2_copy_8 : decode cX2_copy 8 = .ok (.arraylength, 1) := dk_190 (dk_at dksX2_copy_0 8 rfl rfl)
theorem dX2_copy_9 : decode cX2_copy 9 = .ok (.anewarray 3, 3) := dk_189 0 3 (dk_at dksX2_copy_0 9 rfl rfl)
theorem dX2_copy_12 : decode cX2_copy 12 = .ok (.aload_n 0, 1) := dk_42 (dk_at dksX2_copy_0 12 rfl rfl)
theorem dX2_copy_13 : decode cX2_copy 13 = .ok (.getfield 91, 3) := dk_180 0 91 (dk_at dksX2_copy_0 13 rfl rfl)
theorem dX2_copy_16 : decode cX2_copy 16 = .ok (.invokevirtual 95, 3) := dk_182 0 95 (dk_at dksX2_copy_0 16 rfl rfl)
theorem dX2_copy_19 : decode cX2_copy 19 = .ok (.checkcast 96, 3) := dk_192 0 96 (dk_at dksX2_copy_0 19 rfl rfl)
theorem dX2_copy_22 : decode cX2_copy 22 = .ok (.invokespecial 5, 3) := dk_183 0 5 (dk_at dksX2_copy_1 0 rfl rfl)
theorem dX2_copy_25 : decode cX2_copy 25 = .ok (.astore_n 1, 1) := dk_76 (dk_at dksX2_copy_1 3 rfl rfl)
theorem dX2_copy_26 : decode cX2_copy 26 = .ok (.aload_n 0, 1) := dk_42 (dk_at dksX2_copy_1 4 rfl rfl)
theorem dX2_copy_27 : decode cX2_copy 27 = .ok (.getfield 87, 3) := dk_180 0 87 (dk_at dksX2_copy_1 5 rfl rfl)
theorem dX2_copy_30 : decode cX2_copy 30 = .ok (.iconst 0, 1) := dk_3 (dk_at dksX2_copy_1 8 rfl rfl)
theorem dX2_copy_31 : decode cX2_copy 31 = .ok (.aload_n 1, 1) := dk_43 (dk_at dksX2_copy_1 9 rfl rfl)
theorem dX2_copy_32 : decode cX2_copy 32 = .ok (.getfield 87, 3) := dk_180 0 87 (dk_at dksX2_copy_1 10 rfl rfl)
theorem dX2_copy_35 : decode cX2_copy 35 = .ok (.iconst 0, 1) := dk_3 (dk_at dksX2_copy_1 13 rfl rfl)
theorem dX2_copy_36 : decode cX2_copy 36 = .ok (.aload_n 0, 1) := dk_42 (dk_at dksX2_copy_1 14 rfl rfl)
theorem dX2_copy_37 : decode cX2_copy 37 = .ok (.getfield 87, 3) := dk_180 0 87 (dk_at dksX2_copy_1 15 rfl rfl)
theorem dX2_copy_40 : decode cX2_copy 40 = .ok (.arraylength, 1) := dk_190 (dk_at dksX2_copy_1 18 rfl rfl)
theorem dX2_copy_41 : decode cX2_copy 41 = .ok (.invokestatic 100, 3) := dk_184 0 100 (dk_at dksX2_copy_1 19 rfl rfl)
theorem dX2_copy_44 : decode cX2_copy 44 = .ok (.aload_n 1, 1) := dk_43 (dk_at dksX2_copy_1 22 rfl rfl)
theorem dX2_copy_45 : decode cX2_copy 45 = .ok (.aload_n 0, 1) := dk_42 (dk_at dksX2_copy_1 23 rfl rfl)
theorem dX2_copy_46 : decode cX2_copy 46 = .ok (.getfield 106, 3) := dk_180 0 106 (dk_at dksX2_copy_2 0 rfl rfl)
theorem dX2_copy_49 : decode cX2_copy 49 = .ok (.putfield 106, 3) := dk_181 0 106 (dk_at dksX2_copy_2 3 rfl rfl)
theorem dX2_copy_52 : decode cX2_copy 52 = .ok (.aload_n 1, 1) := dk_43 (dk_at dksX2_copy_2 6 rfl rfl)
theorem dX2_copy_53 : decode cX2_copy 53 = .ok (.aload_n 0, 1) := dk_42 (dk_at dksX2_copy_2 7 rfl rfl)
theorem dX2_copy_54 : decode cX2_copy 54 = .ok (.getfield 66, 3) := dk_180 0 66 (dk_at dksX2_copy_2 8 rfl rfl)
theorem dX2_copy_57 : decode cX2_copy 57 = .ok (.putfield 66, 3) := dk_181 0 66 (dk_at dksX2_copy_2 11 rfl rfl)
theorem dX2_copy_60 : decode cX2_copy 60 = .ok (.aload_n 1, 1) := dk_43 (dk_at dksX2_copy_2 14 rfl rfl)
theorem dX2_copy_61 : decode cX2_copy 61 = .ok (.aload_n 0, 1) := dk_42 (dk_at dksX2_copy_2 15 rfl rfl)
theorem dX2_copy_62 : decode cX2_copy 62 = .ok (.getfield 70, 3) := dk_180 0 70 (dk_at dksX2_copy_2 16 rfl rfl)
theorem dX2_copy_65 : decode cX2_copy 65 = .ok (.putfield 70, 3) := dk_181 0 70 (dk_at dksX2_copy_2 19 rfl rfl)
theorem dX2_copy_68 : decode cX2_copy 68 = .ok (.aload_n 1, 1) := dk_43 (dk_at dksX2_copy_2 22 rfl rfl)
theorem dX2_copy_69 : decode cX2_copy 69 = .ok (.aload_n 0, 1) := dk_42 (dk_at dksX2_copy_2 23 rfl rfl)
theorem dX2_copy_70 : decode cX2_copy 70 = .ok (.getfield 109, 3) := dk_180 0 109 (dk_at dksX2_copy_3 0 rfl rfl)
theorem dX2_copy_73 : decode cX2_copy 73 = .ok (.putfield 109, 3) := dk_181 0 109 (dk_at dksX2_copy_3 3 rfl rfl)
theorem dX2_copy_76 : decode cX2_copy 76 = .ok (.aload_n 1, 1) := dk_43 (dk_at dksX2_copy_3 6 rfl rfl)
theorem dX2_copy_77 : decode cX2_copy 77 = .ok (.aload_n 0, 1) := dk_42 (dk_at dksX2_copy_3 7 rfl rfl)
theorem dX2_copy_78 : decode cX2_copy 78 = .ok (.getfield 112, 3) := dk_180 0 112 (dk_at dksX2_copy_3 8 rfl rfl)
theorem dX2_copy_81 : decode cX2_copy 81 = .ok (.putfield 112, 3) := dk_181 0 112 (dk_at dksX2_copy_3 11 rfl rfl)
theorem dX2_copy_84 : decode cX2_copy 84 = .ok (.aload_n 1, 1) := dk_43 (dk_at dksX2_copy_3 14 rfl rfl)
theorem dX2_copy_85 : decode cX2_copy 85 = .ok (.aload_n 0, 1) := dk_42 (dk_at dksX2_copy_3 15 rfl rfl)
theorem dX2_copy_86 : decode cX2_copy 86 = .ok (.getfield 115, 3) := dk_180 0 115 (dk_at dksX2_copy_3 16 rfl rfl)
theorem dX2_copy_89 : decode cX2_copy 89 = .ok (.putfield 115, 3) := dk_181 0 115 (dk_at dksX2_copy_3 19 rfl rfl)
theorem dX2_copy_92 : decode cX2_copy 92 = .ok (.iconst 0, 1) := dk_3 (dk_at dksX2_copy_3 22 rfl rfl)
theorem dX2_copy_93 : decode cX2_copy 93 = .ok (.istore_n 2, 1) := dk_61 (dk_at dksX2_copy_3 23 rfl rfl)
theorem dX2_copy_94 : decode cX2_copy 94 = .ok (.iload_n 2, 1) := dk_28 (dk_at dksX2_copy_4 0 rfl rfl)
theorem dX2_copy_95 : decode cX2_copy 95 = .ok (.aload_n 0, 1) := dk_42 (dk_at dksX2_copy_4 1 rfl rfl)
theorem dX2_copy_96 : decode cX2_copy 96 = .ok (.getfield 76, 3) := dk_180 0 76 (dk_at dksX2_copy_4 2 rfl rfl)
theorem dX2_copy_99 : decode cX2_copy 99 = .ok (.invokeinterface 118 1, 5) := by decide +kernel
theorem dX2_copy_104 : decode cX2_copy 104 = .ok (.if_icmp .ge 32, 3) := dk_162 0 32 (dk_at dksX2_copy_4 10 rfl rfl)
theorem dX2_copy_107 : decode cX2_copy 107 = .ok (.aload_n 1, 1) := dk_43 (dk_at dksX2_copy_4 13 rfl rfl)
theorem dX2_copy_108 : decode cX2_copy 108 = .ok (.getfield 76, 3) := dk_180 0 76 (dk_at dksX2_copy_4 14 rfl rfl)
theorem dX2_copy_111 : decode cX2_copy 111 = .ok (.aload_n 0, 1) := dk_42 (dk_at dksX2_copy_4 17 rfl rfl)
theorem dX2_copy_112 : decode cX2_copy 112 = .ok (.getfield 76, 3) := dk_180 0 76 (dk_at dksX2_copy_4 18 rfl rfl)
theorem dX2_copy_115 : decode cX2_copy 115 = .ok (.iload_n 2, 1) := dk_28 (dk_at dksX2_copy_4 21 rfl rfl)
theorem dX2_copy_116 : decode cX2_copy 116 = .ok (.invokeinterface 35 2, 5) := by decide +kernel
theorem dX2_copy_121 : decode cX2_copy 121 = .ok (.checkcast 122, 3) := dk_192 0 122 (dk_at dksX2_copy_5 5 rfl rfl)
theorem dX2_copy_124 : decode cX2_copy 124 = .ok (.invokeinterface 20 2, 5) := by decide +kernel
theorem dX2_copy_129 : decode cX2_copy 129 = .ok (.pop, 1) := dk_87 (dk_at dksX2_copy_5 13 rfl rfl)
theorem dX2_copy_130 : decode cX2_copy 130 = .ok (.iinc 2 1, 3) := dk_132 2 1 (dk_at dksX2_copy_5 14 rfl rfl)
theorem dX2_copy_133 : decode cX2_copy 133 = .ok (.goto (-39), 3) := dk_167 255 217 (dk_at dksX2_copy_5 17 rfl rfl)
theorem dX2_copy_136 : decode cX2_copy 136 = .ok (.aload_n 1, 1) := dk_43 (dk_at dksX2_copy_5 20 rfl rfl)
theorem dX2_copy_137 : decode cX2_copy 137 = .ok (.invokevirtual 124, 3) := dk_182 0 124 (dk_at dksX2_copy_5 21 rfl rfl)
theorem dX2_copy_140 : decode cX2_copy 140 = .ok (.iconst 0, 1) := dk_3 (dk_at dksX2_copy_6 0 rfl rfl)
theorem dX2_copy_141 : decode cX2_copy 141 = .ok (.istore_n 2, 1) := dk_61 (dk_at dksX2_copy_6 1 rfl rfl)
theorem dX2_copy_142 : decode cX2_copy 142 = .ok (.iload_n 2, 1) := dk_28 (dk_at dksX2_copy_6 2 rfl rfl)
theorem dX2_copy_143 : decode cX2_copy 143 = .ok (.iconst 5, 1) := dk_8 (dk_at dksX2_copy_6 3 rfl rfl)
theorem dX2_copy_144 : decode cX2_copy 144 = .ok (.if_icmp .ge 35, 3) := dk_162 0 35 (dk_at dksX2_copy_6 4 rfl rfl)
theorem dX2_copy_147 : decode cX2_copy 147 = .ok (.aload_n 1, 1) := dk_43 (dk_at dksX2_copy_6 7 rfl rfl)
theorem dX2_copy_148 : decode cX2_copy 148 = .ok (.getfield 11, 3) := dk_180 0 11 (dk_at dksX2_copy_6 8 rfl rfl)
theorem dX2_copy_151 : decode cX2_copy 151 = .ok (.aload_n 0, 1) := dk_42 (dk_at dksX2_copy_6 11 rfl rfl)
theorem dX2_copy_152 : decode cX2_copy 152 = .ok (.getfield 11, 3) := dk_180 0 11 (dk_at dksX2_copy_6 12 rfl rfl)
theorem dX2_copy_155 : decode cX2_copy 155 = .ok (.iload_n 2, 1) := dk_28 (dk_at dksX2_copy_6 15 rfl rfl)
theorem dX2_copy_156 : decode cX2_copy 156 = .ok (.invokeinterface 35 2, 5) := by decide +kernel
theorem dX2_copy_161 : decode cX2_copy 161 = .ok (.checkcast 15, 3) := dk_192 0 15 (dk_at dksX2_copy_6 21 rfl rfl)
theorem dX2_copy_164 : decode cX2_copy 164 = .ok (.invokevirtual 127, 3) := dk_182 0 127 (dk_at dksX2_copy_7 0 rfl rfl)
theorem dX2_copy_167 : decode cX2_copy 167 = .ok (.invokeinterface 20 2, 5) := by decide +kernel
theorem dX2_copy_172 : decode cX2_copy 172 = .ok (.pop, 1) := dk_87 (dk_at dksX2_copy_7 8 rfl rfl)
theorem dX2_copy_173 : decode cX2_copy 173 = .ok (.iinc 2 1, 3) := dk_132 2 1 (dk_at dksX2_copy_7 9 rfl rfl)
theorem dX2_copy_176 : decode cX2_copy 176 = .ok (.goto (-34), 3) := dk_167 255 222 (dk_at dksX2_copy_7 12 rfl rfl)
theorem dX2_copy_179 : decode cX2_copy 179 = .ok (.iconst 0, 1) := dk_3 (dk_at dksX2_copy_7 15 rfl rfl)
theorem dX2_copy_180 : decode cX2_copy 180 = .ok (.istore_n 2, 1) := dk_61 (dk_at dksX2_copy_7 16 rfl rfl)
theorem dX2_copy_181 : decode cX2_copy 181 = .ok (.iload_n 2, 1) := dk_28 (dk_at dksX2_copy_7 17 rfl rfl)
theorem dX2_copy_182 : decode cX2_copy 182 = .ok (.iconst 4, 1) := dk_7 (dk_at dksX2_copy_7 18 rfl rfl)
theorem dX2_copy_183 : decode cX2_copy 183 = .ok (.if_icmp .ge 35, 3) := dk_162 0 35 (dk_at dksX2_copy_7 19 rfl rfl)
theorem dX2_copy_186 : decode cX2_copy 186 = .ok (.aload_n 1, 1) := dk_43 (dk_at dksX2_copy_7 22 rfl rfl)
theorem dX2_copy_187 : decode cX2_copy 187 = .ok (.getfield 26, 3) := dk_180 0 26 (dk_at dksX2_copy_8 0 rfl rfl)
theorem dX2_copy_190 : decode cX2_copy 190 = .ok (.aload_n 0, 1) := dk_42 (dk_at dksX2_copy_8 3 rfl rfl)
theorem dX2_copy_191 : decode cX2_copy 191 = .ok (.getfield 26, 3) := dk_180 0 26 (dk_at dksX2_copy_8 4 rfl rfl)
theorem dX2_copy_194 : decode cX2_copy 194 = .ok (.iload_n 2, 1) := dk_28 (dk_at dksX2_copy_8 7 rfl rfl)
theorem dX2_copy_195 : decode cX2_copy 195 = .ok (.invokeinterface 35 2, 5) := by decide +kernel
theorem dX2_copy_200 : decode cX2_copy 200 = .ok (.checkcast 29, 3) := dk_192 0 29 (dk_at dksX2_copy_8 13 rfl rfl)
theorem dX2_copy_203 : decode cX2_copy 203 = .ok (.invokevirtual 131, 3) := dk_182 0 131 (dk_at dksX2_copy_8 16 rfl rfl)
theorem dX2_copy_206 : decode cX2_copy 206 = .ok (.invokeinterface 20 2, 5) := by decide +kernel
theorem dX2_copy_211 : decode cX2_copy 211 = .ok (.pop, 1) := dk_87 (dk_at dksX2_copy_9 0 rfl rfl)
theorem dX2_copy_212 : decode cX2_copy 212 = .ok (.iinc 2 1, 3) := dk_132 2 1 (dk_at dksX2_copy_9 1 rfl rfl)
theorem dX2_copy_215 : decode cX2_copy 215 = .ok (.goto (-34), 3) := dk_167 255 222 (dk_at dksX2_copy_9 4 rfl rfl)
theorem dX2_copy_218 : decode cX2_copy 218 = .ok (.iconst 0, 1) := dk_3 (dk_at dksX2_copy_9 7 rfl rfl)
theorem dX2_copy_219 : decode cX2_copy 219 = .ok (.istore_n 2, 1) := dk_61 (dk_at dksX2_copy_9 8 rfl rfl)
theorem dX2_copy_220 : decode cX2_copy 220 = .ok (.iload_n 2, 1) := dk_28 (dk_at dksX2_copy_9 9 rfl rfl)
theorem dX2_copy_221 : decode cX2_copy 221 = .ok (.aload_n 0, 1) := dk_42 (dk_at dksX2_copy_9 10 rfl rfl)
theorem dX2_copy_222 : decode cX2_copy 222 = .ok (.getfield 32, 3) := dk_180 0 32 (dk_at dksX2_copy_9 11 rfl rfl)
theorem dX2_copy_225 : decode cX2_copy 225 = .ok (.invokeinterface 118 1, 5) := by decide +kernel
theorem dX2_copy_230 : decode cX2_copy 230 = .ok (.if_icmp .ge 47, 3) := dk_162 0 47 (dk_at dksX2_copy_9 19 rfl rfl)
theorem dX2_copy_233 : decode cX2_copy 233 = .ok (.aload_n 1, 1) := dk_43 (dk_at dksX2_copy_9 22 rfl rfl)
theorem dX2_copy_234 : decode cX2_copy 234 = .ok (.getfield 32, 3) := dk_180 0 32 (dk_at dksX2_copy_10 0 rfl rfl)
theorem dX2_copy_237 : decode cX2_copy 237 = .ok (.aload_n 1, 1) := dk_43 (dk_at dksX2_copy_10 3 rfl rfl)
theorem dX2_copy_238 : decode cX2_copy 238 = .ok (.getfield 26, 3) := dk_180 0 26 (dk_at dksX2_copy_10 4 rfl rfl)
theorem dX2_copy_241 : decode cX2_copy 241 = .ok (.aload_n 0, 1) := dk_42 (dk_at dksX2_copy_10 7 rfl rfl)
theorem dX2_copy_242 : decode cX2_copy 242 = .ok (.getfield 32, 3) := dk_180 0 32 (dk_at dksX2_copy_10 8 rfl rfl)
theorem dX2_copy_245 : decode cX2_copy 245 = .ok (.iload_n 2, 1) := dk_28 (dk_at dksX2_copy_10 11 rfl rfl)
theorem dX2_copy_246 : decode cX2_copy 246 = .ok (.invokeinterface 35 2, 5) := by decide +kernel
theorem dX2_copy_251 : decode cX2_copy 251 = .ok (.checkcast 29, 3) := dk_192 0 29 (dk_at dksX2_copy_10 17 rfl rfl)
theorem dX2_copy_254 : decode cX2_copy 254 = .ok (.getfield 134, 3) := dk_180 0 134 (dk_at dksX2_copy_10 20 rfl rfl)
theorem dX2_copy_257 : decode cX2_copy 257 = .ok (.invokeinterface 35 2, 5) := by decide +kernel
theorem dX2_copy_262 : decode cX2_copy 262 = .ok (.checkcast 29, 3) := dk_192 0 29 (dk_at dksX2_copy_11 5 rfl rfl)
theorem dX2_copy_265 : decode cX2_copy 265 = .ok (.invokeinterface 20 2, 5) := by decide +kernel
theorem dX2_copy_270 : decode cX2_copy 270 = .ok (.pop, 1) := dk_87 (dk_at dksX2_copy_11 13 rfl rfl)
theorem dX2_copy_271 : decode cX2_copy 271 = .ok (.iinc 2 1, 3) := dk_132 2 1 (dk_at dksX2_copy_11 14 rfl rfl)
theorem dX2_copy_274 : decode cX2_copy 274 = .ok (.goto (-54), 3) := dk_167 255 202 (dk_at dksX2_copy_11 17 rfl rfl)
theorem dX2_copy_277 : decode cX2_copy 277 = .ok (.iconst 0, 1) := dk_3 (dk_at dksX2_copy_11 20 rfl rfl)
theorem dX2_copy_278 : decode cX2_copy 278 = .ok (.istore_n 2, 1) := dk_61 (dk_at dksX2_copy_11 21 rfl rfl)
theorem dX2_copy_279 : decode cX2_copy 279 = .ok (.iload_n 2, 1) := dk_28 (dk_at dksX2_copy_11 22 rfl rfl)
theorem dX2_copy_280 : decode cX2_copy 280 = .ok (.iconst 3, 1) := dk_6 (dk_at dksX2_copy_11 23 rfl rfl)
theorem dX2_copy_281 : decode cX2_copy 281 = .ok (.if_icmp .ge 104, 3) := dk_162 0 104 (dk_at dksX2_copy_12 0 rfl rfl)
theorem dX2_copy_284 : decode cX2_copy 284 = .ok (.aload_n 0, 1) := dk_42 (dk_at dksX2_copy_12 3 rfl rfl)
theorem dX2_copy_285 : decode cX2_copy 285 = .ok (.getfield 39, 3) := dk_180 0 39 (dk_at dksX2_copy_12 4 rfl rfl)
theorem dX2_copy_288 : decode cX2_copy 288 = .ok (.iload_n 2, 1) := dk_28 (dk_at dksX2_copy_12 7 rfl rfl)
theorem dX2_copy_289 : decode cX2_copy 289 = .ok (.invokeinterface 35 2, 5) := by decide +kernel
theorem dX2_copy_294 : decode cX2_copy 294 = .ok (.checkcast 42, 3) := dk_192 0 42 (dk_at dksX2_copy_12 13 rfl rfl)
theorem dX2_copy_297 : decode cX2_copy 297 = .ok (.astore_n 3, 1) := dk_78 (dk_at dksX2_copy_12 16 rfl rfl)
theorem dX2_copy_298 : decode cX2_copy 298 = .ok (.aload_n 3, 1) := dk_45 (dk_at dksX2_copy_12 17 rfl rfl)
theorem dX2_copy_299 : decode cX2_copy 299 = .ok (.invokevirtual 137, 3) := dk_182 0 137 (dk_at dksX2_copy_12 18 rfl rfl)
theorem dX2_copy_302 : decode cX2_copy 302 = .ok (.astore 4, 2) := dk_58 4 (dk_at dksX2_copy_12 21 rfl rfl)
theorem dX2_copy_304 : decode cX2_copy 304 = .ok (.aload_n 3, 1) := dk_45 (dk_at dksX2_copy_12 23 rfl rfl)
theorem dX2_copy_305 : decode cX2_copy 305 = .ok (.getfield 140, 3) := dk_180 0 140 (dk_at dksX2_copy_13 0 rfl rfl)
theorem dX2_copy_308 : decode cX2_copy 308 = .ok (.ifnull 59, 3) := dk_198 0 59 (dk_at dksX2_copy_13 3 rfl rfl)
theorem dX2_copy_311 : decode cX2_copy 311 = .ok (.aload 4, 2) := dk_25 4 (dk_at dksX2_copy_13 6 rfl rfl)
theorem dX2_copy_313 : decode cX2_copy 313 = .ok (.aload_n 3, 1) := dk_45 (dk_at dksX2_copy_13 8 rfl rfl)
theorem dX2_copy_314 : decode cX2_copy 314 = .ok (.getfield 140, 3) := dk_180 0 140 (dk_at dksX2_copy_13 9 rfl rfl)
theorem dX2_copy_317 : decode cX2_copy 317 = .ok (.aload_n 1, 1) := dk_43 (dk_at dksX2_copy_13 12 rfl rfl)
theorem dX2_copy_318 : decode cX2_copy 318 = .ok (.getfield 11, 3) := dk_180 0 11 (dk_at dksX2_copy_13 13 rfl rfl)
theorem dX2_copy_321 : decode cX2_copy 321 = .ok (.aload_n 3, 1) := dk_45 (dk_at dksX2_copy_13 16 rfl rfl)
theorem dX2_copy_322 : decode cX2_copy 322 = .ok (.getfield 140, 3) := dk_180 0 140 (dk_at dksX2_copy_13 17 rfl rfl)
theorem dX2_copy_325 : decode cX2_copy 325 = .ok (.getfield 144, 3) := dk_180 0 144 (dk_at dksX2_copy_13 20 rfl rfl)
theorem dX2_copy_328 : decode cX2_copy 328 = .ok (.getfield 150, 3) := dk_180 0 150 (dk_at dksX2_copy_14 0 rfl rfl)
theorem dX2_copy_331 : decode cX2_copy 331 = .ok (.invokeinterface 35 2, 5) := by decide +kernel
theorem dX2_copy_336 : decode cX2_copy 336 = .ok (.checkcast 15, 3) := dk_192 0 15 (dk_at dksX2_copy_14 8 rfl rfl)
theorem dX2_copy_339 : decode cX2_copy 339 = .ok (.aload_n 1, 1) := dk_43 (dk_at dksX2_copy_14 11 rfl rfl)
theorem dX2_copy_340 : decode cX2_copy 340 = .ok (.getfield 26, 3) := dk_180 0 26 (dk_at dksX2_copy_14 12 rfl rfl)
theorem dX2_copy_343 : decode cX2_copy 343 = .ok (.aload_n 3, 1) := dk_45 (dk_at dksX2_copy_14 15 rfl rfl)
theorem dX2_copy_344 : decode cX2_copy 344 = .ok (.getfield 140, 3) := dk_180 0 140 (dk_at dksX2_copy_14 16 rfl rfl)
theorem dX2_copy_347 : decode cX2_copy 347 = .ok (.getfield 151, 3) := dk_180 0 151 (dk_at dksX2_copy_14 19 rfl rfl)
theorem dX2_copy_350 : decode cX2_copy 350 = .ok (.getfield 134, 3) := dk_180 0 134 (dk_at dksX2_copy_15 0 rfl rfl)
theorem dX2_copy_353 : decode cX2_copy 353 = .ok (.invokeinterface 35 2, 5) := by decide +kernel
theorem dX2_copy_358 : decode cX2_copy 358 = .ok (.checkcast 29, 3) := dk_192 0 29 (dk_at dksX2_copy_15 8 rfl rfl)
theorem dX2_copy_361 : decode cX2_copy 361 = .ok (.invokevirtual 155, 3) := dk_182 0 155 (dk_at dksX2_copy_15 11 rfl rfl)
theorem dX2_copy_364 : decode cX2_copy 364 = .ok (.putfield 140, 3) := dk_181 0 140 (dk_at dksX2_copy_15 14 rfl rfl)
theorem dX2_copy_367 : decode cX2_copy 367 = .ok (.aload_n 1, 1) := dk_43 (dk_at dksX2_copy_15 17 rfl rfl)
theorem dX2_copy_368 : decode cX2_copy 368 = .ok (.getfield 39, 3) := dk_180 0 39 (dk_at dksX2_copy_15 18 rfl rfl)
theorem dX2_copy_371 : decode cX2_copy 371 = .ok (.aload 4, 2) := dk_25 4 (dk_at dksX2_copy_15 21 rfl rfl)
theorem dX2_copy_373 : decode cX2_copy 373 = .ok (.invokeinterface 20 2, 5) := by decide +kernel
theorem dX2_copy_378 : decode cX2_copy 378 = .ok (.pop, 1) := dk_87 (dk_at dksX2_copy_16 5 rfl rfl)
theorem dX2_copy_379 : decode cX2_copy 379 = .ok (.iinc 2 1, 3) := dk_132 2 1 (dk_at dksX2_copy_16 6 rfl rfl)
theorem dX2_copy_382 : decode cX2_copy 382 = .ok (.goto (-103), 3) := dk_167 255 153 (dk_at dksX2_copy_16 9 rfl rfl)
theorem dX2_copy_385 : decode cX2_copy 385 = .ok (.aload_n 0, 1) := dk_42 (dk_at dksX2_copy_16 12 rfl rfl)
theorem dX2_copy_386 : decode cX2_copy 386 = .ok (.getfield 158, 3) := dk_180 0 158 (dk_at dksX2_copy_16 13 rfl rfl)
theorem dX2_copy_389 : decode cX2_copy 389 = .ok (.ifnull 26, 3) := dk_198 0 26 (dk_at dksX2_copy_16 16 rfl rfl)
theorem dX2_copy_392 : decode cX2_copy 392 = .ok (.aload_n 1, 1) := dk_43 (dk_at dksX2_copy_16 19 rfl rfl)
theorem dX2_copy_393 : decode cX2_copy 393 = .ok (.aload_n 1, 1) := dk_43 (dk_at dksX2_copy_16 20 rfl rfl)
theorem dX2_copy_394 : decode cX2_copy 394 = .ok (.getfield 39, 3) := dk_180 0 39 (dk_at dksX2_copy_16 21 rfl rfl)
theorem dX2_copy_397 : decode cX2_copy 397 = .ok (.aload_n 0, 1) := dk_42 (dk_at dksX2_copy_17 0 rfl rfl)
theorem dX2_copy_398 : decode cX2_copy 398 = .ok (.getfield 158, 3) := dk_180 0 158 (dk_at dksX2_copy_17 1 rfl rfl)
theorem dX2_copy_401 : decode cX2_copy 401 = .ok (.getfield 162, 3) := dk_180 0 162 (dk_at dksX2_copy_17 4 rfl rfl)
theorem dX2_copy_404 : decode cX2_copy 404 = .ok (.invokeinterface 35 2, 5) := by decide +kernel
theorem dX2_copy_409 : decode cX2_copy 409 = .ok (.checkcast 42, 3) := dk_192 0 42 (dk_at dksX2_copy_17 12 rfl rfl)
theorem dX2_copy_412 : decode cX2_copy 412 = .ok (.putfield 158, 3) := dk_181 0 158 (dk_at dksX2_copy_17 15 rfl rfl)
theorem dX2_copy_415 : decode cX2_copy 415 = .ok (.iconst 0, 1) := dk_3 (dk_at dksX2_copy_17 18 rfl rfl)
theorem dX2_copy_416 : decode cX2_copy 416 = .ok (.istore_n 2, 1) := dk_61 (dk_at dksX2_copy_17 19 rfl rfl)
theorem dX2_copy_417 : decode cX2_copy 417 = .ok (.iload_n 2, 1) := dk_28 (dk_at dksX2_copy_17 20 rfl rfl)
theorem dX2_copy_418 : decode cX2_copy 418 = .ok (.iconst 4, 1) := dk_7 (dk_at dksX2_copy_17 21 rfl rfl)
theorem dX2_copy_419 : decode cX2_copy 419 = .ok (.if_icmp .ge 35, 3) := dk_162 0 35 (dk_at dksX2_copy_18 0 rfl rfl)
theorem dX2_copy_422 : decode cX2_copy 422 = .ok (.aload_n 1, 1) := dk_43 (dk_at dksX2_copy_18 3 rfl rfl)
theorem dX2_copy_423 : decode cX2_copy 423 = .ok (.getfield 45, 3) := dk_180 0 45 (dk_at dksX2_copy_18 4 rfl rfl)
theorem dX2_copy_426 : decode cX2_copy 426 = .ok (.iload_n 2, 1) := dk_28 (dk_at dksX2_copy_18 7 rfl rfl)
theorem dX2_copy_427 : decode cX2_copy 427 = .ok (.invokestatic 49, 3) := dk_184 0 49 (dk_at dksX2_copy_18 8 rfl rfl)
theorem dX2_copy_430 : decode cX2_copy 430 = .ok (.aload_n 0, 1) := dk_42 (dk_at dksX2_copy_18 11 rfl rfl)
theorem dX2_copy_431 : decode cX2_copy 431 = .ok (.getfield 45, 3) := dk_180 0 45 (dk_at dksX2_copy_18 12 rfl rfl)
theorem dX2_copy_434 : decode cX2_copy 434 = .ok (.iload_n 2, 1) := dk_28 (dk_at dksX2_copy_18 15 rfl rfl)
theorem dX2_copy_435 : decode cX2_copy 435 = .ok (.invokestatic 49, 3) := dk_184 0 49 (dk_at dksX2_copy_18 16 rfl rfl)
theorem dX2_copy_438 : decode cX2_copy 438 = .ok (.invokevirtual 163, 3) := dk_182 0 163 (dk_at dksX2_copy_18 19 rfl rfl)
theorem dX2_copy_441 : decode cX2_copy 441 = .ok (.checkcast 50, 3) := dk_192 0 50 (dk_at dksX2_copy_19 0 rfl rfl)
theorem dX2_copy_444 : decode cX2_copy 444 = .ok (.invokevirtual 55, 3) := dk_182 0 55 (dk_at dksX2_copy_19 3 rfl rfl)
theorem dX2_copy_447 : decode cX2_copy 447 = .ok (.pop, 1) := dk_87 (dk_at dksX2_copy_19 6 rfl rfl)
theorem dX2_copy_448 : decode cX2_copy 448 = .ok (.iinc 2 1, 3) := dk_132 2 1 (dk_at dksX2_copy_19 7 rfl rfl)
theorem dX2_copy_451 : decode cX2_copy 451 = .ok (.goto (-34), 3) := dk_167 255 222 (dk_at dksX2_copy_19 10 rfl rfl)
theorem dX2_copy_454 : decode cX2_copy 454 = .ok (.aload_n 1, 1) := dk_43 (dk_at dksX2_copy_19 13 rfl rfl)
theorem dX2_copy_455 : decode cX2_copy 455 = .ok (.areturn, 1) := dk_176 (dk_at dksX2_copy_19 14 rfl rfl)
abbrev cX2_formLine : ByteArray := prog_8_method_4_code
def yX2_formLine : MethodName := ⟨RX2, "formLine", "()V"⟩
def dkwX2_formLine_2 : List UInt8 := [185, 0, 35, 2, 0, 192, 0, 122, 182, 0, 173, 87, 132, 1, 1, 167, 255, 207, 177]
abbrev dktX2_formLine_2 : List UInt8 := dkwX2_formLine_2 ++ []
def dkwX2_formLine_1 : List UInt8 := [180, 0, 87, 27, 50, 178, 0, 169, 166, 0, 24, 42, 180, 0, 82, 42, 180, 0, 76, 27]
abbrev dktX2_formLine_1 : List UInt8 := dkwX2_formLine_1 ++ dktX2_formLine_2
def dkwX2_formLine_0 : List UInt8 := [42, 180, 0, 82, 182, 0, 166, 3, 60, 27, 42, 180, 0, 76, 185, 0, 118, 1, 0, 162, 0, 42, 42]
abbrev dktX2_formLine_0 : List UInt8 := dkwX2_formLine_0 ++ dktX2_formLine_1
theorem dksX2_formLine_0 : cX2_formLine.data.toList.drop 0 = dktX2_formLine_0 := by decide +kernel
theorem dksX2_formLine_1 : cX2_formLine.data.toList.drop 23 = dktX2_formLine_1 := dk_seg dksX2_formLine_0 23 rfl rfl
theorem dksX2_formLine_2 : cX2_formLine.data.toList.drop 43 = dktX2_formLine_2 := dk_seg dksX2_formLine_1 20 rfl rfl
theorem dX2_formLine_0 : decode cX2_formLine 0 = .ok (.aload_n 0, 1) := dk_42 (dk_at dksX2_formLine_0 0 rfl rfl)
theorem dX2_formLine_1 : decode cX2_formLine 1 = .ok (.getfield 82, 3) := dk_180 0 82 (dk_at dksX2_formLine_0 1 rfl rfl)
theorem dX2_formLine_4 : decode cX2_formLine 4 = .ok (.invokevirtual 166, 3) := dk_182 0 166 (dk_at dksX2_formLine_0 4 rfl rfl)
theorem dX2_formLine_7 : decode cX2_formLine 7 = .ok (.iconst 0, 1) := dk_3 (dk_at dksX2_formLine_0 7 rfl rfl)
theorem dX2_formLine_8 : decode cX2_formLine 8 = .ok (.istore_n 1, 1) := dk_60 (dk_at dksX2_formLine_0 8 rfl rfl)
theorem dX2_formLine_9 : decode cX2_formLine 9 = .ok (.iload_n 1, 1) := dk_27 (dk_at dksX2_formLine_0 9 rfl rfl)
theorem dX2_formLine_10 : decode cX2_formLine 10 = .ok (.aload_n 0, 1) := dk_42 (dk_at dksX2_formLine_0 10 rfl rfl)
theorem dX2_formLine_11 : decode cX2_formLine 11 = .ok (.getfield 76, 3) := dk_180 0 76 (dk_at dksX2_formLine_0 11 rfl rfl)
theorem dX2_formLine_14 : decode cX2_formLine 14 = .ok (.invokeinterface 118 1, 5) := by decide +kernel
theorem dX2_formLine_19 : decode cX2_formLine 19 = .ok (.if_icmp .ge 42, 3) := dk_162 0 42 (dk_at dksX2_formLine_0 19 rfl rfl)
theorem dX2_formLine_22 : decode cX2_formLine 22 = .ok (.aload_n 0, 1) := dk_42 (dk_at dksX2_formLine_0 22 rfl rfl)
theorem dX2_formLine_23 : decode cX2_formLine 23 = .ok (.getfield 87, 3) := dk_180 0 87 (dk_at dksX2_formLine_1 0 rfl rfl)
theorem dX2_formLine_26 : decode cX2_formLine 26 = .ok (.iload_n 1, 1) := dk_27 (dk_at dksX2_formLine_1 3 rfl rfl)
theorem dX2_formLine_27 : decode cX2_formLine 27 = .ok (.aaload, 1) := dk_50 (dk_at dksX2_formLine_1 4 rfl rfl)
theorem dX2_formLine_28 : decode cX2_formLine 28 = .ok (.getstatic 169, 3) := dk_178 0 169 (dk_at dksX2_formLine_1 5 rfl rfl)
theorem dX2_formLine_31 : decode cX2_formLine 31 = .ok (.if_acmp .ne 24, 3) := dk_166 0 24 (dk_at dksX2_formLine_1 8 rfl rfl)
theorem dX2_formLine_34 : decode cX2_formLine 34 = .ok (.aload_n 0, 1) := dk_42 (dk_at dksX2_formLine_1 11 rfl rfl)
theorem dX2_formLine_35 : decode cX2_formLine 35 = .ok (.getfield 82, 3) := dk_180 0 82 (dk_at dksX2_formLine_1 12 rfl rfl)
theorem dX2_formLine_38 : decode cX2_formLine 38 = .ok (.aload_n 0, 1) := dk_42 (dk_at dksX2_formLine_1 15 rfl rfl)
theorem dX2_formLine_39 : decode cX2_formLine 39 = .ok (.getfield 76, 3) := dk_180 0 76 (dk_at dksX2_formLine_1 16 rfl rfl)
theorem dX2_formLine_42 : decode cX2_formLine 42 = .ok (.iload_n 1, 1) := dk_27 (dk_at dksX2_formLine_1 19 rfl rfl)
theorem dX2_formLine_43 : decode cX2_formLine 43 = .ok (.invokeinterface 35 2, 5) := by decide +kernel
theorem dX2_formLine_48 : decode cX2_formLine 48 = .ok (.checkcast 122, 3) := dk_192 0 122 (dk_at dksX2_formLine_2 5 rfl rfl)
theorem dX2_formLine_51 : decode cX2_formLine 51 = .ok (.invokevirtual 173, 3) := dk_182 0 173 (dk_at dksX2_formLine_2 8 rfl rfl)
theorem dX2_formLine_54 : decode cX2_formLine 54 = .ok (.pop, 1) := dk_87 (dk_at dksX2_formLine_2 11 rfl rfl)
theorem dX2_formLine_55 : decode cX2_formLine 55 = .ok (.iinc 1 1, 3) := dk_132 1 1 (dk_at dksX2_formLine_2 12 rfl rfl)
theorem dX2_formLine_58 : decode cX2_formLine 58 = .ok (.goto (-49), 3) := dk_167 255 207 (dk_at dksX2_formLine_2 15 rfl rfl)
theorem dX2_formLine_61 : decode cX2_formLine 61 = .ok (.return_, 1) := dk_177 (dk_at dksX2_formLine_2 18 rfl rfl)
abbrev cX2_canArrive : ByteArray := prog_8_method_5_code
def yX2_canArrive : MethodName := ⟨RX2, "canArrive", "()Z"⟩
def dkwX2_canArrive_0 : List UInt8 := [42, 180, 0, 76, 185, 0, 118, 1, 0, 16, 40, 162, 0, 7, 4, 167, 0, 4, 3, 172]
abbrev dktX2_canArrive_0 : List UInt8 := dkwX2_canArrive_0 ++ []
theorem dksX2_canArrive_0 : cX2_canArrive.data.toList.drop 0 = dktX2_canArrive_0 := by decide +kernel
theorem dX2_canArrive_0 : decode cX2_canArrive 0 = .ok (.aload_n 0, 1) := dk_42 (dk_at dksX2_canArrive_0 0 rfl rfl)
theorem dX2_canArrive_1 : decode cX2_canArrive 1 = .ok (.getfield 76, 3) := dk_180 0 76 (dk_at dksX2_canArrive_0 1 rfl rfl)
theorem dX2_canArrive_4 : decode cX2_canArrive 4 = .ok (.invokeinterface 118 1, 5) := by decide +kernel
theorem dX2_canArrive_9 : decode cX2_canArrive 9 = .ok (.bipush 40, 2) := dk_16 40 (dk_at dksX2_canArrive_0 9 rfl rfl)
theorem dX2_canArrive_11 : decode cX2_canArrive 11 = .ok (.if_icmp .ge 7, 3) := dk_162 0 7 (dk_at dksX2_canArrive_0 11 rfl rfl)
theorem dX2_canArrive_14 : decode cX2_canArrive 14 = .ok (.iconst 1, 1) := dk_4 (dk_at dksX2_canArrive_0 14 rfl rfl)
theorem dX2_canArrive_15 : decode cX2_canArrive 15 = .ok (.goto 4, 3) := dk_167 0 4 (dk_at dksX2_canArrive_0 15 rfl rfl)
theorem dX2_canArrive_18 : decode cX2_canArrive 18 = .ok (.iconst 0, 1) := dk_3 (dk_at dksX2_canArrive_0 18 rfl rfl)
theorem dX2_canArrive_19 : decode cX2_canArrive 19 = .ok (.ireturn, 1) := dk_172 (dk_at dksX2_canArrive_0 19 rfl rfl)
abbrev cX2_arrive : ByteArray := prog_8_method_6_code
def yX2_arrive : MethodName := ⟨RX2, "arrive", "(II)I"⟩
def dkwX2_arrive_2 : List UInt8 := [180, 0, 82, 45, 182, 0, 173, 87, 45, 180, 0, 177, 172]
abbrev dktX2_arrive_2 : List UInt8 := dkwX2_arrive_2 ++ []
def dkwX2_arrive_1 : List UInt8 := [180, 0, 76, 45, 185, 0, 20, 2, 0, 87, 42, 180, 0, 87, 45, 180, 0, 177, 178, 0, 169, 83, 42]
abbrev dktX2_arrive_1 : List UInt8 := dkwX2_arrive_1 ++ dktX2_arrive_2
def dkwX2_arrive_0 : List UInt8 := [187, 0, 122, 89, 42, 180, 0, 76, 185, 0, 118, 1, 0, 27, 28, 42, 180, 0, 106, 183, 0, 174, 78, 42]
abbrev dktX2_arrive_0 : List UInt8 := dkwX2_arrive_0 ++ dktX2_arrive_1
theorem dksX2_arrive_0 : cX2_arrive.data.toList.drop 0 = dktX2_arrive_0 := by decide +kernel
theorem dksX2_arrive_1 : cX2_arrive.data.toList.drop 24 = dktX2_arrive_1 := dk_seg dksX2_arrive_0 24 rfl rfl
theorem dksX2_arrive_2 : cX2_arrive.data.toList.drop 47 = dktX2_arrive_2 := dk_seg dksX2_arrive_1 23 rfl rfl
theorem dX2_arrive_0 : decode cX2_arrive 0 = .ok (.new 122, 3) := dk_187 0 122 (dk_at dksX2_arrive_0 0 rfl rfl)
theorem dX2_arrive_3 : decode cX2_arrive 3 = .ok (.dup, 1) := dk_89 (dk_at dksX2_arrive_0 3 rfl rfl)
theorem dX2_arrive_4 : decode cX2_arrive 4 = .ok (.aload_n 0, 1) := dk_42 (dk_at dksX2_arrive_0 4 rfl rfl)
theorem dX2_arrive_5 : decode cX2_arrive 5 = .ok (.getfield 76, 3) := dk_180 0 76 (dk_at dksX2_arrive_0 5 rfl rfl)
theorem dX2_arrive_8 : decode cX2_arrive 8 = .ok (.invokeinterface 118 1, 5) := by decide +kernel
theorem dX2_arrive_13 : decode cX2_arrive 13 = .ok (.iload_n 1, 1) := dk_27 (dk_at dksX2_arrive_0 13 rfl rfl)
theorem dX2_arrive_14 : decode cX2_arrive 14 = .ok (.iload_n 2, 1) := dk_28 (dk_at dksX2_arrive_0 14 rfl rfl)
theorem dX2_arrive_15 : decode cX2_arrive 15 = .ok (.aload_n 0, 1) := dk_42 (dk_at dksX2_arrive_0 15 rfl rfl)
theorem dX2_arrive_16 : decode cX2_arrive 16 = .ok (.getfield 106, 3) := dk_180 0 106 (dk_at dksX2_arrive_0 16 rfl rfl)
theorem dX2_arrive_19 : decode cX2_arrive 19 = .ok (.invokespecial 174, 3) := dk_183 0 174 (dk_at dksX2_arrive_0 19 rfl rfl)
theorem dX2_arrive_22 : decode cX2_arrive 22 = .ok (.astore_n 3, 1) := dk_78 (dk_at dksX2_arrive_0 22 rfl rfl)
theorem dX2_arrive_23 : decode cX2_arrive 23 = .ok (.aload_n 0, 1) := dk_42 (dk_at dksX2_arrive_0 23 rfl rfl)
theorem dX2_arrive_24 : decode cX2_arrive 24 = .ok (.getfield 76, 3) := dk_180 0 76 (dk_at dksX2_arrive_1 0 rfl rfl)
theorem dX2_arrive_27 : decode cX2_arrive 27 = .ok (.aload_n 3, 1) := dk_45 (dk_at dksX2_arrive_1 3 rfl rfl)
theorem dX2_arrive_28 : decode cX2_arrive 28 = .ok (.invokeinterface 20 2, 5) := by decide +kernel
theorem dX2_arrive_33 : decode cX2_arrive 33 = .ok (.pop, 1) := dk_87 (dk_at dksX2_arrive_1 9 rfl rfl)
theorem dX2_arrive_34 : decode cX2_arrive 34 = .ok (.aload_n 0, 1) := dk_42 (dk_at dksX2_arrive_1 10 rfl rfl)
theorem dX2_arrive_35 : decode cX2_arrive 35 = .ok (.getfield 87, 3) := dk_180 0 87 (dk_at dksX2_arrive_1 11 rfl rfl)
theorem dX2_arrive_38 : decode cX2_arrive 38 = .ok (.aload_n 3, 1) := dk_45 (dk_at dksX2_arrive_1 14 rfl rfl)
theorem dX2_arrive_39 : decode cX2_arrive 39 = .ok (.getfield 177, 3) := dk_180 0 177 (dk_at dksX2_arrive_1 15 rfl rfl)
theorem dX2_arrive_42 : decode cX2_arrive 42 = .ok (.getstatic 169, 3) := dk_178 0 169 (dk_at dksX2_arrive_1 18 rfl rfl)
theorem dX2_arrive_45 : decode cX2_arrive 45 = .ok (.aastore, 1) := dk_83 (dk_at dksX2_arrive_1 21 rfl rfl)
theorem dX2_arrive_46 : decode cX2_arrive 46 = .ok (.aload_n 0, 1) := dk_42 (dk_at dksX2_arrive_1 22 rfl rfl)
theorem dX2_arrive_47 : decode cX2_arrive 47 = .ok (.getfield 82, 3) := dk_180 0 82 (dk_at dksX2_arrive_2 0 rfl rfl)
theorem dX2_arrive_50 : decode cX2_arrive 50 = .ok (.aload_n 3, 1) := dk_45 (dk_at dksX2_arrive_2 3 rfl rfl)
theorem dX2_arrive_51 : decode cX2_arrive 51 = .ok (.invokevirtual 173, 3) := dk_182 0 173 (dk_at dksX2_arrive_2 4 rfl rfl)
theorem dX2_arrive_54 : decode cX2_arrive 54 = .ok (.pop, 1) := dk_87 (dk_at dksX2_arrive_2 7 rfl rfl)
theorem dX2_arrive_55 : decode cX2_arrive 55 = .ok (.aload_n 3, 1) := dk_45 (dk_at dksX2_arrive_2 8 rfl rfl)
theorem dX2_arrive_56 : decode cX2_arrive 56 = .ok (.getfield 177, 3) := dk_180 0 177 (dk_at dksX2_arrive_2 9 rfl rfl)
theorem dX2_arrive_59 : decode cX2_arrive 59 = .ok (.ireturn, 1) := dk_172 (dk_at dksX2_arrive_2 12 rfl rfl)
abbrev cX2_giveUp : ByteArray := prog_8_method_7_code
def yX2_giveUp : MethodName := ⟨RX2, "giveUp", "(I)I"⟩
def dkwX2_giveUp_1 : List UInt8 := [185, 0, 35, 2, 0, 192, 0, 122, 180, 0, 181, 100, 79, 42, 182, 0, 124, 42, 180, 0, 91, 27, 46, 172]
abbrev dktX2_giveUp_1 : List UInt8 := dkwX2_giveUp_1 ++ []
def dkwX2_giveUp_0 : List UInt8 := [42, 180, 0, 87, 27, 178, 0, 178, 83, 42, 180, 0, 91, 27, 42, 180, 0, 106, 42, 180, 0, 76, 27]
abbrev dktX2_giveUp_0 : List UInt8 := dkwX2_giveUp_0 ++ dktX2_giveUp_1
theorem dksX2_giveUp_0 : cX2_giveUp.data.toList.drop 0 = dktX2_giveUp_0 := by decide +kernel
theorem dksX2_giveUp_1 : cX2_giveUp.data.toList.drop 23 = dktX2_giveUp_1 := dk_seg dksX2_giveUp_0 23 rfl rfl
theorem dX2_giveUp_0 : decode cX2_giveUp 0 = .ok (.aload_n 0, 1) := dk_42 (dk_at dksX2_giveUp_0 0 rfl rfl)
theorem dX2_giveUp_1 : decode cX2_giveUp 1 = .ok (.getfield 87, 3) := dk_180 0 87 (dk_at dksX2_giveUp_0 1 rfl rfl)
theorem dX2_giveUp_4 : decode cX2_giveUp 4 = .ok (.iload_n 1, 1) := dk_27 (dk_at dksX2_giveUp_0 4 rfl rfl)
theorem dX2_giveUp_5 : decode cX2_giveUp 5 = .ok (.getstatic 178, 3) := dk_178 0 178 (dk_at dksX2_giveUp_0 5 rfl rfl)
theorem dX2_giveUp_8 : decode cX2_giveUp 8 = .ok (.aastore, 1) := dk_83 (dk_at dksX2_giveUp_0 8 rfl rfl)
theorem dX2_giveUp_9 : decode cX2_giveUp 9 = .ok (.aload_n 0, 1) := dk_42 (dk_at dksX2_giveUp_0 9 rfl rfl)
theorem dX2_giveUp_10 : decode cX2_giveUp 10 = .ok (.getfield 91, 3) := dk_180 0 91 (dk_at dksX2_giveUp_0 10 rfl rfl)
theorem dX2_giveUp_13 : decode cX2_giveUp 13 = .ok (.iload_n 1, 1) := dk_27 (dk_at dksX2_giveUp_0 13 rfl rfl)
theorem dX2_giveUp_14 : decode cX2_giveUp 14 = .ok (.aload_n 0, 1) := dk_42 (dk_at dksX2_giveUp_0 14 rfl rfl)
theorem dX2_giveUp_15 : decode cX2_giveUp 15 = .ok (.getfield 106, 3) := dk_180 0 106 (dk_at dksX2_giveUp_0 15 rfl rfl)
theorem dX2_giveUp_18 : decode cX2_giveUp 18 = .ok (.aload_n 0, 1) := dk_42 (dk_at dksX2_giveUp_0 18 rfl rfl)
theorem dX2_giveUp_19 : decode cX2_giveUp 19 = .ok (.getfield 76, 3) := dk_180 0 76 (dk_at dksX2_giveUp_0 19 rfl rfl)
theorem dX2_giveUp_22 : decode cX2_giveUp 22 = .ok (.iload_n 1, 1) := dk_27 (dk_at dksX2_giveUp_0 22 rfl rfl)
theorem dX2_giveUp_23 : decode cX2_giveUp 23 = .ok (.invokeinterface 35 2, 5) := by decide +kernel
theorem dX2_giveUp_28 : decode cX2_giveUp 28 = .ok (.checkcast 122, 3) := dk_192 0 122 (dk_at dksX2_giveUp_1 5 rfl rfl)
theorem dX2_giveUp_31 : decode cX2_giveUp 31 = .ok (.getfield 181, 3) := dk_180 0 181 (dk_at dksX2_giveUp_1 8 rfl rfl)
theorem dX2_giveUp_34 : decode cX2_giveUp 34 = .ok (.isub, 1) := dk_100 (dk_at dksX2_giveUp_1 11 rfl rfl)
theorem dX2_giveUp_35 : decode cX2_giveUp 35 = .ok (.iastore, 1) := dk_79 (dk_at dksX2_giveUp_1 12 rfl rfl)
theorem dX2_giveUp_36 : decode cX2_giveUp 36 = .ok (.aload_n 0, 1) := dk_42 (dk_at dksX2_giveUp_1 13 rfl rfl)
theorem dX2_giveUp_37 : decode cX2_giveUp 37 = .ok (.invokevirtual 124, 3) := dk_182 0 124 (dk_at dksX2_giveUp_1 14 rfl rfl)
theorem dX2_giveUp_40 : decode cX2_giveUp 40 = .ok (.aload_n 0, 1) := dk_42 (dk_at dksX2_giveUp_1 17 rfl rfl)
theorem dX2_giveUp_41 : decode cX2_giveUp 41 = .ok (.getfield 91, 3) := dk_180 0 91 (dk_at dksX2_giveUp_1 18 rfl rfl)
theorem dX2_giveUp_44 : decode cX2_giveUp 44 = .ok (.iload_n 1, 1) := dk_27 (dk_at dksX2_giveUp_1 21 rfl rfl)
theorem dX2_giveUp_45 : decode cX2_giveUp 45 = .ok (.iaload, 1) := dk_46 (dk_at dksX2_giveUp_1 22 rfl rfl)
theorem dX2_giveUp_46 : decode cX2_giveUp 46 = .ok (.ireturn, 1) := dk_172 (dk_at dksX2_giveUp_1 23 rfl rfl)
abbrev cX2_canPass : ByteArray := prog_8_method_8_code
def yX2_canPass : MethodName := ⟨RX2, "canPass", "(I)Z"⟩
def dkwX2_canPass_0 : List UInt8 := [42, 180, 0, 106, 27, 96, 17, 39, 15, 163, 0, 7, 4, 167, 0, 4, 3, 172]
abbrev dktX2_canPass_0 : List UInt8 := dkwX2_canPass_0 ++ []
theorem dksX2_canPass_0 : cX2_canPass.data.toList.drop 0 = dktX2_canPass_0 := by decide +kernel
theorem dX2_canPass_0 : decode cX2_canPass 0 = .ok (.aload_n 0, 1) := dk_42 (dk_at dksX2_canPass_0 0 rfl rfl)
theorem dX2_canPass_1 : decode cX2_canPass 1 = .ok (.getfield 106, 3) := dk_180 0 106 (dk_at dksX2_canPass_0 1 rfl rfl)
theorem dX2_canPass_4 : decode cX2_canPass 4 = .ok (.iload_n 1, 1) := dk_27 (dk_at dksX2_canPass_0 4 rfl rfl)
theorem dX2_canPass_5 : decode cX2_canPass 5 = .ok (.iadd, 1) := dk_96 (dk_at dksX2_canPass_0 5 rfl rfl)
theorem dX2_canPass_6 : decode cX2_canPass 6 = .ok (.sipush 9999, 3) := dk_17 39 15 (dk_at dksX2_canPass_0 6 rfl rfl)
theorem dX2_canPass_9 : decode cX2_canPass 9 = .ok (.if_icmp .gt 7, 3) := dk_163 0 7 (dk_at dksX2_canPass_0 9 rfl rfl)
theorem dX2_canPass_12 : decode cX2_canPass 12 = .ok (.iconst 1, 1) := dk_4 (dk_at dksX2_canPass_0 12 rfl rfl)
theorem dX2_canPass_13 : decode cX2_canPass 13 = .ok (.goto 4, 3) := dk_167 0 4 (dk_at dksX2_canPass_0 13 rfl rfl)
theorem dX2_canPass_16 : decode cX2_canPass 16 = .ok (.iconst 0, 1) := dk_3 (dk_at dksX2_canPass_0 16 rfl rfl)
theorem dX2_canPass_17 : decode cX2_canPass 17 = .ok (.ireturn, 1) := dk_172 (dk_at dksX2_canPass_0 17 rfl rfl)
abbrev cX2_pass : ByteArray := prog_8_method_9_code
def yX2_pass : MethodName := ⟨RX2, "pass", "(I)I"⟩
def dkwX2_pass_0 : List UInt8 := [3, 61, 3, 62, 29, 27, 162, 0, 16, 28, 42, 182, 0, 184, 96, 61, 132, 3, 1, 167, 255, 241, 28, 172]
abbrev dktX2_pass_0 : List UInt8 := dkwX2_pass_0 ++ []
theorem dksX2_pass_0 : cX2_pass.data.toList.drop 0 = dktX2_pass_0 := by decide +kernel
theorem dX2_pass_0 : decode cX2_pass 0 = .ok (.iconst 0, 1) := dk_3 (dk_at dksX2_pass_0 0 rfl rfl)
theorem dX2_pass_1 : decode cX2_pass 1 = .ok (.istore_n 2, 1) := dk_61 (dk_at dksX2_pass_0 1 rfl rfl)
theorem dX2_pass_2 : decode cX2_pass 2 = .ok (.iconst 0, 1) := dk_3 (dk_at dksX2_pass_0 2 rfl rfl)
theorem dX2_pass_3 : decode cX2_pass 3 = .ok (.istore_n 3, 1) := dk_62 (dk_at dksX2_pass_0 3 rfl rfl)
theorem dX2_pass_4 : decode cX2_pass 4 = .ok (.iload_n 3, 1) := dk_29 (dk_at dksX2_pass_0 4 rfl rfl)
theorem dX2_pass_5 : decode cX2_pass 5 = .ok (.iload_n 1, 1) := dk_27 (dk_at dksX2_pass_0 5 rfl rfl)
theorem dX2_pass_6 : decode cX2_pass 6 = .ok (.if_icmp .ge 16, 3) := dk_162 0 16 (dk_at dksX2_pass_0 6 rfl rfl)
theorem dX2_pass_9 : decode cX2_pass 9 = .ok (.iload_n 2, 1) := dk_28 (dk_at dksX2_pass_0 9 rfl rfl)
theorem dX2_pass_10 : decode cX2_pass 10 = .ok (.aload_n 0, 1) := dk_42 (dk_at dksX2_pass_0 10 rfl rfl)
theorem dX2_pass_11 : decode cX2_pass 11 = .ok (.invokevirtual 184, 3) := dk_182 0 184 (dk_at dksX2_pass_0 11 rfl rfl)
theorem dX2_pass_14 : decode cX2_pass 14 = .ok (.iadd, 1) := dk_96 (dk_at dksX2_pass_0 14 rfl rfl)
theorem dX2_pass_15 : decode cX2_pass 15 = .ok (.istore_n 2, 1) := dk_61 (dk_at dksX2_pass_0 15 rfl rfl)
theorem dX2_pass_16 : decode cX2_pass 16 = .ok (.iinc 3 1, 3) := dk_132 3 1 (dk_at dksX2_pass_0 16 rfl rfl)
theorem dX2_pass_19 : decode cX2_pass 19 = .ok (.goto (-15), 3) := dk_167 255 241 (dk_at dksX2_pass_0 19 rfl rfl)
theorem dX2_pass_22 : decode cX2_pass 22 = .ok (.iload_n 2, 1) := dk_28 (dk_at dksX2_pass_0 22 rfl rfl)
theorem dX2_pass_23 : decode cX2_pass 23 = .ok (.ireturn, 1) := dk_172 (dk_at dksX2_pass_0 23 rfl rfl)
abbrev cX2_quarter : ByteArray := prog_8_method_13_code
def yX2_quarter : MethodName := ⟨RX2, "quarter", "()I"⟩
def dkwX2_quarter_3 : List UInt8 := [167, 255, 231, 3, 60, 42, 182, 0, 214, 154, 0, 13, 42, 182, 0, 217, 132, 1, 1, 167, 255, 242, 27, 172]
abbrev dktX2_quarter_3 : List UInt8 := dkwX2_quarter_3 ++ []
def dkwX2_quarter_2 : List UInt8 := [6, 162, 0, 26, 42, 42, 180, 0, 39, 27, 185, 0, 35, 2, 0, 192, 0, 42, 182, 0, 210, 132, 1, 1]
abbrev dktX2_quarter_2 : List UInt8 := dkwX2_quarter_2 ++ dktX2_quarter_3
def dkwX2_quarter_1 : List UInt8 := [185, 0, 35, 2, 0, 192, 0, 15, 182, 0, 204, 132, 1, 1, 167, 255, 232, 42, 182, 0, 207, 3, 60, 27]
abbrev dktX2_quarter_1 : List UInt8 := dkwX2_quarter_1 ++ dktX2_quarter_2
def dkwX2_quarter_0 : List UInt8 := [42, 89, 180, 0, 106, 4, 96, 181, 0, 106, 3, 60, 27, 8, 162, 0, 25, 42, 180, 0, 11, 27]
abbrev dktX2_quarter_0 : List UInt8 := dkwX2_quarter_0 ++ dktX2_quarter_1
theorem dksX2_quarter_0 : cX2_quarter.data.toList.drop 0 = dktX2_quarter_0 := by decide +kernel
theorem dksX2_quarter_1 : cX2_quarter.data.toList.drop 22 = dktX2_quarter_1 := dk_seg dksX2_quarter_0 22 rfl rfl
theorem dksX2_quarter_2 : cX2_quarter.data.toList.drop 46 = dktX2_quarter_2 := dk_seg dksX2_quarter_1 24 rfl rfl
theorem dksX2_quarter_3 : cX2_quarter.data.toList.drop 70 = dktX2_quarter_3 := dk_seg dksX2_quarter_2 24 rfl rfl
theorem dX2_quarter_0 : decode cX2_quarter 0 = .ok (.aload_n 0, 1) := dk_42 (dk_at dksX2_quarter_0 0 rfl rfl)
theorem dX2_quarter_1 : decode cX2_quarter 1 = .ok (.dup, 1) := dk_89 (dk_at dksX2_quarter_0 1 rfl rfl)
theorem dX2_quarter_2 : decode cX2_quarter 2 = .ok (.getfield 106, 3) := dk_180 0 106 (dk_at dksX2_quarter_0 2 rfl rfl)
theorem dX2_quarter_5 : decode cX2_quarter 5 = .ok (.iconst 1, 1) := dk_4 (dk_at dksX2_quarter_0 5 rfl rfl)
theorem dX2_quarter_6 : decode cX2_quarter 6 = .ok (.iadd, 1) := dk_96 (dk_at dksX2_quarter_0 6 rfl rfl)
theorem dX2_quarter_7 : decode cX2_quarter 7 = .ok (.putfield 106, 3) := dk_181 0 106 (dk_at dksX2_quarter_0 7 rfl rfl)
theorem dX2_quarter_10 : decode cX2_quarter 10 = .ok (.iconst 0, 1) := dk_3 (dk_at dksX2_quarter_0 10 rfl rfl)
theorem dX2_quarter_11 : decode cX2_quarter 11 = .ok (.istore_n 1, 1) := dk_60 (dk_at dksX2_quarter_0 11 rfl rfl)
theorem dX2_quarter_12 : decode cX2_quarter 12 = .ok (.iload_n 1, 1) := dk_27 (dk_at dksX2_quarter_0 12 rfl rfl)
theorem dX2_quarter_13 : decode cX2_quarter 13 = .ok (.iconst 5, 1) := dk_8 (dk_at dksX2_quarter_0 13 rfl rfl)
theorem dX2_quarter_14 : decode cX2_quarter 14 = .ok (.if_icmp .ge 25, 3) := dk_162 0 25 (dk_at dksX2_quarter_0 14 rfl rfl)
theorem dX2_quarter_17 : decode cX2_quarter 17 = .ok (.aload_n 0, 1) := dk_42 (dk_at dksX2_quarter_0 17 rfl rfl)
theorem dX2_quarter_18 : decode cX2_quarter 18 = .ok (.getfield 11, 3) := dk_180 0 11 (dk_at dksX2_quarter_0 18 rfl rfl)
theorem dX2_quarter_21 : decode cX2_quarter 21 = .ok (.iload_n 1, 1) := dk_27 (dk_at dksX2_quarter_0 21 rfl rfl)
theorem dX2_quarter_22 : decode cX2_quarter 22 = .ok (.invokeinterface 35 2, 5) := by decide +kernel
theorem dX2_quarter_27 : decode cX2_quarter 27 = .ok (.checkcast 15, 3) := dk_192 0 15 (dk_at dksX2_quarter_1 5 rfl rfl)
theorem dX2_quarter_30 : decode cX2_quarter 30 = .ok (.invokevirtual 204, 3) := dk_182 0 204 (dk_at dksX2_quarter_1 8 rfl rfl)
theorem dX2_quarter_33 : decode cX2_quarter 33 = .ok (.iinc 1 1, 3) := dk_132 1 1 (dk_at dksX2_quarter_1 11 rfl rfl)
theorem dX2_quarter_36 : decode cX2_quarter 36 = .ok (.goto (-24), 3) := dk_167 255 232 (dk_at dksX2_quarter_1 14 rfl rfl)
theorem dX2_quarter_39 : decode cX2_quarter 39 = .ok (.aload_n 0, 1) := dk_42 (dk_at dksX2_quarter_1 17 rfl rfl)
theorem dX2_quarter_40 : decode cX2_quarter 40 = .ok (.invokevirtual 207, 3) := dk_182 0 207 (dk_at dksX2_quarter_1 18 rfl rfl)
theorem dX2_quarter_43 : decode cX2_quarter 43 = .ok (.iconst 0, 1) := dk_3 (dk_at dksX2_quarter_1 21 rfl rfl)
theorem dX2_quarter_44 : decode cX2_quarter 44 = .ok (.istore_n 1, 1) := dk_60 (dk_at dksX2_quarter_1 22 rfl rfl)
theorem dX2_quarter_45 : decode cX2_quarter 45 = .ok (.iload_n 1, 1) := dk_27 (dk_at dksX2_quarter_1 23 rfl rfl)
theorem dX2_quarter_46 : decode cX2_quarter 46 = .ok (.iconst 3, 1) := dk_6 (dk_at dksX2_quarter_2 0 rfl rfl)
theorem dX2_quarter_47 : decode cX2_quarter 47 = .ok (.if_icmp .ge 26, 3) := dk_162 0 26 (dk_at dksX2_quarter_2 1 rfl rfl)
theorem dX2_quarter_50 : decode cX2_quarter 50 = .ok (.aload_n 0, 1) := dk_42 (dk_at dksX2_quarter_2 4 rfl rfl)
theorem dX2_quarter_51 : decode cX2_quarter 51 = .ok (.aload_n 0, 1) := dk_42 (dk_at dksX2_quarter_2 5 rfl rfl)
theorem dX2_quarter_52 : decode cX2_quarter 52 = .ok (.getfield 39, 3) := dk_180 0 39 (dk_at dksX2_quarter_2 6 rfl rfl)
theorem dX2_quarter_55 : decode cX2_quarter 55 = .ok (.iload_n 1, 1) := dk_27 (dk_at dksX2_quarter_2 9 rfl rfl)
theorem dX2_quarter_56 : decode cX2_quarter 56 = .ok (.invokeinterface 35 2, 5) := by decide +kernel
theorem dX2_quarter_61 : decode cX2_quarter 61 = .ok (.checkcast 42, 3) := dk_192 0 42 (dk_at dksX2_quarter_2 15 rfl rfl)
theorem dX2_quarter_64 : decode cX2_quarter 64 = .ok (.invokevirtual 210, 3) := dk_182 0 210 (dk_at dksX2_quarter_2 18 rfl rfl)
theorem dX2_quarter_67 : decode cX2_quarter 67 = .ok (.iinc 1 1, 3) := dk_132 1 1 (dk_at dksX2_quarter_2 21 rfl rfl)
theorem dX2_quarter_70 : decode cX2_quarter 70 = .ok (.goto (-25), 3) := dk_167 255 231 (dk_at dksX2_quarter_3 0 rfl rfl)
theorem dX2_quarter_73 : decode cX2_quarter 73 = .ok (.iconst 0, 1) := dk_3 (dk_at dksX2_quarter_3 3 rfl rfl)
theorem dX2_quarter_74 : decode cX2_quarter 74 = .ok (.istore_n 1, 1) := dk_60 (dk_at dksX2_quarter_3 4 rfl rfl)
theorem dX2_quarter_75 : decode cX2_quarter 75 = .ok (.aload_n 0, 1) := dk_42 (dk_at dksX2_quarter_3 5 rfl rfl)
theorem dX2_quarter_76 : decode cX2_quarter 76 = .ok (.invokevirtual 214, 3) := dk_182 0 214 (dk_at dksX2_quarter_3 6 rfl rfl)
theorem dX2_quarter_79 : decode cX2_quarter 79 = .ok (.ifCond .ne 13, 3) := dk_154 0 13 (dk_at dksX2_quarter_3 9 rfl rfl)
theorem dX2_quarter_82 : decode cX2_quarter 82 = .ok (.aload_n 0, 1) := dk_42 (dk_at dksX2_quarter_3 12 rfl rfl)
theorem dX2_quarter_83 : decode cX2_quarter 83 = .ok (.invokevirtual 217, 3) := dk_182 0 217 (dk_at dksX2_quarter_3 13 rfl rfl)
theorem dX2_quarter_86 : decode cX2_quarter 86 = .ok (.iinc 1 1, 3) := dk_132 1 1 (dk_at dksX2_quarter_3 16 rfl rfl)
theorem dX2_quarter_89 : decode cX2_quarter 89 = .ok (.goto (-14), 3) := dk_167 255 242 (dk_at dksX2_quarter_3 19 rfl rfl)
theorem dX2_quarter_92 : decode cX2_quarter 92 = .ok (.iload_n 1, 1) := dk_27 (dk_at dksX2_quarter_3 22 rfl rfl)
theorem dX2_quarter_93 : decode cX2_quarter 93 = .ok (.ireturn, 1) := dk_172 (dk_at dksX2_quarter_3 23 rfl rfl)
abbrev cX2_repair : ByteArray := prog_8_method_14_code
def yX2_repair : MethodName := ⟨RX2, "repair", "()V"⟩
def dkwX2_repair_4 : List UInt8 := [181, 0, 158, 177]
abbrev dktX2_repair_4 : List UInt8 := dkwX2_repair_4 ++ []
def dkwX2_repair_3 : List UInt8 := [180, 0, 109, 4, 100, 181, 0, 109, 42, 180, 0, 109, 154, 0, 15, 42, 180, 0, 158, 182, 0, 201, 42, 1]
abbrev dktX2_repair_3 : List UInt8 := dkwX2_repair_3 ++ dktX2_repair_4
def dkwX2_repair_2 : List UInt8 := [181, 0, 158, 42, 7, 181, 0, 109, 132, 1, 1, 167, 255, 200, 42, 180, 0, 158, 198, 0, 32, 42, 89]
abbrev dktX2_repair_2 : List UInt8 := dkwX2_repair_2 ++ dktX2_repair_3
def dkwX2_repair_1 : List UInt8 := [192, 0, 42, 180, 0, 220, 153, 0, 25, 42, 42, 180, 0, 39, 27, 185, 0, 35, 2, 0, 192, 0, 42]
abbrev dktX2_repair_1 : List UInt8 := dkwX2_repair_1 ++ dktX2_repair_2
def dkwX2_repair_0 : List UInt8 := [3, 60, 27, 6, 162, 0, 57, 42, 180, 0, 158, 199, 0, 50, 42, 180, 0, 39, 27, 185, 0, 35, 2, 0]
abbrev dktX2_repair_0 : List UInt8 := dkwX2_repair_0 ++ dktX2_repair_1
theorem dksX2_repair_0 : cX2_repair.data.toList.drop 0 = dktX2_repair_0 := by decide +kernel
theorem dksX2_repair_1 : cX2_repair.data.toList.drop 24 = dktX2_repair_1 := dk_seg dksX2_repair_0 24 rfl rfl
theorem dksX2_repair_2 : cX2_repair.data.toList.drop 47 = dktX2_repair_2 := dk_seg dksX2_repair_1 23 rfl rfl
theorem dksX2_repair_3 : cX2_repair.data.toList.drop 70 = dktX2_repair_3 := dk_seg dksX2_repair_2 23 rfl rfl
theorem dksX2_repair_4 : cX2_repair.data.toList.drop 94 = dktX2_repair_4 := dk_seg dksX2_repair_3 24 rfl rfl
theorem dX2_repair_0 : decode cX2_repair 0 = .ok (.iconst 0, 1) := dk_3 (dk_at dksX2_repair_0 0 rfl rfl)
theorem dX2_repair_1 : decode cX2_repair 1 = .ok (.istore_n 1, 1) := dk_60 (dk_at dksX2_repair_0 1 rfl rfl)
theorem dX2_repair_2 : decode cX2_repair 2 = .ok (.iload_n 1, 1) := dk_27 (dk_at dksX2_repair_0 2 rfl rfl)
theorem dX2_repair_3 : decode cX2_repair 3 = .ok (.iconst 3, 1) := dk_6 (dk_at dksX2_repair_0 3 rfl rfl)
theorem dX2_repair_4 : decode cX2_repair 4 = .ok (.if_icmp .ge 57, 3) := dk_162 0 57 (dk_at dksX2_repair_0 4 rfl rfl)
theorem dX2_repair_7 : decode cX2_repair 7 = .ok (.aload_n 0, 1) := dk_42 (dk_at dksX2_repair_0 7 rfl rfl)
theorem dX2_repair_8 : decode cX2_repair 8 = .ok (.getfield 158, 3) := dk_180 0 158 (dk_at dksX2_repair_0 8 rfl rfl)
theorem dX2_repair_11 : decode cX2_repair 11 = .ok (.ifnonnull 50, 3) := dk_199 0 50 (dk_at dksX2_repair_0 11 rfl rfl)
theorem dX2_repair_14 : decode cX2_repair 14 = .ok (.aload_n 0, 1) := dk_42 (dk_at dksX2_repair_0 14 rfl rfl)
theorem dX2_repair_15 : decode cX2_repair 15 = .ok (.getfield 39, 3) := dk_180 0 39 (dk_at dksX2_repair_0 15 rfl rfl)
theorem dX2_repair_18 : decode cX2_repair 18 = .ok (.iload_n 1, 1) := dk_27 (dk_at dksX2_repair_0 18 rfl rfl)
theorem dX2_repair_19 : decode cX2_repair 19 = .ok (.invokeinterface 35 2, 5) := by decide +kernel
theorem dX2_repair_24 : decode cX2_repair 24 = .ok (.checkcast 42, 3) := dk_192 0 42 (dk_at dksX2_repair_1 0 rfl rfl)
theorem dX2_repair_27 : decode cX2_repair 27 = .ok (.getfield 220, 3) := dk_180 0 220 (dk_at dksX2_repair_1 3 rfl rfl)
theorem dX2_repair_30 : decode cX2_repair 30 = .ok (.ifCond .eq 25, 3) := dk_153 0 25 (dk_at dksX2_repair_1 6 rfl rfl)
theorem dX2_repair_33 : decode cX2_repair 33 = .ok (.aload_n 0, 1) := dk_42 (dk_at dksX2_repair_1 9 rfl rfl)
theorem dX2_repair_34 : decode cX2_repair 34 = .ok (.aload_n 0, 1) := dk_42 (dk_at dksX2_repair_1 10 rfl rfl)
theorem dX2_repair_35 : decode cX2_repair 35 = .ok (.getfield 39, 3) := dk_180 0 39 (dk_at dksX2_repair_1 11 rfl rfl)
theorem dX2_repair_38 : decode cX2_repair 38 = .ok (.iload_n 1, 1) := dk_27 (dk_at dksX2_repair_1 14 rfl rfl)
theorem dX2_repair_39 : decode cX2_repair 39 = .ok (.invokeinterface 35 2, 5) := by decide +kernel
theorem dX2_repair_44 : decode cX2_repair 44 = .ok (.checkcast 42, 3) := dk_192 0 42 (dk_at dksX2_repair_1 20 rfl rfl)
theorem dX2_repair_47 : decode cX2_repair 47 = .ok (.putfield 158, 3) := dk_181 0 158 (dk_at dksX2_repair_2 0 rfl rfl)
theorem dX2_repair_50 : decode cX2_repair 50 = .ok (.aload_n 0, 1) := dk_42 (dk_at dksX2_repair_2 3 rfl rfl)
theorem dX2_repair_51 : decode cX2_repair 51 = .ok (.iconst 4, 1) := dk_7 (dk_at dksX2_repair_2 4 rfl rfl)
theorem dX2_repair_52 : decode cX2_repair 52 = .ok (.putfield 109, 3) := dk_181 0 109 (dk_at dksX2_repair_2 5 rfl rfl)
theorem dX2_repair_55 : decode cX2_repair 55 = .ok (.iinc 1 1, 3) := dk_132 1 1 (dk_at dksX2_repair_2 8 rfl rfl)
theorem dX2_repair_58 : decode cX2_repair 58 = .ok (.goto (-56), 3) := dk_167 255 200 (dk_at dksX2_repair_2 11 rfl rfl)
theorem dX2_repair_61 : decode cX2_repair 61 = .ok (.aload_n 0, 1) := dk_42 (dk_at dksX2_repair_2 14 rfl rfl)
theorem dX2_repair_62 : decode cX2_repair 62 = .ok (.getfield 158, 3) := dk_180 0 158 (dk_at dksX2_repair_2 15 rfl rfl)
theorem dX2_repair_65 : decode cX2_repair 65 = .ok (.ifnull 32, 3) := dk_198 0 32 (dk_at dksX2_repair_2 18 rfl rfl)
theorem dX2_repair_68 : decode cX2_repair 68 = .ok (.aload_n 0, 1) := dk_42 (dk_at dksX2_repair_2 21 rfl rfl)
theorem dX2_repair_69 : decode cX2_repair 69 = .ok (.dup, 1) := dk_89 (dk_at dksX2_repair_2 22 rfl rfl)
theorem dX2_repair_70 : decode cX2_repair 70 = .ok (.getfield 109, 3) := dk_180 0 109 (dk_at dksX2_repair_3 0 rfl rfl)
theorem dX2_repair_73 : decode cX2_repair 73 = .ok (.iconst 1, 1) := dk_4 (dk_at dksX2_repair_3 3 rfl rfl)
theorem dX2_repair_74 : decode cX2_repair 74 = .ok (.isub, 1) := dk_100 (dk_at dksX2_repair_3 4 rfl rfl)
theorem dX2_repair_75 : decode cX2_repair 75 = .ok (.putfield 109, 3) := dk_181 0 109 (dk_at dksX2_repair_3 5 rfl rfl)
theorem dX2_repair_78 : decode cX2_repair 78 = .ok (.aload_n 0, 1) := dk_42 (dk_at dksX2_repair_3 8 rfl rfl)
theorem dX2_repair_79 : decode cX2_repair 79 = .ok (.getfield 109, 3) := dk_180 0 109 (dk_at dksX2_repair_3 9 rfl rfl)
theorem dX2_repair_82 : decode cX2_repair 82 = .ok (.ifCond .ne 15, 3) := dk_154 0 15 (dk_at dksX2_repair_3 12 rfl rfl)
theorem dX2_repair_85 : decode cX2_repair 85 = .ok (.aload_n 0, 1) := dk_42 (dk_at dksX2_repair_3 15 rfl rfl)
theorem dX2_repair_86 : decode cX2_repair 86 = .ok (.getfield 158, 3) := dk_180 0 158 (dk_at dksX2_repair_3 16 rfl rfl)
theorem dX2_repair_89 : decode cX2_repair 89 = .ok (.invokevirtual 201, 3) := dk_182 0 201 (dk_at dksX2_repair_3 19 rfl rfl)
theorem dX2_repair_92 : decode cX2_repair 92 = .ok (.aload_n 0, 1) := dk_42 (dk_at dksX2_repair_3 22 rfl rfl)
theorem dX2_repair_93 : decode cX2_repair 93 = .ok (.aconst_null, 1) := dk_1 (dk_at dksX2_repair_3 23 rfl rfl)
theorem dX2_repair_94 : decode cX2_repair 94 = .ok (.putfield 158, 3) := dk_181 0 158 (dk_at dksX2_repair_4 0 rfl rfl)
theorem dX2_repair_97 : decode cX2_repair 97 = .ok (.return_, 1) := dk_177 (dk_at dksX2_repair_4 3 rfl rfl)
abbrev cX2_ride : ByteArray := prog_8_method_15_code
def yX2_ride : MethodName := ⟨RX2, "ride", "(LPostChaiseYard$Chaise;)V"⟩
def dkwX2_ride_6 : List UInt8 := [180, 0, 115, 4, 96, 181, 0, 115, 177]
abbrev dktX2_ride_6 : List UInt8 := dkwX2_ride_6 ++ []
def dkwX2_ride_5 : List UInt8 := [185, 0, 20, 2, 0, 87, 43, 180, 0, 198, 42, 180, 0, 70, 161, 0, 18, 43, 4, 181, 0, 220, 42, 89]
abbrev dktX2_ride_5 : List UInt8 := dkwX2_ride_5 ++ dktX2_ride_6
def dkwX2_ride_4 : List UInt8 := [181, 0, 198, 44, 180, 0, 144, 29, 44, 180, 0, 226, 182, 0, 249, 42, 180, 0, 32, 44, 180, 0, 151]
abbrev dktX2_ride_4 : List UInt8 := dkwX2_ride_4 ++ dktX2_ride_5
def dkwX2_ride_3 : List UInt8 := [43, 1, 181, 0, 140, 43, 89, 180, 0, 246, 29, 96, 181, 0, 246, 43, 89, 180, 0, 198, 29, 96]
abbrev dktX2_ride_3 : List UInt8 := dkwX2_ride_3 ++ dktX2_ride_4
def dkwX2_ride_2 : List UInt8 := [178, 0, 236, 83, 44, 180, 0, 223, 154, 0, 93, 5, 44, 180, 0, 232, 180, 0, 239, 184, 0, 242, 104, 62]
abbrev dktX2_ride_2 : List UInt8 := dkwX2_ride_2 ++ dktX2_ride_3
def dkwX2_ride_1 : List UInt8 := [44, 180, 0, 223, 100, 44, 180, 0, 229, 160, 0, 18, 42, 180, 0, 87, 44, 180, 0, 232, 180, 0, 177]
abbrev dktX2_ride_1 : List UInt8 := dkwX2_ride_1 ++ dktX2_ride_2
def dkwX2_ride_0 : List UInt8 := [43, 180, 0, 140, 77, 44, 199, 0, 4, 177, 44, 89, 180, 0, 223, 4, 100, 181, 0, 223, 44, 180, 0, 226]
abbrev dktX2_ride_0 : List UInt8 := dkwX2_ride_0 ++ dktX2_ride_1
theorem dksX2_ride_0 : cX2_ride.data.toList.drop 0 = dktX2_ride_0 := by decide +kernel
theorem dksX2_ride_1 : cX2_ride.data.toList.drop 24 = dktX2_ride_1 := dk_seg dksX2_ride_0 24 rfl rfl
theorem dksX2_ride_2 : cX2_ride.data.toList.drop 47 = dktX2_ride_2 := dk_seg dksX2_ride_1 23 rfl rfl
theorem dksX2_ride_3 : cX2_ride.data.toList.drop 71 = dktX2_ride_3 := dk_seg dksX2_ride_2 24 rfl rfl
theorem dksX2_ride_4 : cX2_ride.data.toList.drop 93 = dktX2_ride_4 := dk_seg dksX2_ride_3 22 rfl rfl
theorem dksX2_ride_5 : cX2_ride.data.toList.drop 116 = dktX2_ride_5 := dk_seg dksX2_ride_4 23 rfl rfl
theorem dksX2_ride_6 : cX2_ride.data.toList.drop 140 = dktX2_ride_6 := dk_seg dksX2_ride_5 24 rfl rfl
theorem dX2_ride_0 : decode cX2_ride 0 = .ok (.aload_n 1, 1) := dk_43 (dk_at dksX2_ride_0 0 rfl rfl)
theorem dX2_ride_1 : decode cX2_ride 1 = .ok (.getfield 140, 3) := dk_180 0 140 (dk_at dksX2_ride_0 1 rfl rfl)
theorem dX2_ride_4 : decode cX2_ride 4 = .ok (.astore_n 2, 1) := dk_77 (dk_at dksX2_ride_0 4 rfl rfl)
theorem dX2_ride_5 : decode cX2_ride 5 = .ok (.aload_n 2, 1) := dk_44 (dk_at dksX2_ride_0 5 rfl rfl)
theorem dX2_ride_6 : decode cX2_ride 6 = .ok (.ifnonnull 4, 3) := dk_199 0 4 (dk_at dksX2_ride_0 6 rfl rfl)
theorem dX2_ride_9 : decode cX2_ride 9 = .ok (.return_, 1) := dk_177 (dk_at dksX2_ride_0 9 rfl rfl)
theorem dX2_ride_10 : decode cX2_ride 10 = .ok (.aload_n 2, 1) := dk_44 (dk_at dksX2_ride_0 10 rfl rfl)
theorem dX2_ride_11 : decode cX2_ride 11 = .ok (.dup, 1) := dk_89 (dk_at dksX2_ride_0 11 rfl rfl)
theorem dX2_ride_12 : decode cX2_ride 12 = .ok (.getfield 223, 3) := dk_180 0 223 (dk_at dksX2_ride_0 12 rfl rfl)
theorem dX2_ride_15 : decode cX2_ride 15 = .ok (.iconst 1, 1) := dk_4 (dk_at dksX2_ride_0 15 rfl rfl)
theorem dX2_ride_16 : decode cX2_ride 16 = .ok (.isub, 1) := dk_100 (dk_at dksX2_ride_0 16 rfl rfl)
theorem dX2_ride_17 : decode cX2_ride 17 = .ok (.putfield 223, 3) := dk_181 0 223 (dk_at dksX2_ride_0 17 rfl rfl)
theorem dX2_ride_20 : decode cX2_ride 20 = .ok (.aload_n 2, 1) := dk_44 (dk_at dksX2_ride_0 20 rfl rfl)
theorem dX2_ride_21 : decode cX2_ride 21 = .ok (.getfield 226, 3) := dk_180 0 226 (dk_at dksX2_ride_0 21 rfl rfl)
theorem dX2_ride_24 : decode cX2_ride 24 = .ok (.aload_n 2, 1) := dk_44 (dk_at dksX2_ride_1 0 rfl rfl)
theorem dX2_ride_25 : decode cX2_ride 25 = .ok (.getfield 223, 3) := dk_180 0 223 (dk_at dksX2_ride_1 1 rfl rfl)
theorem dX2_ride_28 : decode cX2_ride 28 = .ok (.isub, 1) := dk_100 (dk_at dksX2_ride_1 4 rfl rfl)
theorem dX2_ride_29 : decode cX2_ride 29 = .ok (.aload_n 2, 1) := dk_44 (dk_at dksX2_ride_1 5 rfl rfl)
theorem dX2_ride_30 : decode cX2_ride 30 = .ok (.getfield 229, 3) := dk_180 0 229 (dk_at dksX2_ride_1 6 rfl rfl)
theorem dX2_ride_33 : decode cX2_ride 33 = .ok (.if_icmp .ne 18, 3) := dk_160 0 18 (dk_at dksX2_ride_1 9 rfl rfl)
theorem dX2_ride_36 : decode cX2_ride 36 = .ok (.aload_n 0, 1) := dk_42 (dk_at dksX2_ride_1 12 rfl rfl)
theorem dX2_ride_37 : decode cX2_ride 37 = .ok (.getfield 87, 3) := dk_180 0 87 (dk_at dksX2_ride_1 13 rfl rfl)
theorem dX2_ride_40 : decode cX2_ride 40 = .ok (.aload_n 2, 1) := dk_44 (dk_at dksX2_ride_1 16 rfl rfl)
theorem dX2_ride_41 : decode cX2_ride 41 = .ok (.getfield 232, 3) := dk_180 0 232 (dk_at dksX2_ride_1 17 rfl rfl)
theorem dX2_ride_44 : decode cX2_ride 44 = .ok (.getfield 177, 3) := dk_180 0 177 (dk_at dksX2_ride_1 20 rfl rfl)
theorem dX2_ride_47 : decode cX2_ride 47 = .ok (.getstatic 236, 3) := dk_178 0 236 (dk_at dksX2_ride_2 0 rfl rfl)
theorem dX2_ride_50 : decode cX2_ride 50 = .ok (.aastore, 1) := dk_83 (dk_at dksX2_ride_2 3 rfl rfl)
theorem dX2_ride_51 : decode cX2_ride 51 = .ok (.aload_n 2, 1) := dk_44 (dk_at dksX2_ride_2 4 rfl rfl)
theorem dX2_ride_52 : decode cX2_ride 52 = .ok (.getfield 223, 3) := dk_180 0 223 (dk_at dksX2_ride_2 5 rfl rfl)
theorem dX2_ride_55 : decode cX2_ride 55 = .ok (.ifCond .ne 93, 3) := dk_154 0 93 (dk_at dksX2_ride_2 8 rfl rfl)
theorem dX2_ride_58 : decode cX2_ride 58 = .ok (.iconst 2, 1) := dk_5 (dk_at dksX2_ride_2 11 rfl rfl)
theorem dX2_ride_59 : decode cX2_ride 59 = .ok (.aload_n 2, 1) := dk_44 (dk_at dksX2_ride_2 12 rfl rfl)
theorem dX2_ride_60 : decode cX2_ride 60 = .ok (.getfield 232, 3) := dk_180 0 232 (dk_at dksX2_ride_2 13 rfl rfl)
theorem dX2_ride_63 : decode cX2_ride 63 = .ok (.getfield 239, 3) := dk_180 0 239 (dk_at dksX2_ride_2 16 rfl rfl)
theorem dX2_ride_66 : decode cX2_ride 66 = .ok (.invokestatic 242, 3) := dk_184 0 242 (dk_at dksX2_ride_2 19 rfl rfl)
theorem dX2_ride_69 : decode cX2_ride 69 = .ok (.imul, 1) := dk_104 (dk_at dksX2_ride_2 22 rfl rfl)
theorem dX2_ride_70 : decode cX2_ride 70 = .ok (.istore_n 3, 1) := dk_62 (dk_at dksX2_ride_2 23 rfl rfl)
theorem dX2_ride_71 : decode cX2_ride 71 = .ok (.aload_n 1, 1) := dk_43 (dk_at dksX2_ride_3 0 rfl rfl)
theorem dX2_ride_72 : decode cX2_ride 72 = .ok (.aconst_null, 1) := dk_1 (dk_at dksX2_ride_3 1 rfl rfl)
theorem dX2_ride_73 : decode cX2_ride 73 = .ok (.putfield 140, 3) := dk_181 0 140 (dk_at dksX2_ride_3 2 rfl rfl)
theorem dX2_ride_76 : decode cX2_ride 76 = .ok (.aload_n 1, 1) := dk_43 (dk_at dksX2_ride_3 5 rfl rfl)
theorem dX2_ride_77 : decode cX2_ride 77 = .ok (.dup, 1) := dk_89 (dk_at dksX2_ride_3 6 rfl rfl)
theorem dX2_ride_78 : decode cX2_ride 78 = .ok (.getfield 246, 3) := dk_180 0 246 (dk_at dksX2_ride_3 7 rfl rfl)
theorem dX2_ride_81 : decode cX2_ride 81 = .ok (.iload_n 3, 1) := dk_29 (dk_at dksX2_ride_3 10 rfl rfl)
theorem dX2_ride_82 : decode cX2_ride 82 = .ok (.iadd, 1) := dk_96 (dk_at dksX2_ride_3 11 rfl rfl)
theorem dX2_ride_83 : decode cX2_ride 83 = .ok (.putfield 246, 3) := dk_181 0 246 (dk_at dksX2_ride_3 12 rfl rfl)
theorem dX2_ride_86 : decode cX2_ride 86 = .ok (.aload_n 1, 1) := dk_43 (dk_at dksX2_ride_3 15 rfl rfl)
theorem dX2_ride_87 : decode cX2_ride 87 = .ok (.dup, 1) := dk_89 (dk_at dksX2_ride_3 16 rfl rfl)
theorem dX2_ride_88 : decode cX2_ride 88 = .ok (.getfield 198, 3) := dk_180 0 198 (dk_at dksX2_ride_3 17 rfl rfl)
theorem dX2_ride_91 : decode cX2_ride 91 = .ok (.iload_n 3, 1) := dk_29 (dk_at dksX2_ride_3 20 rfl rfl)
theorem dX2_ride_92 : decode cX2_ride 92 = .ok (.iadd, 1) := dk_96 (dk_at dksX2_ride_3 21 rfl rfl)
theorem dX2_ride_93 : decode cX2_ride 93 = .ok (.putfield 198, 3) := dk_181 0 198 (dk_at dksX2_ride_4 0 rfl rfl)
theorem dX2_ride_96 : decode cX2_ride 96 = .ok (.aload_n 2, 1) := dk_44 (dk_at dksX2_ride_4 3 rfl rfl)
theorem dX2_ride_97 : decode cX2_ride 97 = .ok (.getfield 144, 3) := dk_180 0 144 (dk_at dksX2_ride_4 4 rfl rfl)
theorem dX2_ride_100 : decode cX2_ride 100 = .ok (.iload_n 3, 1) := dk_29 (dk_at dksX2_ride_4 7 rfl rfl)
theorem dX2_ride_101 : decode cX2_ride 101 = .ok (.aload_n 2, 1) := dk_44 (dk_at dksX2_ride_4 8 rfl rfl)
theorem dX2_ride_102 : decode cX2_ride 102 = .ok (.getfield 226, 3) := dk_180 0 226 (dk_at dksX2_ride_4 9 rfl rfl)
theorem dX2_ride_105 : decode cX2_ride 105 = .ok (.invokevirtual 249, 3) := dk_182 0 249 (dk_at dksX2_ride_4 12 rfl rfl)
theorem dX2_ride_108 : decode cX2_ride 108 = .ok (.aload_n 0, 1) := dk_42 (dk_at dksX2_ride_4 15 rfl rfl)
theorem dX2_ride_109 : decode cX2_ride 109 = .ok (.getfield 32, 3) := dk_180 0 32 (dk_at dksX2_ride_4 16 rfl rfl)
theorem dX2_ride_112 : decode cX2_ride 112 = .ok (.aload_n 2, 1) := dk_44 (dk_at dksX2_ride_4 19 rfl rfl)
theorem dX2_ride_113 : decode cX2_ride 113 = .ok (.getfield 151, 3) := dk_180 0 151 (dk_at dksX2_ride_4 20 rfl rfl)
theorem dX2_ride_116 : decode cX2_ride 116 = .ok (.invokeinterface 20 2, 5) := by decide +kernel
theorem dX2_ride_121 : decode cX2_ride 121 = .ok (.pop, 1) := dk_87 (dk_at dksX2_ride_5 5 rfl rfl)
theorem dX2_ride_122 : decode cX2_ride 122 = .ok (.aload_n 1, 1) := dk_43 (dk_at dksX2_ride_5 6 rfl rfl)
theorem dX2_ride_123 : decode cX2_ride 123 = .ok (.getfield 198, 3) := dk_180 0 198 (dk_at dksX2_ride_5 7 rfl rfl)
theorem dX2_ride_126 : decode cX2_ride 126 = .ok (.aload_n 0, 1) := dk_42 (dk_at dksX2_ride_5 10 rfl rfl)
theorem dX2_ride_127 : decode cX2_ride 127 = .ok (.getfield 70, 3) := dk_180 0 70 (dk_at dksX2_ride_5 11 rfl rfl)
theorem dX2_ride_130 : decode cX2_ride 130 = .ok (.if_icmp .lt 18, 3) := dk_161 0 18 (dk_at dksX2_ride_5 14 rfl rfl)
theorem dX2_ride_133 : decode cX2_ride 133 = .ok (.aload_n 1, 1) := dk_43 (dk_at dksX2_ride_5 17 rfl rfl)
theorem dX2_ride_134 : decode cX2_ride 134 = .ok (.iconst 1, 1) := dk_4 (dk_at dksX2_ride_5 18 rfl rfl)
theorem dX2_ride_135 : decode cX2_ride 135 = .ok (.putfield 220, 3) := dk_181 0 220 (dk_at dksX2_ride_5 19 rfl rfl)
theorem dX2_ride_138 : decode cX2_ride 138 = .ok (.aload_n 0, 1) := dk_42 (dk_at dksX2_ride_5 22 rfl rfl)
theorem dX2_ride_139 : decode cX2_ride 139 = .ok (.dup, 1) := dk_89 (dk_at dksX2_ride_5 23 rfl rfl)
theorem dX2_ride_140 : decode cX2_ride 140 = .ok (.getfield 115, 3) := dk_180 0 115 (dk_at dksX2_ride_6 0 rfl rfl)
theorem dX2_ride_143 : decode cX2_ride 143 = .ok (.iconst 1, 1) := dk_4 (dk_at dksX2_ride_6 3 rfl rfl)
theorem dX2_ride_144 : decode cX2_ride 144 = .ok (.iadd, 1) := dk_96 (dk_at dksX2_ride_6 4 rfl rfl)
theorem dX2_ride_145 : decode cX2_ride 145 = .ok (.putfield 115, 3) := dk_181 0 115 (dk_at dksX2_ride_6 5 rfl rfl)
theorem dX2_ride_148 : decode cX2_ride 148 = .ok (.return_, 1) := dk_177 (dk_at dksX2_ride_6 8 rfl rfl)
abbrev cX2_depart : ByteArray := prog_8_method_19_code
def yX2_depart : MethodName := ⟨RX2, "depart", "()V"⟩
def dkwX2_depart_8 : List UInt8 := [177]
abbrev dktX2_depart_8 : List UInt8 := dkwX2_depart_8 ++ []
def dkwX2_depart_7 : List UInt8 := [184, 0, 49, 182, 0, 163, 192, 0, 50, 182, 1, 42, 43, 182, 1, 45, 96, 184, 0, 49, 182, 0, 55, 87]
abbrev dktX2_depart_7 : List UInt8 := dkwX2_depart_7 ++ dktX2_depart_8
def dkwX2_depart_6 : List UInt8 := [180, 0, 181, 100, 79, 42, 180, 0, 45, 43, 180, 0, 239, 184, 0, 49, 42, 180, 0, 45, 43, 180, 0, 239]
abbrev dktX2_depart_6 : List UInt8 := dkwX2_depart_6 ++ dktX2_depart_7
def dkwX2_depart_5 : List UInt8 := [180, 0, 87, 43, 180, 0, 177, 178, 1, 39, 83, 42, 180, 0, 91, 43, 180, 0, 177, 42, 180, 0, 106, 43]
abbrev dktX2_depart_5 : List UInt8 := dkwX2_depart_5 ++ dktX2_depart_6
def dkwX2_depart_4 : List UInt8 := [183, 1, 30, 181, 0, 140, 44, 4, 181, 1, 33, 45, 89, 180, 1, 36, 4, 96, 181, 1, 36, 42]
abbrev dktX2_depart_4 : List UInt8 := dkwX2_depart_4 ++ dktX2_depart_5
def dkwX2_depart_3 : List UInt8 := [182, 1, 27, 187, 0, 145, 89, 43, 44, 45, 21, 5, 21, 5, 21, 4, 42, 180, 0, 66, 184, 1, 23, 96]
abbrev dktX2_depart_3 : List UInt8 := dkwX2_depart_3 ++ dktX2_depart_4
def dkwX2_depart_2 : List UInt8 := [154, 0, 12, 42, 180, 0, 66, 4, 96, 167, 0, 7, 42, 180, 0, 66, 184, 1, 23, 54, 5, 42]
abbrev dktX2_depart_2 : List UInt8 := dkwX2_depart_2 ++ dktX2_depart_3
def dkwX2_depart_1 : List UInt8 := [185, 0, 191, 2, 0, 192, 0, 29, 78, 43, 180, 0, 239, 184, 0, 242, 54, 4, 21, 4, 43, 180, 1, 20]
abbrev dktX2_depart_1 : List UInt8 := dkwX2_depart_1 ++ dktX2_depart_2
def dkwX2_depart_0 : List UInt8 := [42, 180, 0, 82, 182, 1, 14, 192, 0, 122, 76, 42, 182, 1, 17, 77, 42, 180, 0, 32, 3]
abbrev dktX2_depart_0 : List UInt8 := dkwX2_depart_0 ++ dktX2_depart_1
theorem dksX2_depart_0 : cX2_depart.data.toList.drop 0 = dktX2_depart_0 := by decide +kernel
theorem dksX2_depart_1 : cX2_depart.data.toList.drop 21 = dktX2_depart_1 := dk_seg dksX2_depart_0 21 rfl rfl
theorem dksX2_depart_2 : cX2_depart.data.toList.drop 45 = dktX2_depart_2 := dk_seg dksX2_depart_1 24 rfl rfl
theorem dksX2_depart_3 : cX2_depart.data.toList.drop 67 = dktX2_depart_3 := dk_seg dksX2_depart_2 22 rfl rfl
theorem dksX2_depart_4 : cX2_depart.data.toList.drop 91 = dktX2_depart_4 := dk_seg dksX2_depart_3 24 rfl rfl
theorem dksX2_depart_5 : cX2_depart.data.toList.drop 113 = dktX2_depart_5 := dk_seg dksX2_depart_4 22 rfl rfl
theorem dksX2_depart_6 : cX2_depart.data.toList.drop 137 = dktX2_depart_6 := dk_seg dksX2_depart_5 24 rfl rfl
theorem dksX2_depart_7 : cX2_depart.data.toList.drop 161 = dktX2_depart_7 := dk_seg dksX2_depart_6 24 rfl rfl
theorem dksX2_depart_8 : cX2_depart.data.toList.drop 185 = dktX2_depart_8 := dk_seg dksX2_depart_7 24 rfl rfl
theorem dX2_depart_0 : decode cX2_depart 0 = .ok (.aload_n 0, 1) := dk_42 (dk_at dksX2_depart_0 0 rfl rfl)
theorem dX2_depart_1 : decode cX2_depart 1 = .ok (.getfield 82, 3) := dk_180 0 82 (dk_at dksX2_depart_0 1 rfl rfl)
theorem dX2_depart_4 : decode cX2_depart 4 = .ok (.invokevirtual 270, 3) := dk_182 1 14 (dk_at dksX2_depart_0 4 rfl rfl)
theorem dX2_depart_7 : decode cX2_depart 7 = .ok (.checkcast 122, 3) := dk_192 0 122 (dk_at dksX2_depart_0 7 rfl rfl)
theorem dX2_depart_10 : decode cX2_depart 10 = .ok (.astore_n 1, 1) := dk_76 (dk_at dksX2_depart_0 10 rfl rfl)
theorem dX2_depart_11 : decode cX2_depart 11 = .ok (.aload_n 0, 1) := dk_42 (dk_at dksX2_depart_0 11 rfl rfl)
theorem dX2_depart_12 : decode cX2_depart 12 = .ok (.invokevirtual 273, 3) := dk_182 1 17 (dk_at dksX2_depart_0 12 rfl rfl)
theorem dX2_depart_15 : decode cX2_depart 15 = .ok (.astore_n 2, 1) := dk_77 (dk_at dksX2_depart_0 15 rfl rfl)
theorem dX2_depart_16 : decode cX2_depart 16 = .ok (.aload_n 0, 1) := dk_42 (dk_at dksX2_depart_0 16 rfl rfl)
theorem dX2_depart_17 : decode cX2_depart 17 = .ok (.getfield 32, 3) := dk_180 0 32 (dk_at dksX2_depart_0 17 rfl rfl)
theorem dX2_depart_20 : decode cX2_depart 20 = .ok (.iconst 0, 1) := dk_3 (dk_at dksX2_depart_0 20 rfl rfl)
theorem dX2_depart_21 : decode cX2_depart 21 = .ok (.invokeinterface 191 2, 5) := by decide +kernel
theorem dX2_depart_26 : decode cX2_depart 26 = .ok (.checkcast 29, 3) := dk_192 0 29 (dk_at dksX2_depart_1 5 rfl rfl)
theorem dX2_depart_29 : decode cX2_depart 29 = .ok (.astore_n 3, 1) := dk_78 (dk_at dksX2_depart_1 8 rfl rfl)
theorem dX2_depart_30 : decode cX2_depart 30 = .ok (.aload_n 1, 1) := dk_43 (dk_at dksX2_depart_1 9 rfl rfl)
theorem dX2_depart_31 : decode cX2_depart 31 = .ok (.getfield 239, 3) := dk_180 0 239 (dk_at dksX2_depart_1 10 rfl rfl)
theorem dX2_depart_34 : decode cX2_depart 34 = .ok (.invokestatic 242, 3) := dk_184 0 242 (dk_at dksX2_depart_1 13 rfl rfl)
theorem dX2_depart_37 : decode cX2_depart 37 = .ok (.istore 4, 2) := dk_54 4 (dk_at dksX2_depart_1 16 rfl rfl)
theorem dX2_depart_39 : decode cX2_depart 39 = .ok (.iload 4, 2) := dk_21 4 (dk_at dksX2_depart_1 18 rfl rfl)
theorem dX2_depart_41 : decode cX2_depart 41 = .ok (.aload_n 1, 1) := dk_43 (dk_at dksX2_depart_1 20 rfl rfl)
theorem dX2_depart_42 : decode cX2_depart 42 = .ok (.getfield 276, 3) := dk_180 1 20 (dk_at dksX2_depart_1 21 rfl rfl)
theorem dX2_depart_45 : decode cX2_depart 45 = .ok (.ifCond .ne 12, 3) := dk_154 0 12 (dk_at dksX2_depart_2 0 rfl rfl)
theorem dX2_depart_48 : decode cX2_depart 48 = .ok (.aload_n 0, 1) := dk_42 (dk_at dksX2_depart_2 3 rfl rfl)
theorem dX2_depart_49 : decode cX2_depart 49 = .ok (.getfield 66, 3) := dk_180 0 66 (dk_at dksX2_depart_2 4 rfl rfl)
theorem dX2_depart_52 : decode cX2_depart 52 = .ok (.iconst 1, 1) := dk_4 (dk_at dksX2_depart_2 7 rfl rfl)
theorem dX2_depart_53 : decode cX2_depart 53 = .ok (.iadd, 1) := dk_96 (dk_at dksX2_depart_2 8 rfl rfl)
theorem dX2_depart_54 : decode cX2_depart 54 = .ok (.goto 7, 3) := dk_167 0 7 (dk_at dksX2_depart_2 9 rfl rfl)
theorem dX2_depart_57 : decode cX2_depart 57 = .ok (.aload_n 0, 1) := dk_42 (dk_at dksX2_depart_2 12 rfl rfl)
theorem dX2_depart_58 : decode cX2_depart 58 = .ok (.getfield 66, 3) := dk_180 0 66 (dk_at dksX2_depart_2 13 rfl rfl)
theorem dX2_depart_61 : decode cX2_depart 61 = .ok (.invokestatic 279, 3) := dk_184 1 23 (dk_at dksX2_depart_2 16 rfl rfl)
theorem dX2_depart_64 : decode cX2_depart 64 = .ok (.istore 5, 2) := dk_54 5 (dk_at dksX2_depart_2 19 rfl rfl)
theorem dX2_depart_66 : decode cX2_depart 66 = .ok (.aload_n 0, 1) := dk_42 (dk_at dksX2_depart_2 21 rfl rfl)
theorem dX2_depart_67 : decode cX2_depart 67 = .ok (.invokevirtual 283, 3) := dk_182 1 27 (dk_at dksX2_depart_3 0 rfl rfl)
theorem dX2_depart_70 : decode cX2_depart 70 = .ok (.new 145, 3) := dk_187 0 145 (dk_at dksX2_depart_3 3 rfl rfl)
theorem dX2_depart_73 : decode cX2_depart 73 = .ok (.dup, 1) := dk_89 (dk_at dksX2_depart_3 6 rfl rfl)
theorem dX2_depart_74 : decode cX2_depart 74 = .ok (.aload_n 1, 1) := dk_43 (dk_at dksX2_depart_3 7 rfl rfl)
theorem dX2_depart_75 : decode cX2_depart 75 = .ok (.aload_n 2, 1) := dk_44 (dk_at dksX2_depart_3 8 rfl rfl)
theorem dX2_depart_76 : decode cX2_depart 76 = .ok (.aload_n 3, 1) := dk_45 (dk_at dksX2_depart_3 9 rfl rfl)
theorem dX2_depart_77 : decode cX2_depart 77 = .ok (.iload 5, 2) := dk_21 5 (dk_at dksX2_depart_3 10 rfl rfl)
theorem dX2_depart_79 : decode cX2_depart 79 = .ok (.iload 5, 2) := dk_21 5 (dk_at dksX2_depart_3 12 rfl rfl)
theorem dX2_depart_81 : decode cX2_depart 81 = .ok (.iload 4, 2) := dk_21 4 (dk_at dksX2_depart_3 14 rfl rfl)
theorem dX2_depart_83 : decode cX2_depart 83 = .ok (.aload_n 0, 1) := dk_42 (dk_at dksX2_depart_3 16 rfl rfl)
theorem dX2_depart_84 : decode cX2_depart 84 = .ok (.getfield 66, 3) := dk_180 0 66 (dk_at dksX2_depart_3 17 rfl rfl)
theorem dX2_depart_87 : decode cX2_depart 87 = .ok (.invokestatic 279, 3) := dk_184 1 23 (dk_at dksX2_depart_3 20 rfl rfl)
theorem dX2_depart_90 : decode cX2_depart 90 = .ok (.iadd, 1) := dk_96 (dk_at dksX2_depart_3 23 rfl rfl)
theorem dX2_depart_91 : decode cX2_depart 91 = .ok (.invokespecial 286, 3) := dk_183 1 30 (dk_at dksX2_depart_4 0 rfl rfl)
theorem dX2_depart_94 : decode cX2_depart 94 = .ok (.putfield 140, 3) := dk_181 0 140 (dk_at dksX2_depart_4 3 rfl rfl)
theorem dX2_depart_97 : decode cX2_depart 97 = .ok (.aload_n 2, 1) := dk_44 (dk_at dksX2_depart_4 6 rfl rfl)
theorem dX2_depart_98 : decode cX2_depart 98 = .ok (.iconst 1, 1) := dk_4 (dk_at dksX2_depart_4 7 rfl rfl)
theorem dX2_depart_99 : decode cX2_depart 99 = .ok (.putfield 289, 3) := dk_181 1 33 (dk_at dksX2_depart_4 8 rfl rfl)
theorem dX2_depart_102 : decode cX2_depart 102 = .ok (.aload_n 3, 1) := dk_45 (dk_at dksX2_depart_4 11 rfl rfl)
theorem dX2_depart_103 : decode cX2_depart 103 = .ok (.dup, 1) := dk_89 (dk_at dksX2_depart_4 12 rfl rfl)
theorem dX2_depart_104 : decode cX2_depart 104 = .ok (.getfield 292, 3) := dk_180 1 36 (dk_at dksX2_depart_4 13 rfl rfl)
theorem dX2_depart_107 : decode cX2_depart 107 = .ok (.iconst 1, 1) := dk_4 (dk_at dksX2_depart_4 16 rfl rfl)
theorem dX2_depart_108 : decode cX2_depart 108 = .ok (.iadd, 1) := dk_96 (dk_at dksX2_depart_4 17 rfl rfl)
theorem dX2_depart_109 : decode cX2_depart 109 = .ok (.putfield 292, 3) := dk_181 1 36 (dk_at dksX2_depart_4 18 rfl rfl)
theorem dX2_depart_112 : decode cX2_depart 112 = .ok (.aload_n 0, 1) := dk_42 (dk_at dksX2_depart_4 21 rfl rfl)
theorem dX2_depart_113 : decode cX2_depart 113 = .ok (.getfield 87, 3) := dk_180 0 87 (dk_at dksX2_depart_5 0 rfl rfl)
theorem dX2_depart_116 : decode cX2_depart 116 = .ok (.aload_n 1, 1) := dk_43 (dk_at dksX2_depart_5 3 rfl rfl)
theorem dX2_depart_117 : decode cX2_depart 117 = .ok (.getfield 177, 3) := dk_180 0 177 (dk_at dksX2_depart_5 4 rfl rfl)
theorem dX2_depart_120 : decode cX2_depart 120 = .ok (.getstatic 295, 3) := dk_178 1 39 (dk_at dksX2_depart_5 7 rfl rfl)
theorem dX2_depart_123 : decode cX2_depart 123 = .ok (.aastore, 1) := dk_83 (dk_at dksX2_depart_5 10 rfl rfl)
theorem dX2_depart_124 : decode cX2_depart 124 = .ok (.aload_n 0, 1) := dk_42 (dk_at dksX2_depart_5 11 rfl rfl)
theorem dX2_depart_125 : decode cX2_depart 125 = .ok (.getfield 91, 3) := dk_180 0 91 (dk_at dksX2_depart_5 12 rfl rfl)
theorem dX2_depart_128 : decode cX2_depart 128 = .ok (.aload_n 1, 1) := dk_43 (dk_at dksX2_depart_5 15 rfl rfl)
theorem dX2_depart_129 : decode cX2_depart 129 = .ok (.getfield 177, 3) := dk_180 0 177 (dk_at dksX2_depart_5 16 rfl rfl)
theorem dX2_depart_132 : decode cX2_depart 132 = .ok (.aload_n 0, 1) := dk_42 (dk_at dksX2_depart_5 19 rfl rfl)
theorem dX2_depart_133 : decode cX2_depart 133 = .ok (.getfield 106, 3) := dk_180 0 106 (dk_at dksX2_depart_5 20 rfl rfl)
theorem dX2_depart_136 : decode cX2_depart 136 = .ok (.aload_n 1, 1) := dk_43 (dk_at dksX2_depart_5 23 rfl rfl)
theorem dX2_depart_137 : decode cX2_depart 137 = .ok (.getfield 181, 3) := dk_180 0 181 (dk_at dksX2_depart_6 0 rfl rfl)
theorem dX2_depart_140 : decode cX2_depart 140 = .ok (.isub, 1) := dk_100 (dk_at dksX2_depart_6 3 rfl rfl)
theorem dX2_depart_141 : decode cX2_depart 141 = .ok (.iastore, 1) := dk_79 (dk_at dksX2_depart_6 4 rfl rfl)
theorem dX2_depart_142 : decode cX2_depart 142 = .ok (.aload_n 0, 1) := dk_42 (dk_at dksX2_depart_6 5 rfl rfl)
theorem dX2_depart_143 : decode cX2_depart 143 = .ok (.getfield 45, 3) := dk_180 0 45 (dk_at dksX2_depart_6 6 rfl rfl)
theorem dX2_depart_146 : decode cX2_depart 146 = .ok (.aload_n 1, 1) := dk_43 (dk_at dksX2_depart_6 9 rfl rfl)
theorem dX2_depart_147 : decode cX2_depart 147 = .ok (.getfield 239, 3) := dk_180 0 239 (dk_at dksX2_depart_6 10 rfl rfl)
theorem dX2_depart_150 : decode cX2_depart 150 = .ok (.invokestatic 49, 3) := dk_184 0 49 (dk_at dksX2_depart_6 13 rfl rfl)
theorem dX2_depart_153 : decode cX2_depart 153 = .ok (.aload_n 0, 1) := dk_42 (dk_at dksX2_depart_6 16 rfl rfl)
theorem dX2_depart_154 : decode cX2_depart 154 = .ok (.getfield 45, 3) := dk_180 0 45 (dk_at dksX2_depart_6 17 rfl rfl)
theorem dX2_depart_157 : decode cX2_depart 157 = .ok (.aload_n 1, 1) := dk_43 (dk_at dksX2_depart_6 20 rfl rfl)
theorem dX2_depart_158 : decode cX2_depart 158 = .ok (.getfield 239, 3) := dk_180 0 239 (dk_at dksX2_depart_6 21 rfl rfl)
theorem dX2_depart_161 : decode cX2_depart 161 = .ok (.invokestatic 49, 3) := dk_184 0 49 (dk_at dksX2_depart_7 0 rfl rfl)
theorem dX2_depart_164 : decode cX2_depart 164 = .ok (.invokevirtual 163, 3) := dk_182 0 163 (dk_at dksX2_depart_7 3 rfl rfl)
theorem dX2_depart_167 : decode cX2_depart 167 = .ok (.checkcast 50, 3) := dk_192 0 50 (dk_at dksX2_depart_7 6 rfl rfl)
theorem dX2_depart_170 : decode cX2_depart 170 = .ok (.invokevirtual 298, 3) := dk_182 1 42 (dk_at dksX2_depart_7 9 rfl rfl)
theorem dX2_depart_173 : decode cX2_depart 173 = .ok (.aload_n 1, 1) := dk_43 (dk_at dksX2_depart_7 12 rfl rfl)
theorem dX2_depart_174 : decode cX2_depart 174 = .ok (.invokevirtual 301, 3) := dk_182 1 45 (dk_at dksX2_depart_7 13 rfl rfl)
theorem dX2_depart_177 : decode cX2_depart 177 = .ok (.iadd, 1) := dk_96 (dk_at dksX2_depart_7 16 rfl rfl)
theorem dX2_depart_178 : decode cX2_depart 178 = .ok (.invokestatic 49, 3) := dk_184 0 49 (dk_at dksX2_depart_7 17 rfl rfl)
theorem dX2_depart_181 : decode cX2_depart 181 = .ok (.invokevirtual 55, 3) := dk_182 0 55 (dk_at dksX2_depart_7 20 rfl rfl)
theorem dX2_depart_184 : decode cX2_depart 184 = .ok (.pop, 1) := dk_87 (dk_at dksX2_depart_7 23 rfl rfl)
theorem dX2_depart_185 : decode cX2_depart 185 = .ok (.return_, 1) := dk_177 (dk_at dksX2_depart_8 0 rfl rfl)
abbrev cX2_nextPair : ByteArray := prog_8_method_20_code
def yX2_nextPair : MethodName := ⟨RX2, "nextPair", "()LPostChaiseYard$Pair;"⟩
def dkwX2_nextPair_3 : List UInt8 := [153, 0, 7, 1, 167, 0, 10, 43, 182, 1, 58, 192, 0, 15, 176]
abbrev dktX2_nextPair_3 : List UInt8 := dkwX2_nextPair_3 ++ []
def dkwX2_nextPair_2 : List UInt8 := [185, 0, 35, 2, 0, 192, 0, 15, 182, 1, 56, 87, 132, 2, 1, 167, 255, 211, 43, 182, 1, 57]
abbrev dktX2_nextPair_2 : List UInt8 := dkwX2_nextPair_2 ++ dktX2_nextPair_3
def dkwX2_nextPair_1 : List UInt8 := [180, 0, 11, 28, 185, 0, 35, 2, 0, 192, 0, 15, 182, 1, 8, 153, 0, 21, 43, 42, 180, 0, 11, 28]
abbrev dktX2_nextPair_1 : List UInt8 := dkwX2_nextPair_1 ++ dktX2_nextPair_2
def dkwX2_nextPair_0 : List UInt8 := [187, 1, 48, 89, 187, 1, 50, 89, 183, 1, 52, 183, 1, 53, 76, 3, 61, 28, 8, 162, 0, 46, 42]
abbrev dktX2_nextPair_0 : List UInt8 := dkwX2_nextPair_0 ++ dktX2_nextPair_1
theorem dksX2_nextPair_0 : cX2_nextPair.data.toList.drop 0 = dktX2_nextPair_0 := by decide +kernel
theorem dksX2_nextPair_1 : cX2_nextPair.data.toList.drop 23 = dktX2_nextPair_1 := dk_seg dksX2_nextPair_0 23 rfl rfl
theorem dksX2_nextPair_2 : cX2_nextPair.data.toList.drop 47 = dktX2_nextPair_2 := dk_seg dksX2_nextPair_1 24 rfl rfl
theorem dksX2_nextPair_3 : cX2_nextPair.data.toList.drop 69 = dktX2_nextPair_3 := dk_seg dksX2_nextPair_2 22 rfl rfl
theorem dX2_nextPair_0 : decode cX2_nextPair 0 = .ok (.new 304, 3) := dk_187 1 48 (dk_at dksX2_nextPair_0 0 rfl rfl)
theorem dX2_nextPair_3 : decode cX2_nextPair 3 = .ok (.dup, 1) := dk_89 (dk_at dksX2_nextPair_0 3 rfl rfl)
theorem dX2_nextPair_4 : decode cX2_nextPair 4 = .ok (.new 306, 3) := dk_187 1 50 (dk_at dksX2_nextPair_0 4 rfl rfl)
theorem dX2_nextPair_7 : decode cX2_nextPair 7 = .ok (.dup, 1) := dk_89 (dk_at dksX2_nextPair_0 7 rfl rfl)
theorem dX2_nextPair_8 : decode cX2_nextPair 8 = .ok (.invokespecial 308, 3) := dk_183 1 52 (dk_at dksX2_nextPair_0 8 rfl rfl)
theorem dX2_nextPair_11 : decode cX2_nextPair 11 = .ok (.invokespecial 309, 3) := dk_183 1 53 (dk_at dksX2_nextPair_0 11 rfl rfl)
theorem dX2_nextPair_14 : decode cX2_nextPair 14 = .ok (.astore_n 1, 1) := dk_76 (dk_at dksX2_nextPair_0 14 rfl rfl)
theorem dX2_nextPair_15 : decode cX2_nextPair 15 = .ok (.iconst 0, 1) := dk_3 (dk_at dksX2_nextPair_0 15 rfl rfl)
theorem dX2_nextPair_16 : decode cX2_nextPair 16 = .ok (.istore_n 2, 1) := dk_61 (dk_at dksX2_nextPair_0 16 rfl rfl)
theorem dX2_nextPair_17 : decode cX2_nextPair 17 = .ok (.iload_n 2, 1) := dk_28 (dk_at dksX2_nextPair_0 17 rfl rfl)
theorem dX2_nextPair_18 : decode cX2_nextPair 18 = .ok (.iconst 5, 1) := dk_8 (dk_at dksX2_nextPair_0 18 rfl rfl)
theorem dX2_nextPair_19 : decode cX2_nextPair 19 = .ok (.if_icmp .ge 46, 3) := dk_162 0 46 (dk_at dksX2_nextPair_0 19 rfl rfl)
theorem dX2_nextPair_22 : decode cX2_nextPair 22 = .ok (.aload_n 0, 1) := dk_42 (dk_at dksX2_nextPair_0 22 rfl rfl)
theorem dX2_nextPair_23 : decode cX2_nextPair 23 = .ok (.getfield 11, 3) := dk_180 0 11 (dk_at dksX2_nextPair_1 0 rfl rfl)
theorem dX2_nextPair_26 : decode cX2_nextPair 26 = .ok (.iload_n 2, 1) := dk_28 (dk_at dksX2_nextPair_1 3 rfl rfl)
theorem dX2_nextPair_27 : decode cX2_nextPair 27 = .ok (.invokeinterface 35 2, 5) := by decide +kernel
theorem dX2_nextPair_32 : decode cX2_nextPair 32 = .ok (.checkcast 15, 3) := dk_192 0 15 (dk_at dksX2_nextPair_1 9 rfl rfl)
theorem dX2_nextPair_35 : decode cX2_nextPair 35 = .ok (.invokevirtual 264, 3) := dk_182 1 8 (dk_at dksX2_nextPair_1 12 rfl rfl)
theorem dX2_nextPair_38 : decode cX2_nextPair 38 = .ok (.ifCond .eq 21, 3) := dk_153 0 21 (dk_at dksX2_nextPair_1 15 rfl rfl)
theorem dX2_nextPair_41 : decode cX2_nextPair 41 = .ok (.aload_n 1, 1) := dk_43 (dk_at dksX2_nextPair_1 18 rfl rfl)
theorem dX2_nextPair_42 : decode cX2_nextPair 42 = .ok (.aload_n 0, 1) := dk_42 (dk_at dksX2_nextPair_1 19 rfl rfl)
theorem dX2_nextPair_43 : decode cX2_nextPair 43 = .ok (.getfield 11, 3) := dk_180 0 11 (dk_at dksX2_nextPair_1 20 rfl rfl)
theorem dX2_nextPair_46 : decode cX2_nextPair 46 = .ok (.iload_n 2, 1) := dk_28 (dk_at dksX2_nextPair_1 23 rfl rfl)
theorem dX2_nextPair_47 : decode cX2_nextPair 47 = .ok (.invokeinterface 35 2, 5) := by decide +kernel
theorem dX2_nextPair_52 : decode cX2_nextPair 52 = .ok (.checkcast 15, 3) := dk_192 0 15 (dk_at dksX2_nextPair_2 5 rfl rfl)
theorem dX2_nextPair_55 : decode cX2_nextPair 55 = .ok (.invokevirtual 312, 3) := dk_182 1 56 (dk_at dksX2_nextPair_2 8 rfl rfl)
theorem dX2_nextPair_58 : decode cX2_nextPair 58 = .ok (.pop, 1) := dk_87 (dk_at dksX2_nextPair_2 11 rfl rfl)
theorem dX2_nextPair_59 : decode cX2_nextPair 59 = .ok (.iinc 2 1, 3) := dk_132 2 1 (dk_at dksX2_nextPair_2 12 rfl rfl)
theorem dX2_nextPair_62 : decode cX2_nextPair 62 = .ok (.goto (-45), 3) := dk_167 255 211 (dk_at dksX2_nextPair_2 15 rfl rfl)
theorem dX2_nextPair_65 : decode cX2_nextPair 65 = .ok (.aload_n 1, 1) := dk_43 (dk_at dksX2_nextPair_2 18 rfl rfl)
theorem dX2_nextPair_66 : decode cX2_nextPair 66 = .ok (.invokevirtual 313, 3) := dk_182 1 57 (dk_at dksX2_nextPair_2 19 rfl rfl)
theorem dX2_nextPair_69 : decode cX2_nextPair 69 = .ok (.ifCond .eq 7, 3) := dk_153 0 7 (dk_at dksX2_nextPair_3 0 rfl rfl)
theorem dX2_nextPair_72 : decode cX2_nextPair 72 = .ok (.aconst_null, 1) := dk_1 (dk_at dksX2_nextPair_3 3 rfl rfl)
theorem dX2_nextPair_73 : decode cX2_nextPair 73 = .ok (.goto 10, 3) := dk_167 0 10 (dk_at dksX2_nextPair_3 4 rfl rfl)
theorem dX2_nextPair_76 : decode cX2_nextPair 76 = .ok (.aload_n 1, 1) := dk_43 (dk_at dksX2_nextPair_3 7 rfl rfl)
theorem dX2_nextPair_77 : decode cX2_nextPair 77 = .ok (.invokevirtual 314, 3) := dk_182 1 58 (dk_at dksX2_nextPair_3 8 rfl rfl)
theorem dX2_nextPair_80 : decode cX2_nextPair 80 = .ok (.checkcast 15, 3) := dk_192 0 15 (dk_at dksX2_nextPair_3 11 rfl rfl)
theorem dX2_nextPair_83 : decode cX2_nextPair 83 = .ok (.areturn, 1) := dk_176 (dk_at dksX2_nextPair_3 14 rfl rfl)
abbrev cX2_nextChaise : ByteArray := prog_8_method_21_code
def yX2_nextChaise : MethodName := ⟨RX2, "nextChaise", "()LPostChaiseYard$Chaise;"⟩
def dkwX2_nextChaise_3 : List UInt8 := [192, 0, 42, 176]
abbrev dktX2_nextChaise_3 : List UInt8 := dkwX2_nextChaise_3 ++ []
def dkwX2_nextChaise_2 : List UInt8 := [185, 0, 35, 2, 0, 192, 0, 42, 182, 0, 173, 87, 132, 2, 1, 167, 255, 211, 43, 182, 1, 61]
abbrev dktX2_nextChaise_2 : List UInt8 := dkwX2_nextChaise_2 ++ dktX2_nextChaise_3
def dkwX2_nextChaise_1 : List UInt8 := [185, 0, 35, 2, 0, 192, 0, 42, 182, 1, 11, 153, 0, 21, 43, 42, 180, 0, 39, 28]
abbrev dktX2_nextChaise_1 : List UInt8 := dkwX2_nextChaise_1 ++ dktX2_nextChaise_2
def dkwX2_nextChaise_0 : List UInt8 := [187, 0, 79, 89, 183, 0, 81, 76, 3, 61, 28, 6, 162, 0, 46, 42, 180, 0, 39, 28]
abbrev dktX2_nextChaise_0 : List UInt8 := dkwX2_nextChaise_0 ++ dktX2_nextChaise_1
theorem dksX2_nextChaise_0 : cX2_nextChaise.data.toList.drop 0 = dktX2_nextChaise_0 := by decide +kernel
theorem dksX2_nextChaise_1 : cX2_nextChaise.data.toList.drop 20 = dktX2_nextChaise_1 := dk_seg dksX2_nextChaise_0 20 rfl rfl
theorem dksX2_nextChaise_2 : cX2_nextChaise.data.toList.drop 40 = dktX2_nextChaise_2 := dk_seg dksX2_nextChaise_1 20 rfl rfl
theorem dksX2_nextChaise_3 : cX2_nextChaise.data.toList.drop 62 = dktX2_nextChaise_3 := dk_seg dksX2_nextChaise_2 22 rfl rfl
theorem dX2_nextChaise_0 : decode cX2_nextChaise 0 = .ok (.new 79, 3) := dk_187 0 79 (dk_at dksX2_nextChaise_0 0 rfl rfl)
theorem dX2_nextChaise_3 : decode cX2_nextChaise 3 = .ok (.dup, 1) := dk_89 (dk_at dksX2_nextChaise_0 3 rfl rfl)
theorem dX2_nextChaise_4 : decode cX2_nextChaise 4 = .ok (.invokespecial 81, 3) := dk_183 0 81 (dk_at dksX2_nextChaise_0 4 rfl rfl)
theorem dX2_nextChaise_7 : decode cX2_nextChaise 7 = .ok (.astore_n 1, 1) := dk_76 (dk_at dksX2_nextChaise_0 7 rfl rfl)
theorem dX2_nextChaise_8 : decode cX2_nextChaise 8 = .ok (.iconst 0, 1) := dk_3 (dk_at dksX2_nextChaise_0 8 rfl rfl)
theorem dX2_nextChaise_9 : decode cX2_nextChaise 9 = .ok (.istore_n 2, 1) := dk_61 (dk_at dksX2_nextChaise_0 9 rfl rfl)
theorem dX2_nextChaise_10 : decode cX2_nextChaise 10 = .ok (.iload_n 2, 1) := dk_28 (dk_at dksX2_nextChaise_0 10 rfl rfl)
theorem dX2_nextChaise_11 : decode cX2_nextChaise 11 = .ok (.iconst 3, 1) := dk_6 (dk_at dksX2_nextChaise_0 11 rfl rfl)
theorem dX2_nextChaise_12 : decode cX2_nextChaise 12 = .ok (.if_icmp .ge 46, 3) := dk_162 0 46 (dk_at dksX2_nextChaise_0 12 rfl rfl)
theorem dX2_nextChaise_15 : decode cX2_nextChaise 15 = .ok (.aload_n 0, 1) := dk_42 (dk_at dksX2_nextChaise_0 15 rfl rfl)
theorem dX2_nextChaise_16 : decode cX2_nextChaise 16 = .ok (.getfield 39, 3) := dk_180 0 39 (dk_at dksX2_nextChaise_0 16 rfl rfl)
theorem dX2_nextChaise_19 : decode cX2_nextChaise 19 = .ok (.iload_n 2, 1) := dk_28 (dk_at dksX2_nextChaise_0 19 rfl rfl)
theorem dX2_nextChaise_20 : decode cX2_nextChaise 20 = .ok (.invokeinterface 35 2, 5) := by decide +kernel
theorem dX2_nextChaise_25 : decode cX2_nextChaise 25 = .ok (.checkcast 42, 3) := dk_192 0 42 (dk_at dksX2_nextChaise_1 5 rfl rfl)
theorem dX2_nextChaise_28 : decode cX2_nextChaise 28 = .ok (.invokevirtual 267, 3) := dk_182 1 11 (dk_at dksX2_nextChaise_1 8 rfl rfl)
theorem dX2_nextChaise_31 : decode cX2_nextChaise 31 = .ok (.ifCond .eq 21, 3) := dk_153 0 21 (dk_at dksX2_nextChaise_1 11 rfl rfl)
theorem dX2_nextChaise_34 : decode cX2_nextChaise 34 = .ok (.aload_n 1, 1) := dk_43 (dk_at dksX2_nextChaise_1 14 rfl rfl)
theorem dX2_nextChaise_35 : decode cX2_nextChaise 35 = .ok (.aload_n 0, 1) := dk_42 (dk_at dksX2_nextChaise_1 15 rfl rfl)
theorem dX2_nextChaise_36 : decode cX2_nextChaise 36 = .ok (.getfield 39, 3) := dk_180 0 39 (dk_at dksX2_nextChaise_1 16 rfl rfl)
theorem dX2_nextChaise_39 : decode cX2_nextChaise 39 = .ok (.iload_n 2, 1) := dk_28 (dk_at dksX2_nextChaise_1 19 rfl rfl)
theorem dX2_nextChaise_40 : decode cX2_nextChaise 40 = .ok (.invokeinterface 35 2, 5) := by decide +kernel
theorem dX2_nextChaise_45 : decode cX2_nextChaise 45 = .ok (.checkcast 42, 3) := dk_192 0 42 (dk_at dksX2_nextChaise_2 5 rfl rfl)
theorem dX2_nextChaise_48 : decode cX2_nextChaise 48 = .ok (.invokevirtual 173, 3) := dk_182 0 173 (dk_at dksX2_nextChaise_2 8 rfl rfl)
theorem dX2_nextChaise_51 : decode cX2_nextChaise 51 = .ok (.pop, 1) := dk_87 (dk_at dksX2_nextChaise_2 11 rfl rfl)
theorem dX2_nextChaise_52 : decode cX2_nextChaise 52 = .ok (.iinc 2 1, 3) := dk_132 2 1 (dk_at dksX2_nextChaise_2 12 rfl rfl)
theorem dX2_nextChaise_55 : decode cX2_nextChaise 55 = .ok (.goto (-45), 3) := dk_167 255 211 (dk_at dksX2_nextChaise_2 15 rfl rfl)
theorem dX2_nextChaise_58 : decode cX2_nextChaise 58 = .ok (.aload_n 1, 1) := dk_43 (dk_at dksX2_nextChaise_2 18 rfl rfl)
theorem dX2_nextChaise_59 : decode cX2_nextChaise 59 = .ok (.invokevirtual 317, 3) := dk_182 1 61 (dk_at dksX2_nextChaise_2 19 rfl rfl)
theorem dX2_nextChaise_62 : decode cX2_nextChaise 62 = .ok (.checkcast 42, 3) := dk_192 0 42 (dk_at dksX2_nextChaise_3 0 rfl rfl)
theorem dX2_nextChaise_65 : decode cX2_nextChaise 65 = .ok (.areturn, 1) := dk_176 (dk_at dksX2_nextChaise_3 3 rfl rfl)
abbrev cX2_sendToBed : ByteArray := prog_8_method_10_code
def yX2_sendToBed : MethodName := ⟨RX2, "sendToBed", "(I)I"⟩
def dkwX2_sendToBed_2 : List UInt8 := [28, 172]
abbrev dktX2_sendToBed_2 : List UInt8 := dkwX2_sendToBed_2 ++ []
def dkwX2_sendToBed_1 : List UInt8 := [28, 185, 0, 191, 2, 0, 87, 42, 180, 0, 26, 27, 185, 0, 35, 2, 0, 192, 0, 29, 4, 181, 0, 194]
abbrev dktX2_sendToBed_1 : List UInt8 := dkwX2_sendToBed_1 ++ dktX2_sendToBed_2
def dkwX2_sendToBed_0 : List UInt8 := [42, 180, 0, 32, 42, 180, 0, 26, 27, 185, 0, 35, 2, 0, 185, 0, 187, 2, 0, 61, 42, 180, 0, 32]
abbrev dktX2_sendToBed_0 : List UInt8 := dkwX2_sendToBed_0 ++ dktX2_sendToBed_1
theorem dksX2_sendToBed_0 : cX2_sendToBed.data.toList.drop 0 = dktX2_sendToBed_0 := by decide +kernel
theorem dksX2_sendToBed_1 : cX2_sendToBed.data.toList.drop 24 = dktX2_sendToBed_1 := dk_seg dksX2_sendToBed_0 24 rfl rfl
theorem dksX2_sendToBed_2 : cX2_sendToBed.data.toList.drop 48 = dktX2_sendToBed_2 := dk_seg dksX2_sendToBed_1 24 rfl rfl
theorem dX2_sendToBed_0 : decode cX2_sendToBed 0 = .ok (.aload_n 0, 1) := dk_42 (dk_at dksX2_sendToBed_0 0 rfl rfl)
theorem dX2_sendToBed_1 : decode cX2_sendToBed 1 = .ok (.getfield 32, 3) := dk_180 0 32 (dk_at dksX2_sendToBed_0 1 rfl rfl)
theorem dX2_sendToBed_4 : decode cX2_sendToBed 4 = .ok (.aload_n 0, 1) := dk_42 (dk_at dksX2_sendToBed_0 4 rfl rfl)
theorem dX2_sendToBed_5 : decode cX2_sendToBed 5 = .ok (.getfield 26, 3) := dk_180 0 26 (dk_at dksX2_sendToBed_0 5 rfl rfl)
theorem dX2_sendToBed_8 : decode cX2_sendToBed 8 = .ok (.iload_n 1, 1) := dk_27 (dk_at dksX2_sendToBed_0 8 rfl rfl)
theorem dX2_sendToBed_9 : decode cX2_sendToBed 9 = .ok (.invokeinterface 35 2, 5) := by decide +kernel
theorem dX2_sendToBed_14 : decode cX2_sendToBed 14 = .ok (.invokeinterface 187 2, 5) := by decide +kernel
theorem dX2_sendToBed_19 : decode cX2_sendToBed 19 = .ok (.istore_n 2, 1) := dk_61 (dk_at dksX2_sendToBed_0 19 rfl rfl)
theorem dX2_sendToBed_20 : decode cX2_sendToBed 20 = .ok (.aload_n 0, 1) := dk_42 (dk_at dksX2_sendToBed_0 20 rfl rfl)
theorem dX2_sendToBed_21 : decode cX2_sendToBed 21 = .ok (.getfield 32, 3) := dk_180 0 32 (dk_at dksX2_sendToBed_0 21 rfl rfl)
theorem dX2_sendToBed_24 : decode cX2_sendToBed 24 = .ok (.iload_n 2, 1) := dk_28 (dk_at dksX2_sendToBed_1 0 rfl rfl)
theorem dX2_sendToBed_25 : decode cX2_sendToBed 25 = .ok (.invokeinterface 191 2, 5) := by decide +kernel
theorem dX2_sendToBed_30 : decode cX2_sendToBed 30 = .ok (.pop, 1) := dk_87 (dk_at dksX2_sendToBed_1 6 rfl rfl)
theorem dX2_sendToBed_31 : decode cX2_sendToBed 31 = .ok (.aload_n 0, 1) := dk_42 (dk_at dksX2_sendToBed_1 7 rfl rfl)
theorem dX2_sendToBed_32 : decode cX2_sendToBed 32 = .ok (.getfield 26, 3) := dk_180 0 26 (dk_at dksX2_sendToBed_1 8 rfl rfl)
theorem dX2_sendToBed_35 : decode cX2_sendToBed 35 = .ok (.iload_n 1, 1) := dk_27 (dk_at dksX2_sendToBed_1 11 rfl rfl)
theorem dX2_sendToBed_36 : decode cX2_sendToBed 36 = .ok (.invokeinterface 35 2, 5) := by decide +kernel
theorem dX2_sendToBed_41 : decode cX2_sendToBed 41 = .ok (.checkcast 29, 3) := dk_192 0 29 (dk_at dksX2_sendToBed_1 17 rfl rfl)
theorem dX2_sendToBed_44 : decode cX2_sendToBed 44 = .ok (.iconst 1, 1) := dk_4 (dk_at dksX2_sendToBed_1 20 rfl rfl)
theorem dX2_sendToBed_45 : decode cX2_sendToBed 45 = .ok (.putfield 194, 3) := dk_181 0 194 (dk_at dksX2_sendToBed_1 21 rfl rfl)
theorem dX2_sendToBed_48 : decode cX2_sendToBed 48 = .ok (.iload_n 2, 1) := dk_28 (dk_at dksX2_sendToBed_2 0 rfl rfl)
theorem dX2_sendToBed_49 : decode cX2_sendToBed 49 = .ok (.ireturn, 1) := dk_172 (dk_at dksX2_sendToBed_2 1 rfl rfl)
abbrev cX2_callBoy : ByteArray := prog_8_method_11_code
def yX2_callBoy : MethodName := ⟨RX2, "callBoy", "(I)I"⟩
def dkwX2_callBoy_2 : List UInt8 := [185, 0, 118, 1, 0, 172]
abbrev dktX2_callBoy_2 : List UInt8 := dkwX2_callBoy_2 ++ []
def dkwX2_callBoy_1 : List UInt8 := [180, 0, 26, 27, 185, 0, 35, 2, 0, 192, 0, 29, 185, 0, 20, 2, 0, 87, 42, 180, 0, 32]
abbrev dktX2_callBoy_1 : List UInt8 := dkwX2_callBoy_1 ++ dktX2_callBoy_2
def dkwX2_callBoy_0 : List UInt8 := [42, 180, 0, 26, 27, 185, 0, 35, 2, 0, 192, 0, 29, 3, 181, 0, 194, 42, 180, 0, 32, 42]
abbrev dktX2_callBoy_0 : List UInt8 := dkwX2_callBoy_0 ++ dktX2_callBoy_1
theorem dksX2_callBoy_0 : cX2_callBoy.data.toList.drop 0 = dktX2_callBoy_0 := by decide +kernel
theorem dksX2_callBoy_1 : cX2_callBoy.data.toList.drop 22 = dktX2_callBoy_1 := dk_seg dksX2_callBoy_0 22 rfl rfl
theorem dksX2_callBoy_2 : cX2_callBoy.data.toList.drop 44 = dktX2_callBoy_2 := dk_seg dksX2_callBoy_1 22 rfl rfl
theorem dX2_callBoy_0 : decode cX2_callBoy 0 = .ok (.aload_n 0, 1) := dk_42 (dk_at dksX2_callBoy_0 0 rfl rfl)
theorem dX2_callBoy_1 : decode cX2_callBoy 1 = .ok (.getfield 26, 3) := dk_180 0 26 (dk_at dksX2_callBoy_0 1 rfl rfl)
theorem dX2_callBoy_4 : decode cX2_callBoy 4 = .ok (.iload_n 1, 1) := dk_27 (dk_at dksX2_callBoy_0 4 rfl rfl)
theorem dX2_callBoy_5 : decode cX2_callBoy 5 = .ok (.invokeinterface 35 2, 5) := by decide +kernel
theorem dX2_callBoy_10 : decode cX2_callBoy 10 = .ok (.checkcast 29, 3) := dk_192 0 29 (dk_at dksX2_callBoy_0 10 rfl rfl)
theorem dX2_callBoy_13 : decode cX2_callBoy 13 = .ok (.iconst 0, 1) := dk_3 (dk_at dksX2_callBoy_0 13 rfl rfl)
theorem dX2_callBoy_14 : decode cX2_callBoy 14 = .ok (.putfield 194, 3) := dk_181 0 194 (dk_at dksX2_callBoy_0 14 rfl rfl)
theorem dX2_callBoy_17 : decode cX2_callBoy 17 = .ok (.aload_n 0, 1) := dk_42 (dk_at dksX2_callBoy_0 17 rfl rfl)
theorem dX2_callBoy_18 : decode cX2_callBoy 18 = .ok (.getfield 32, 3) := dk_180 0 32 (dk_at dksX2_callBoy_0 18 rfl rfl)
theorem dX2_callBoy_21 : decode cX2_callBoy 21 = .ok (.aload_n 0, 1) := dk_42 (dk_at dksX2_callBoy_0 21 rfl rfl)
theorem dX2_callBoy_22 : decode cX2_callBoy 22 = .ok (.getfield 26, 3) := dk_180 0 26 (dk_at dksX2_callBoy_1 0 rfl rfl)
theorem dX2_callBoy_25 : decode cX2_callBoy 25 = .ok (.iload_n 1, 1) := dk_27 (dk_at dksX2_callBoy_1 3 rfl rfl)
theorem dX2_callBoy_26 : decode cX2_callBoy 26 = .ok (.invokeinterface 35 2, 5) := by decide +kernel
theorem dX2_callBoy_31 : decode cX2_callBoy 31 = .ok (.checkcast 29, 3) := dk_192 0 29 (dk_at dksX2_callBoy_1 9 rfl rfl)
theorem dX2_callBoy_34 : decode cX2_callBoy 34 = .ok (.invokeinterface 20 2, 5) := by decide +kernel
theorem dX2_callBoy_39 : decode cX2_callBoy 39 = .ok (.pop, 1) := dk_87 (dk_at dksX2_callBoy_1 17 rfl rfl)
theorem dX2_callBoy_40 : decode cX2_callBoy 40 = .ok (.aload_n 0, 1) := dk_42 (dk_at dksX2_callBoy_1 18 rfl rfl)
theorem dX2_callBoy_41 : decode cX2_callBoy 41 = .ok (.getfield 32, 3) := dk_180 0 32 (dk_at dksX2_callBoy_1 19 rfl rfl)
theorem dX2_callBoy_44 : decode cX2_callBoy 44 = .ok (.invokeinterface 118 1, 5) := by decide +kernel
theorem dX2_callBoy_49 : decode cX2_callBoy 49 = .ok (.ireturn, 1) := dk_172 (dk_at dksX2_callBoy_2 5 rfl rfl)
abbrev cX2_putOnPole : ByteArray := prog_8_method_12_code
def yX2_putOnPole : MethodName := ⟨RX2, "putOnPole", "(I)I"⟩
def dkwX2_putOnPole_2 : List UInt8 := [3, 181, 0, 109, 29, 172]
abbrev dktX2_putOnPole_2 : List UInt8 := dkwX2_putOnPole_2 ++ []
def dkwX2_putOnPole_1 : List UInt8 := [89, 180, 0, 112, 16, 90, 96, 181, 0, 112, 42, 180, 0, 158, 44, 166, 0, 13, 42, 1, 181, 0, 158, 42]
abbrev dktX2_putOnPole_1 : List UInt8 := dkwX2_putOnPole_1 ++ dktX2_putOnPole_2
def dkwX2_putOnPole_0 : List UInt8 := [42, 180, 0, 39, 27, 185, 0, 35, 2, 0, 192, 0, 42, 77, 44, 180, 0, 198, 62, 44, 182, 0, 201, 42]
abbrev dktX2_putOnPole_0 : List UInt8 := dkwX2_putOnPole_0 ++ dktX2_putOnPole_1
theorem dksX2_putOnPole_0 : cX2_putOnPole.data.toList.drop 0 = dktX2_putOnPole_0 := by decide +kernel
theorem dksX2_putOnPole_1 : cX2_putOnPole.data.toList.drop 24 = dktX2_putOnPole_1 := dk_seg dksX2_putOnPole_0 24 rfl rfl
theorem dksX2_putOnPole_2 : cX2_putOnPole.data.toList.drop 48 = dktX2_putOnPole_2 := dk_seg dksX2_putOnPole_1 24 rfl rfl
theorem dX2_putOnPole_0 : decode cX2_putOnPole 0 = .ok (.aload_n 0, 1) := dk_42 (dk_at dksX2_putOnPole_0 0 rfl rfl)
theorem dX2_putOnPole_1 : decode cX2_putOnPole 1 = .ok (.getfield 39, 3) := dk_180 0 39 (dk_at dksX2_putOnPole_0 1 rfl rfl)
theorem dX2_putOnPole_4 : decode cX2_putOnPole 4 = .ok (.iload_n 1, 1) := dk_27 (dk_at dksX2_putOnPole_0 4 rfl rfl)
theorem dX2_putOnPole_5 : decode cX2_putOnPole 5 = .ok (.invokeinterface 35 2, 5) := by decide +kernel
theorem dX2_putOnPole_10 : decode cX2_putOnPole 10 = .ok (.checkcast 42, 3) := dk_192 0 42 (dk_at dksX2_putOnPole_0 10 rfl rfl)
theorem dX2_putOnPole_13 : decode cX2_putOnPole 13 = .ok (.astore_n 2, 1) := dk_77 (dk_at dksX2_putOnPole_0 13 rfl rfl)
theorem dX2_putOnPole_14 : decode cX2_putOnPole 14 = .ok (.aload_n 2, 1) := dk_44 (dk_at dksX2_putOnPole_0 14 rfl rfl)
theorem dX2_putOnPole_15 : decode cX2_putOnPole 15 = .ok (.getfield 198, 3) := dk_180 0 198 (dk_at dksX2_putOnPole_0 15 rfl rfl)
theorem dX2_putOnPole_18 : decode cX2_putOnPole 18 = .ok (.istore_n 3, 1) := dk_62 (dk_at dksX2_putOnPole_0 18 rfl rfl)
theorem dX2_putOnPole_19 : decode cX2_putOnPole 19 = .ok (.aload_n 2, 1) := dk_44 (dk_at dksX2_putOnPole_0 19 rfl rfl)
theorem dX2_putOnPole_20 : decode cX2_putOnPole 20 = .ok (.invokevirtual 201, 3) := dk_182 0 201 (dk_at dksX2_putOnPole_0 20 rfl rfl)
theorem dX2_putOnPole_23 : decode cX2_putOnPole 23 = .ok (.aload_n 0, 1) := dk_42 (dk_at dksX2_putOnPole_0 23 rfl rfl)
theorem dX2_putOnPole_24 : decode cX2_putOnPole 24 = .ok (.dup, 1) := dk_89 (dk_at dksX2_putOnPole_1 0 rfl rfl)
theorem dX2_putOnPole_25 : decode cX2_putOnPole 25 = .ok (.getfield 112, 3) := dk_180 0 112 (dk_at dksX2_putOnPole_1 1 rfl rfl)
theorem dX2_putOnPole_28 : decode cX2_putOnPole 28 = .ok (.bipush 90, 2) := dk_16 90 (dk_at dksX2_putOnPole_1 4 rfl rfl)
theorem dX2_putOnPole_30 : decode cX2_putOnPole 30 = .ok (.iadd, 1) := dk_96 (dk_at dksX2_putOnPole_1 6 rfl rfl)
theorem dX2_putOnPole_31 : decode cX2_putOnPole 31 = .ok (.putfield 112, 3) := dk_181 0 112 (dk_at dksX2_putOnPole_1 7 rfl rfl)
theorem dX2_putOnPole_34 : decode cX2_putOnPole 34 = .ok (.aload_n 0, 1) := dk_42 (dk_at dksX2_putOnPole_1 10 rfl rfl)
theorem dX2_putOnPole_35 : decode cX2_putOnPole 35 = .ok (.getfield 158, 3) := dk_180 0 158 (dk_at dksX2_putOnPole_1 11 rfl rfl)
theorem dX2_putOnPole_38 : decode cX2_putOnPole 38 = .ok (.aload_n 2, 1) := dk_44 (dk_at dksX2_putOnPole_1 14 rfl rfl)
theorem dX2_putOnPole_39 : decode cX2_putOnPole 39 = .ok (.if_acmp .ne 13, 3) := dk_166 0 13 (dk_at dksX2_putOnPole_1 15 rfl rfl)
theorem dX2_putOnPole_42 : decode cX2_putOnPole 42 = .ok (.aload_n 0, 1) := dk_42 (dk_at dksX2_putOnPole_1 18 rfl rfl)
theorem dX2_putOnPole_43 : decode cX2_putOnPole 43 = .ok (.aconst_null, 1) := dk_1 (dk_at dksX2_putOnPole_1 19 rfl rfl)
theorem dX2_putOnPole_44 : decode cX2_putOnPole 44 = .ok (.putfield 158, 3) := dk_181 0 158 (dk_at dksX2_putOnPole_1 20 rfl rfl)
theorem dX2_putOnPole_47 : decode cX2_putOnPole 47 = .ok (.aload_n 0, 1) := dk_42 (dk_at dksX2_putOnPole_1 23 rfl rfl)
theorem dX2_putOnPole_48 : decode cX2_putOnPole 48 = .ok (.iconst 0, 1) := dk_3 (dk_at dksX2_putOnPole_2 0 rfl rfl)
theorem dX2_putOnPole_49 : decode cX2_putOnPole 49 = .ok (.putfield 109, 3) := dk_181 0 109 (dk_at dksX2_putOnPole_2 1 rfl rfl)
theorem dX2_putOnPole_52 : decode cX2_putOnPole 52 = .ok (.iload_n 3, 1) := dk_29 (dk_at dksX2_putOnPole_2 4 rfl rfl)
theorem dX2_putOnPole_53 : decode cX2_putOnPole 53 = .ok (.ireturn, 1) := dk_172 (dk_at dksX2_putOnPole_2 5 rfl rfl)
abbrev cX2_waitOf : ByteArray := prog_8_method_23_code
def yX2_waitOf : MethodName := ⟨RX2, "waitOf", "(I)I"⟩
def dkwX2_waitOf_1 : List UInt8 := [185, 0, 35, 2, 0, 192, 0, 122, 180, 0, 181, 100, 167, 0, 9, 42, 180, 0, 91, 27, 46, 172]
abbrev dktX2_waitOf_1 : List UInt8 := dkwX2_waitOf_1 ++ []
def dkwX2_waitOf_0 : List UInt8 := [42, 180, 0, 87, 27, 50, 178, 0, 169, 166, 0, 27, 42, 180, 0, 106, 42, 180, 0, 76, 27]
abbrev dktX2_waitOf_0 : List UInt8 := dkwX2_waitOf_0 ++ dktX2_waitOf_1
theorem dksX2_waitOf_0 : cX2_waitOf.data.toList.drop 0 = dktX2_waitOf_0 := by decide +kernel
theorem dksX2_waitOf_1 : cX2_waitOf.data.toList.drop 21 = dktX2_waitOf_1 := dk_seg dksX2_waitOf_0 21 rfl rfl
theorem dX2_waitOf_0 : decode cX2_waitOf 0 = .ok (.aload_n 0, 1) := dk_42 (dk_at dksX2_waitOf_0 0 rfl rfl)
theorem dX2_waitOf_1 : decode cX2_waitOf 1 = .ok (.getfield 87, 3) := dk_180 0 87 (dk_at dksX2_waitOf_0 1 rfl rfl)
theorem dX2_waitOf_4 : decode cX2_waitOf 4 = .ok (.iload_n 1, 1) := dk_27 (dk_at dksX2_waitOf_0 4 rfl rfl)
theorem dX2_waitOf_5 : decode cX2_waitOf 5 = .ok (.aaload, 1) := dk_50 (dk_at dksX2_waitOf_0 5 rfl rfl)
theorem dX2_waitOf_6 : decode cX2_waitOf 6 = .ok (.getstatic 169, 3) := dk_178 0 169 (dk_at dksX2_waitOf_0 6 rfl rfl)
theorem dX2_waitOf_9 : decode cX2_waitOf 9 = .ok (.if_acmp .ne 27, 3) := dk_166 0 27 (dk_at dksX2_waitOf_0 9 rfl rfl)
theorem dX2_waitOf_12 : decode cX2_waitOf 12 = .ok (.aload_n 0, 1) := dk_42 (dk_at dksX2_waitOf_0 12 rfl rfl)
theorem dX2_waitOf_13 : decode cX2_waitOf 13 = .ok (.getfield 106, 3) := dk_180 0 106 (dk_at dksX2_waitOf_0 13 rfl rfl)
theorem dX2_waitOf_16 : decode cX2_waitOf 16 = .ok (.aload_n 0, 1) := dk_42 (dk_at dksX2_waitOf_0 16 rfl rfl)
theorem dX2_waitOf_17 : decode cX2_waitOf 17 = .ok (.getfield 76, 3) := dk_180 0 76 (dk_at dksX2_waitOf_0 17 rfl rfl)
theorem dX2_waitOf_20 : decode cX2_waitOf 20 = .ok (.iload_n 1, 1) := dk_27 (dk_at dksX2_waitOf_0 20 rfl rfl)
theorem dX2_waitOf_21 : decode cX2_waitOf 21 = .ok (.invokeinterface 35 2, 5) := by decide +kernel
theorem dX2_waitOf_26 : decode cX2_waitOf 26 = .ok (.checkcast 122, 3) := dk_192 0 122 (dk_at dksX2_waitOf_1 5 rfl rfl)
theorem dX2_waitOf_29 : decode cX2_waitOf 29 = .ok (.getfield 181, 3) := dk_180 0 181 (dk_at dksX2_waitOf_1 8 rfl rfl)
theorem dX2_waitOf_32 : decode cX2_waitOf 32 = .ok (.isub, 1) := dk_100 (dk_at dksX2_waitOf_1 11 rfl rfl)
theorem dX2_waitOf_33 : decode cX2_waitOf 33 = .ok (.goto 9, 3) := dk_167 0 9 (dk_at dksX2_waitOf_1 12 rfl rfl)
theorem dX2_waitOf_36 : decode cX2_waitOf 36 = .ok (.aload_n 0, 1) := dk_42 (dk_at dksX2_waitOf_1 15 rfl rfl)
theorem dX2_waitOf_37 : decode cX2_waitOf 37 = .ok (.getfield 91, 3) := dk_180 0 91 (dk_at dksX2_waitOf_1 16 rfl rfl)
theorem dX2_waitOf_40 : decode cX2_waitOf 40 = .ok (.iload_n 1, 1) := dk_27 (dk_at dksX2_waitOf_1 19 rfl rfl)
theorem dX2_waitOf_41 : decode cX2_waitOf 41 = .ok (.iaload, 1) := dk_46 (dk_at dksX2_waitOf_1 20 rfl rfl)
theorem dX2_waitOf_42 : decode cX2_waitOf 42 = .ok (.ireturn, 1) := dk_172 (dk_at dksX2_waitOf_1 21 rfl rfl)
theorem q78 : (Jvm.Cond.initialized "PostChaiseYard$State") ∈ lw_all := lw_g (lw_at lw_m1 2 rfl) rfl
theorem q146 : (Jvm.Cond.instantiable "PostChaiseYard$State" (16 : Nat)) ∈ lw_all := lw_g (lw_at lw_m1 70 rfl) rfl
theorem q148 : (Jvm.Cond.instanceMethod ({ cls := "PostChaiseYard$State", name := "<init>", desc := "()V" } : Jvm.MethodName)) ∈ lw_all := lw_g (lw_at lw_m1 72 rfl) rfl
theorem q149 : (Jvm.Cond.code ({ cls := "PostChaiseYard$State", name := "<init>", desc := "()V" } : Jvm.MethodName) prog_8_method_1_code (2 : Nat) (Option.none : Option Jvm.ClassFile.FieldType)) ∈ lw_all := lw_g (lw_at lw_m1 73 rfl) rfl
theorem q150 : (Jvm.Cond.classLink "PostChaiseYard$State" (3 : Nat) "PostChaiseYard$Status") ∈ lw_all := lw_g (lw_at lw_m1 74 rfl) rfl
theorem q152 : (Jvm.Cond.methodLink "PostChaiseYard$State" (5 : Nat) ({ cls := "PostChaiseYard$State", name := "<init>", desc := "([LPostChaiseYard$Status;[I)V" } : Jvm.MethodName)) ∈ lw_all := lw_g (lw_at lw_m1 76 rfl) rfl
theorem q153 : (Jvm.Cond.instanceMethod ({ cls := "PostChaiseYard$State", name := "<init>", desc := "([LPostChaiseYard$Status;[I)V" } : Jvm.MethodName)) ∈ lw_all := lw_g (lw_at lw_m1 77 rfl) rfl
theorem q154 : (Jvm.Cond.code ({ cls := "PostChaiseYard$State", name := "<init>", desc := "([LPostChaiseYard$Status;[I)V" } : Jvm.MethodName) prog_8_method_2_code (3 : Nat) (Option.none : Option Jvm.ClassFile.FieldType)) ∈ lw_all := lw_g (lw_at lw_m1 78 rfl) rfl
theorem q155 : (Jvm.Cond.methodLink "PostChaiseYard$State" (61 : Nat) ({ cls := "java/lang/Object", name := "<init>", desc := "()V" } : Jvm.MethodName)) ∈ lw_all := lw_g (lw_at lw_m1 79 rfl) rfl
theorem q156 : (Jvm.Cond.classLink "PostChaiseYard$State" (73 : Nat) "java/util/ArrayList") ∈ lw_all := lw_g (lw_at lw_m1 80 rfl) rfl
theorem q158 : (Jvm.Cond.methodLink "PostChaiseYard$State" (75 : Nat) ({ cls := "java/util/ArrayList", name := "<init>", desc := "()V" } : Jvm.MethodName)) ∈ lw_all := lw_g (lw_at lw_m1 82 rfl) rfl
theorem q184 : (Jvm.Cond.classLink "PostChaiseYard$State" (79 : Nat) "java/util/PriorityQueue") ∈ lw_all := lw_g (lw_at lw_m1 108 rfl) rfl
theorem q186 : (Jvm.Cond.methodLink "PostChaiseYard$State" (81 : Nat) ({ cls := "java/util/PriorityQueue", name := "<init>", desc := "()V" } : Jvm.MethodName)) ∈ lw_all := lw_g (lw_at lw_m1 110 rfl) rfl
theorem q278 : (Jvm.Cond.classLink "PostChaiseYard$State" (56 : Nat) "java/util/TreeMap") ∈ lw_all := lw_g (lw_at lw_m1 202 rfl) rfl
theorem q280 : (Jvm.Cond.methodLink "PostChaiseYard$State" (86 : Nat) ({ cls := "java/util/TreeMap", name := "<init>", desc := "()V" } : Jvm.MethodName)) ∈ lw_all := lw_g (lw_at lw_m1 204 rfl) rfl
theorem q311 : (Jvm.Cond.fieldLink "PostChaiseYard$State" (106 : Nat) "PostChaiseYard$State" "time" "I") ∈ lw_all := lw_g (lw_at lw_m1 235 rfl) rfl
theorem q313 : (Jvm.Cond.fieldLink "PostChaiseYard$State" (66 : Nat) "PostChaiseYard$State" "pace" "I") ∈ lw_all := lw_g (lw_at lw_m1 237 rfl) rfl
theorem q315 : (Jvm.Cond.fieldLink "PostChaiseYard$State" (70 : Nat) "PostChaiseYard$State" "poleLimit" "I") ∈ lw_all := lw_g (lw_at lw_m1 239 rfl) rfl
theorem q317 : (Jvm.Cond.fieldLink "PostChaiseYard$State" (109 : Nat) "PostChaiseYard$State" "repairLeft" "I") ∈ lw_all := lw_g (lw_at lw_m2 1 rfl) rfl
theorem q319 : (Jvm.Cond.fieldLink "PostChaiseYard$State" (112 : Nat) "PostChaiseYard$State" "spentOnPoles" "I") ∈ lw_all := lw_g (lw_at lw_m2 3 rfl) rfl
theorem q321 : (Jvm.Cond.fieldLink "PostChaiseYard$State" (115 : Nat) "PostChaiseYard$State" "brokenPoles" "I") ∈ lw_all := lw_g (lw_at lw_m2 5 rfl) rfl
theorem q323 : (Jvm.Cond.fieldLink "PostChaiseYard$State" (158 : Nat) "PostChaiseYard$State" "inRepair" "LPostChaiseYard$Chaise;") ∈ lw_all := lw_g (lw_at lw_m2 7 rfl) rfl
theorem q325 : (Jvm.Cond.fieldLink "PostChaiseYard$State" (76 : Nat) "PostChaiseYard$State" "guests" "Ljava/util/List;") ∈ lw_all := lw_g (lw_at lw_m2 9 rfl) rfl
theorem q327 : (Jvm.Cond.fieldLink "PostChaiseYard$State" (87 : Nat) "PostChaiseYard$State" "statuses" "[LPostChaiseYard$Status;") ∈ lw_all := lw_g (lw_at lw_m2 11 rfl) rfl
theorem q329 : (Jvm.Cond.fieldLink "PostChaiseYard$State" (91 : Nat) "PostChaiseYard$State" "waits" "[I") ∈ lw_all := lw_g (lw_at lw_m2 13 rfl) rfl
theorem q331 : (Jvm.Cond.fieldLink "PostChaiseYard$State" (82 : Nat) "PostChaiseYard$State" "line" "Ljava/util/PriorityQueue;") ∈ lw_all := lw_g (lw_at lw_m2 15 rfl) rfl
theorem q333 : (Jvm.Cond.fieldLink "PostChaiseYard$State" (11 : Nat) "PostChaiseYard$State" "pairs" "Ljava/util/List;") ∈ lw_all := lw_g (lw_at lw_m2 17 rfl) rfl
theorem q335 : (Jvm.Cond.fieldLink "PostChaiseYard$State" (26 : Nat) "PostChaiseYard$State" "boys" "Ljava/util/List;") ∈ lw_all := lw_g (lw_at lw_m2 19 rfl) rfl
theorem q338 : (Jvm.Cond.fieldLink "PostChaiseYard$State" (32 : Nat) "PostChaiseYard$State" "row" "Ljava/util/List;") ∈ lw_all := lw_g (lw_at lw_m2 22 rfl) rfl
theorem q341 : (Jvm.Cond.fieldLink "PostChaiseYard$State" (39 : Nat) "PostChaiseYard$State" "chaises" "Ljava/util/List;") ∈ lw_all := lw_g (lw_at lw_m2 25 rfl) rfl
theorem q344 : (Jvm.Cond.fieldLink "PostChaiseYard$State" (45 : Nat) "PostChaiseYard$State" "income" "Ljava/util/TreeMap;") ∈ lw_all := lw_g (lw_at lw_m2 28 rfl) rfl
theorem q346 : (Jvm.Cond.lays "PostChaiseYard$State" "PostChaiseYard$State" "time" "I") ∈ lw_all := lw_g (lw_at lw_m2 30 rfl) rfl
theorem q347 : (Jvm.Cond.soleField "PostChaiseYard$State" "time") ∈ lw_all := lw_g (lw_at lw_m2 31 rfl) rfl
theorem q348 : (Jvm.Cond.lays "PostChaiseYard$State" "PostChaiseYard$State" "pace" "I") ∈ lw_all := lw_g (lw_at lw_m2 32 rfl) rfl
theorem q349 : (Jvm.Cond.soleField "PostChaiseYard$State" "pace") ∈ lw_all := lw_g (lw_at lw_m2 33 rfl) rfl
theorem q350 : (Jvm.Cond.lays "PostChaiseYard$State" "PostChaiseYard$State" "poleLimit" "I") ∈ lw_all := lw_g (lw_at lw_m2 34 rfl) rfl
theorem q351 : (Jvm.Cond.soleField "PostChaiseYard$State" "poleLimit") ∈ lw_all := lw_g (lw_at lw_m2 35 rfl) rfl
theorem q352 : (Jvm.Cond.lays "PostChaiseYard$State" "PostChaiseYard$State" "repairLeft" "I") ∈ lw_all := lw_g (lw_at lw_m2 36 rfl) rfl
theorem q353 : (Jvm.Cond.soleField "PostChaiseYard$State" "repairLeft") ∈ lw_all := lw_g (lw_at lw_m2 37 rfl) rfl
theorem q354 : (Jvm.Cond.lays "PostChaiseYard$State" "PostChaiseYard$State" "spentOnPoles" "I") ∈ lw_all := lw_g (lw_at lw_m2 38 rfl) rfl
theorem q355 : (Jvm.Cond.soleField "PostChaiseYard$State" "spentOnPoles") ∈ lw_all := lw_g (lw_at lw_m2 39 rfl) rfl
theorem q356 : (Jvm.Cond.lays "PostChaiseYard$State" "PostChaiseYard$State" "brokenPoles" "I") ∈ lw_all := lw_g (lw_at lw_m2 40 rfl) rfl
theorem q357 : (Jvm.Cond.soleField "PostChaiseYard$State" "brokenPoles") ∈ lw_all := lw_g (lw_at lw_m2 41 rfl) rfl
theorem q358 : (Jvm.Cond.lays "PostChaiseYard$State" "PostChaiseYard$State" "inRepair" "LPostChaiseYard$Chaise;") ∈ lw_all := lw_g (lw_at lw_m2 42 rfl) rfl
theorem q359 : (Jvm.Cond.soleField "PostChaiseYard$State" "inRepair") ∈ lw_all := lw_g (lw_at lw_m2 43 rfl) rfl
theorem q360 : (Jvm.Cond.laysFinal "PostChaiseYard$State" "PostChaiseYard$State" "guests" "Ljava/util/List;") ∈ lw_all := lw_g (lw_at lw_m2 44 rfl) rfl
theorem q361 : (Jvm.Cond.soleField "PostChaiseYard$State" "guests") ∈ lw_all := lw_g (lw_at lw_m2 45 rfl) rfl
theorem q362 : (Jvm.Cond.laysFinal "PostChaiseYard$State" "PostChaiseYard$State" "statuses" "[LPostChaiseYard$Status;") ∈ lw_all := lw_g (lw_at lw_m2 46 rfl) rfl
theorem q363 : (Jvm.Cond.soleField "PostChaiseYard$State" "statuses") ∈ lw_all := lw_g (lw_at lw_m2 47 rfl) rfl
theorem q364 : (Jvm.Cond.laysFinal "PostChaiseYard$State" "PostChaiseYard$State" "waits" "[I") ∈ lw_all := lw_g (lw_at lw_m2 48 rfl) rfl
theorem q365 : (Jvm.Cond.soleField "PostChaiseYard$State" "waits") ∈ lw_all := lw_g (lw_at lw_m2 49 rfl) rfl
theorem q366 : (Jvm.Cond.laysFinal "PostChaiseYard$State" "PostChaiseYard$State" "line" "Ljava/util/PriorityQueue;") ∈ lw_all := lw_g (lw_at lw_m2 50 rfl) rfl
theorem q367 : (Jvm.Cond.soleField "PostChaiseYard$State" "line") ∈ lw_all := lw_g (lw_at lw_m2 51 rfl) rfl
theorem q368 : (Jvm.Cond.laysFinal "PostChaiseYard$State" "PostChaiseYard$State" "pairs" "Ljava/util/List;") ∈ lw_all := lw_g (lw_at lw_m2 52 rfl) rfl
theorem q369 : (Jvm.Cond.soleField "PostChaiseYard$State" "pairs") ∈ lw_all := lw_g (lw_at lw_m2 53 rfl) rfl
theorem q370 : (Jvm.Cond.laysFinal "PostChaiseYard$State" "PostChaiseYard$State" "boys" "Ljava/util/List;") ∈ lw_all := lw_g (lw_at lw_m2 54 rfl) rfl
theorem q371 : (Jvm.Cond.soleField "PostChaiseYard$State" "boys") ∈ lw_all := lw_g (lw_at lw_m2 55 rfl) rfl
theorem q372 : (Jvm.Cond.laysFinal "PostChaiseYard$State" "PostChaiseYard$State" "row" "Ljava/util/List;") ∈ lw_all := lw_g (lw_at lw_m2 56 rfl) rfl
theorem q373 : (Jvm.Cond.soleField "PostChaiseYard$State" "row") ∈ lw_all := lw_g (lw_at lw_m2 57 rfl) rfl
theorem q374 : (Jvm.Cond.laysFinal "PostChaiseYard$State" "PostChaiseYard$State" "chaises" "Ljava/util/List;") ∈ lw_all := lw_g (lw_at lw_m2 58 rfl) rfl
theorem q375 : (Jvm.Cond.soleField "PostChaiseYard$State" "chaises") ∈ lw_all := lw_g (lw_at lw_m2 59 rfl) rfl
theorem q376 : (Jvm.Cond.laysFinal "PostChaiseYard$State" "PostChaiseYard$State" "income" "Ljava/util/TreeMap;") ∈ lw_all := lw_g (lw_at lw_m2 60 rfl) rfl
theorem q377 : (Jvm.Cond.soleField "PostChaiseYard$State" "income") ∈ lw_all := lw_g (lw_at lw_m2 61 rfl) rfl
theorem q378 : (Jvm.Cond.superclass "PostChaiseYard$State" "java/lang/Object") ∈ lw_all := lw_g (lw_at lw_m2 62 rfl) rfl
theorem q379 : (Jvm.Cond.classLink "PostChaiseYard$State" (15 : Nat) "PostChaiseYard$Pair") ∈ lw_all := lw_g (lw_at lw_m2 63 rfl) rfl
theorem q381 : (Jvm.Cond.methodLink "PostChaiseYard$State" (17 : Nat) ({ cls := "PostChaiseYard$Pair", name := "<init>", desc := "(I)V" } : Jvm.MethodName)) ∈ lw_all := lw_g (lw_at lw_m2 65 rfl) rfl
theorem q387 : (Jvm.Cond.fieldLink "PostChaiseYard$State" (150 : Nat) "PostChaiseYard$Pair" "number" "I") ∈ lw_all := lw_g (lw_at lw_m2 71 rfl) rfl
theorem q396 : (Jvm.Cond.fieldLink "PostChaiseYard$State" (289 : Nat) "PostChaiseYard$Pair" "isOut" "Z") ∈ lw_all := lw_g (lw_at lw_m2 80 rfl) rfl
theorem q406 : (Jvm.Cond.interfaceEntry "PostChaiseYard$State" (20 : Nat)) ∈ lw_tbl := lw_at lw_m2 90 rfl
theorem q407 : (Jvm.Cond.methodLink "PostChaiseYard$State" (20 : Nat) ({ cls := "java/util/List", name := "add", desc := "(Ljava/lang/Object;)Z" } : Jvm.MethodName)) ∈ lw_all := lw_g (lw_at lw_m2 91 rfl) rfl
theorem q451 : (Jvm.Cond.selects "PostChaiseYard$State" ({ cls := "java/lang/Object", name := "getClass", desc := "()Ljava/lang/Class;" } : Jvm.MethodName) ({ cls := "java/lang/Object", name := "getClass", desc := "()Ljava/lang/Class;" } : Jvm.MethodName)) ∈ lw_all := lw_g (lw_at lw_m2 135 rfl) rfl
theorem q488 : (Jvm.Cond.classLink "PostChaiseYard$State" (29 : Nat) "PostChaiseYard$Boy") ∈ lw_all := lw_g (lw_at lw_m2 172 rfl) rfl
theorem q490 : (Jvm.Cond.methodLink "PostChaiseYard$State" (31 : Nat) ({ cls := "PostChaiseYard$Boy", name := "<init>", desc := "(I)V" } : Jvm.MethodName)) ∈ lw_all := lw_g (lw_at lw_m2 174 rfl) rfl
theorem q495 : (Jvm.Cond.fieldLink "PostChaiseYard$State" (134 : Nat) "PostChaiseYard$Boy" "number" "I") ∈ lw_all := lw_g (lw_at lw_m2 179 rfl) rfl
theorem q498 : (Jvm.Cond.fieldLink "PostChaiseYard$State" (292 : Nat) "PostChaiseYard$Boy" "trips" "I") ∈ lw_all := lw_g (lw_at lw_m2 182 rfl) rfl
theorem q502 : (Jvm.Cond.fieldLink "PostChaiseYard$State" (194 : Nat) "PostChaiseYard$Boy" "isInBed" "Z") ∈ lw_all := lw_g (lw_at lw_m2 186 rfl) rfl
theorem q511 : (Jvm.Cond.interfaceEntry "PostChaiseYard$State" (35 : Nat)) ∈ lw_tbl := lw_at lw_m2 195 rfl
theorem q512 : (Jvm.Cond.methodLink "PostChaiseYard$State" (35 : Nat) ({ cls := "java/util/List", name := "get", desc := "(I)Ljava/lang/Object;" } : Jvm.MethodName)) ∈ lw_all := lw_g (lw_at lw_m2 196 rfl) rfl
theorem q530 : (Jvm.Cond.classLink "PostChaiseYard$State" (42 : Nat) "PostChaiseYard$Chaise") ∈ lw_all := lw_g (lw_at lw_m2 214 rfl) rfl
theorem q532 : (Jvm.Cond.methodLink "PostChaiseYard$State" (44 : Nat) ({ cls := "PostChaiseYard$Chaise", name := "<init>", desc := "(I)V" } : Jvm.MethodName)) ∈ lw_all := lw_g (lw_at lw_m2 216 rfl) rfl
theorem q537 : (Jvm.Cond.fieldLink "PostChaiseYard$State" (162 : Nat) "PostChaiseYard$Chaise" "number" "I") ∈ lw_all := lw_g (lw_at lw_m2 221 rfl) rfl
theorem q540 : (Jvm.Cond.fieldLink "PostChaiseYard$State" (198 : Nat) "PostChaiseYard$Chaise" "wear" "I") ∈ lw_all := lw_g (lw_at lw_m2 224 rfl) rfl
theorem q543 : (Jvm.Cond.fieldLink "PostChaiseYard$State" (246 : Nat) "PostChaiseYard$Chaise" "miles" "I") ∈ lw_all := lw_g (lw_at lw_m2 227 rfl) rfl
theorem q546 : (Jvm.Cond.fieldLink "PostChaiseYard$State" (220 : Nat) "PostChaiseYard$Chaise" "isBroken" "Z") ∈ lw_all := lw_g (lw_at lw_m2 230 rfl) rfl
theorem q550 : (Jvm.Cond.fieldLink "PostChaiseYard$State" (140 : Nat) "PostChaiseYard$Chaise" "trip" "LPostChaiseYard$Trip;") ∈ lw_all := lw_g (lw_at lw_m2 234 rfl) rfl
theorem q563 : (Jvm.Cond.methodLink "PostChaiseYard$State" (49 : Nat) ({ cls := "java/lang/Integer", name := "valueOf", desc := "(I)Ljava/lang/Integer;" } : Jvm.MethodName)) ∈ lw_all := lw_g (lw_at lw_m3 7 rfl) rfl
theorem q583 : (Jvm.Cond.methodLink "PostChaiseYard$State" (55 : Nat) ({ cls := "java/util/TreeMap", name := "put", desc := "(Ljava/lang/Object;Ljava/lang/Object;)Ljava/lang/Object;" } : Jvm.MethodName)) ∈ lw_all := lw_g (lw_at lw_m3 27 rfl) rfl
theorem q1049 : (Jvm.Cond.instanceMethod ({ cls := "PostChaiseYard$State", name := "whyNoDeparture", desc := "()I" } : Jvm.MethodName)) ∈ lw_all := lw_g (lw_at lw_m5 13 rfl) rfl
theorem q1050 : (Jvm.Cond.selects "PostChaiseYard$State" ({ cls := "PostChaiseYard$State", name := "whyNoDeparture", desc := "()I" } : Jvm.MethodName) ({ cls := "PostChaiseYard$State", name := "whyNoDeparture", desc := "()I" } : Jvm.MethodName)) ∈ lw_all := lw_g (lw_at lw_m5 14 rfl) rfl
theorem q1051 : (Jvm.Cond.code ({ cls := "PostChaiseYard$State", name := "whyNoDeparture", desc := "()I" } : Jvm.MethodName) prog_8_method_16_code (1 : Nat) (Option.some Jvm.ClassFile.FieldType.int)) ∈ lw_all := lw_g (lw_at lw_m5 15 rfl) rfl
theorem q1052 : (Jvm.Cond.methodLink "PostChaiseYard$State" (253 : Nat) ({ cls := "java/util/PriorityQueue", name := "isEmpty", desc := "()Z" } : Jvm.MethodName)) ∈ lw_all := lw_g (lw_at lw_m5 16 rfl) rfl
theorem q1086 : (Jvm.Cond.methodLink "PostChaiseYard$State" (257 : Nat) ({ cls := "PostChaiseYard$State", name := "isSomeRested", desc := "()Z" } : Jvm.MethodName)) ∈ lw_all := lw_g (lw_at lw_m5 50 rfl) rfl
theorem q1087 : (Jvm.Cond.privateMethod ({ cls := "PostChaiseYard$State", name := "isSomeRested", desc := "()Z" } : Jvm.MethodName)) ∈ lw_tbl := lw_at lw_m5 51 rfl
theorem q1088 : (Jvm.Cond.instanceMethod ({ cls := "PostChaiseYard$State", name := "isSomeRested", desc := "()Z" } : Jvm.MethodName)) ∈ lw_all := lw_g (lw_at lw_m5 52 rfl) rfl
theorem q1089 : (Jvm.Cond.code ({ cls := "PostChaiseYard$State", name := "isSomeRested", desc := "()Z" } : Jvm.MethodName) prog_8_method_17_code (3 : Nat) (Option.some Jvm.ClassFile.FieldType.boolean)) ∈ lw_all := lw_g (lw_at lw_m5 53 rfl) rfl
theorem q1090 : (Jvm.Cond.methodLink "PostChaiseYard$State" (264 : Nat) ({ cls := "PostChaiseYard$Pair", name := "isRested", desc := "()Z" } : Jvm.MethodName)) ∈ lw_all := lw_g (lw_at lw_m5 54 rfl) rfl
theorem q1094 : (Jvm.Cond.interfaceEntry "PostChaiseYard$State" (260 : Nat)) ∈ lw_tbl := lw_at lw_m5 58 rfl
theorem q1095 : (Jvm.Cond.methodLink "PostChaiseYard$State" (260 : Nat) ({ cls := "java/util/List", name := "isEmpty", desc := "()Z" } : Jvm.MethodName)) ∈ lw_all := lw_g (lw_at lw_m5 59 rfl) rfl
theorem q1103 : (Jvm.Cond.methodLink "PostChaiseYard$State" (261 : Nat) ({ cls := "PostChaiseYard$State", name := "isSomeReady", desc := "()Z" } : Jvm.MethodName)) ∈ lw_all := lw_g (lw_at lw_m5 67 rfl) rfl
theorem q1104 : (Jvm.Cond.privateMethod ({ cls := "PostChaiseYard$State", name := "isSomeReady", desc := "()Z" } : Jvm.MethodName)) ∈ lw_tbl := lw_at lw_m5 68 rfl
theorem q1105 : (Jvm.Cond.instanceMethod ({ cls := "PostChaiseYard$State", name := "isSomeReady", desc := "()Z" } : Jvm.MethodName)) ∈ lw_all := lw_g (lw_at lw_m5 69 rfl) rfl
theorem q1106 : (Jvm.Cond.code ({ cls := "PostChaiseYard$State", name := "isSomeReady", desc := "()Z" } : Jvm.MethodName) prog_8_method_18_code (3 : Nat) (Option.some Jvm.ClassFile.FieldType.boolean)) ∈ lw_all := lw_g (lw_at lw_m5 70 rfl) rfl
theorem q1107 : (Jvm.Cond.methodLink "PostChaiseYard$State" (267 : Nat) ({ cls := "PostChaiseYard$Chaise", name := "isReady", desc := "()Z" } : Jvm.MethodName)) ∈ lw_all := lw_g (lw_at lw_m5 71 rfl) rfl
theorem q1116 : (Jvm.Cond.instanceMethod ({ cls := "PostChaiseYard$State", name := "hasDeparted", desc := "(I)Z" } : Jvm.MethodName)) ∈ lw_all := lw_g (lw_at lw_m5 80 rfl) rfl
theorem q1117 : (Jvm.Cond.selects "PostChaiseYard$State" ({ cls := "PostChaiseYard$State", name := "hasDeparted", desc := "(I)Z" } : Jvm.MethodName) ({ cls := "PostChaiseYard$State", name := "hasDeparted", desc := "(I)Z" } : Jvm.MethodName)) ∈ lw_all := lw_g (lw_at lw_m5 81 rfl) rfl
theorem q1118 : (Jvm.Cond.code ({ cls := "PostChaiseYard$State", name := "hasDeparted", desc := "(I)Z" } : Jvm.MethodName) prog_8_method_22_code (2 : Nat) (Option.some Jvm.ClassFile.FieldType.boolean)) ∈ lw_all := lw_g (lw_at lw_m5 82 rfl) rfl
theorem q1119 : (Jvm.Cond.fieldLink "PostChaiseYard$State" (295 : Nat) "PostChaiseYard$Status" "UNDER_WAY" "LPostChaiseYard$Status;") ∈ lw_all := lw_g (lw_at lw_m5 83 rfl) rfl
theorem q1121 : (Jvm.Cond.fieldLink "PostChaiseYard$State" (236 : Nat) "PostChaiseYard$Status" "ARRIVED" "LPostChaiseYard$Status;") ∈ lw_all := lw_g (lw_at lw_m5 85 rfl) rfl
theorem q1627 : (Jvm.Cond.instanceMethod ({ cls := "PostChaiseYard$State", name := "copy", desc := "()LPostChaiseYard$State;" } : Jvm.MethodName)) ∈ lw_all := lw_g (lw_at lw_m7 111 rfl) rfl
theorem q1628 : (Jvm.Cond.selects "PostChaiseYard$State" ({ cls := "PostChaiseYard$State", name := "copy", desc := "()LPostChaiseYard$State;" } : Jvm.MethodName) ({ cls := "PostChaiseYard$State", name := "copy", desc := "()LPostChaiseYard$State;" } : Jvm.MethodName)) ∈ lw_all := lw_g (lw_at lw_m7 112 rfl) rfl
theorem q1629 : (Jvm.Cond.code ({ cls := "PostChaiseYard$State", name := "copy", desc := "()LPostChaiseYard$State;" } : Jvm.MethodName) prog_8_method_3_code (5 : Nat) (Option.some (Jvm.ClassFile.FieldType.object "PostChaiseYard$State"))) ∈ lw_all := lw_g (lw_at lw_m7 113 rfl) rfl
theorem q1630 : (Jvm.Cond.classLink "PostChaiseYard$State" (6 : Nat) "PostChaiseYard$State") ∈ lw_all := lw_g (lw_at lw_m7 114 rfl) rfl
theorem q1631 : (Jvm.Cond.methodLink "PostChaiseYard$State" (95 : Nat) ({ cls := "[I", name := "clone", desc := "()Ljava/lang/Object;" } : Jvm.MethodName)) ∈ lw_all := lw_g (lw_at lw_m7 115 rfl) rfl
theorem q1635 : (Jvm.Cond.classLink "PostChaiseYard$State" (96 : Nat) "[I") ∈ lw_all := lw_g (lw_at lw_m7 119 rfl) rfl
theorem q1636 : (Jvm.Cond.methodLink "PostChaiseYard$State" (100 : Nat) ({ cls := "java/lang/System", name := "arraycopy", desc := "(Ljava/lang/Object;ILjava/lang/Object;II)V" } : Jvm.MethodName)) ∈ lw_all := lw_g (lw_at lw_m7 120 rfl) rfl
theorem q1637 : (Jvm.Cond.interfaceEntry "PostChaiseYard$State" (118 : Nat)) ∈ lw_tbl := lw_at lw_m7 121 rfl
theorem q1638 : (Jvm.Cond.methodLink "PostChaiseYard$State" (118 : Nat) ({ cls := "java/util/List", name := "size", desc := "()I" } : Jvm.MethodName)) ∈ lw_all := lw_g (lw_at lw_m7 122 rfl) rfl
theorem q1639 : (Jvm.Cond.classLink "PostChaiseYard$State" (122 : Nat) "PostChaiseYard$Guest") ∈ lw_all := lw_g (lw_at lw_m7 123 rfl) rfl
theorem q1640 : (Jvm.Cond.methodLink "PostChaiseYard$State" (124 : Nat) ({ cls := "PostChaiseYard$State", name := "formLine", desc := "()V" } : Jvm.MethodName)) ∈ lw_all := lw_g (lw_at lw_m7 124 rfl) rfl
theorem q1641 : (Jvm.Cond.instanceMethod ({ cls := "PostChaiseYard$State", name := "formLine", desc := "()V" } : Jvm.MethodName)) ∈ lw_all := lw_g (lw_at lw_m7 125 rfl) rfl
theorem q1642 : (Jvm.Cond.selects "PostChaiseYard$State" ({ cls := "PostChaiseYard$State", name := "formLine", desc := "()V" } : Jvm.MethodName) ({ cls := "PostChaiseYard$State", name := "formLine", desc := "()V" } : Jvm.MethodName)) ∈ lw_all := lw_g (lw_at lw_m7 126 rfl) rfl
theorem q1643 : (Jvm.Cond.code ({ cls := "PostChaiseYard$State", name := "formLine", desc := "()V" } : Jvm.MethodName) prog_8_method_4_code (2 : Nat) (Option.none : Option Jvm.ClassFile.FieldType)) ∈ lw_all := lw_g (lw_at lw_m7 127 rfl) rfl
theorem q1644 : (Jvm.Cond.methodLink "PostChaiseYard$State" (166 : Nat) ({ cls := "java/util/PriorityQueue", name := "clear", desc := "()V" } : Jvm.MethodName)) ∈ lw_all := lw_g (lw_at lw_m7 128 rfl) rfl
theorem q1648 : (Jvm.Cond.fieldLink "PostChaiseYard$State" (169 : Nat) "PostChaiseYard$Status" "WAITS" "LPostChaiseYard$Status;") ∈ lw_all := lw_g (lw_at lw_m7 132 rfl) rfl
theorem q1650 : (Jvm.Cond.methodLink "PostChaiseYard$State" (173 : Nat) ({ cls := "java/util/PriorityQueue", name := "add", desc := "(Ljava/lang/Object;)Z" } : Jvm.MethodName)) ∈ lw_all := lw_g (lw_at lw_m7 134 rfl) rfl
theorem q1679 : (Jvm.Cond.methodLink "PostChaiseYard$State" (127 : Nat) ({ cls := "PostChaiseYard$Pair", name := "copy", desc := "()LPostChaiseYard$Pair;" } : Jvm.MethodName)) ∈ lw_all := lw_g (lw_at lw_m7 163 rfl) rfl
theorem q1685 : (Jvm.Cond.methodLink "PostChaiseYard$State" (131 : Nat) ({ cls := "PostChaiseYard$Boy", name := "copy", desc := "()LPostChaiseYard$Boy;" } : Jvm.MethodName)) ∈ lw_all := lw_g (lw_at lw_m7 169 rfl) rfl
theorem q1691 : (Jvm.Cond.methodLink "PostChaiseYard$State" (137 : Nat) ({ cls := "PostChaiseYard$Chaise", name := "copy", desc := "()LPostChaiseYard$Chaise;" } : Jvm.MethodName)) ∈ lw_all := lw_g (lw_at lw_m7 175 rfl) rfl
theorem q1696 : (Jvm.Cond.methodLink "PostChaiseYard$State" (155 : Nat) ({ cls := "PostChaiseYard$Trip", name := "copy", desc := "(LPostChaiseYard$Pair;LPostChaiseYard$Boy;)LPostChaiseYard$Trip;" } : Jvm.MethodName)) ∈ lw_all := lw_g (lw_at lw_m7 180 rfl) rfl
theorem q1707 : (Jvm.Cond.fieldLink "PostChaiseYard$State" (232 : Nat) "PostChaiseYard$Trip" "guest" "LPostChaiseYard$Guest;") ∈ lw_all := lw_g (lw_at lw_m7 191 rfl) rfl
theorem q1710 : (Jvm.Cond.fieldLink "PostChaiseYard$State" (144 : Nat) "PostChaiseYard$Trip" "pair" "LPostChaiseYard$Pair;") ∈ lw_all := lw_g (lw_at lw_m7 194 rfl) rfl
theorem q1712 : (Jvm.Cond.fieldLink "PostChaiseYard$State" (151 : Nat) "PostChaiseYard$Trip" "boy" "LPostChaiseYard$Boy;") ∈ lw_all := lw_g (lw_at lw_m7 196 rfl) rfl
theorem q1714 : (Jvm.Cond.fieldLink "PostChaiseYard$State" (229 : Nat) "PostChaiseYard$Trip" "wayOut" "I") ∈ lw_all := lw_g (lw_at lw_m7 198 rfl) rfl
theorem q1716 : (Jvm.Cond.fieldLink "PostChaiseYard$State" (226 : Nat) "PostChaiseYard$Trip" "bothWays" "I") ∈ lw_all := lw_g (lw_at lw_m7 200 rfl) rfl
theorem q1718 : (Jvm.Cond.fieldLink "PostChaiseYard$State" (223 : Nat) "PostChaiseYard$Trip" "left" "I") ∈ lw_all := lw_g (lw_at lw_m7 202 rfl) rfl
theorem q1733 : (Jvm.Cond.methodLink "PostChaiseYard$State" (163 : Nat) ({ cls := "java/util/TreeMap", name := "get", desc := "(Ljava/lang/Object;)Ljava/lang/Object;" } : Jvm.MethodName)) ∈ lw_all := lw_g (lw_at lw_m7 217 rfl) rfl
theorem q1734 : (Jvm.Cond.classLink "PostChaiseYard$State" (50 : Nat) "java/lang/Integer") ∈ lw_all := lw_g (lw_at lw_m7 218 rfl) rfl
theorem q1771 : (Jvm.Cond.instanceMethod ({ cls := "PostChaiseYard$State", name := "canArrive", desc := "()Z" } : Jvm.MethodName)) ∈ lw_all := lw_g (lw_at lw_m8 15 rfl) rfl
theorem q1772 : (Jvm.Cond.selects "PostChaiseYard$State" ({ cls := "PostChaiseYard$State", name := "canArrive", desc := "()Z" } : Jvm.MethodName) ({ cls := "PostChaiseYard$State", name := "canArrive", desc := "()Z" } : Jvm.MethodName)) ∈ lw_all := lw_g (lw_at lw_m8 16 rfl) rfl
theorem q1773 : (Jvm.Cond.code ({ cls := "PostChaiseYard$State", name := "canArrive", desc := "()Z" } : Jvm.MethodName) prog_8_method_5_code (1 : Nat) (Option.some Jvm.ClassFile.FieldType.boolean)) ∈ lw_all := lw_g (lw_at lw_m8 17 rfl) rfl
theorem q1848 : (Jvm.Cond.instanceMethod ({ cls := "PostChaiseYard$State", name := "arrive", desc := "(II)I" } : Jvm.MethodName)) ∈ lw_all := lw_g (lw_at lw_m8 92 rfl) rfl
theorem q1849 : (Jvm.Cond.selects "PostChaiseYard$State" ({ cls := "PostChaiseYard$State", name := "arrive", desc := "(II)I" } : Jvm.MethodName) ({ cls := "PostChaiseYard$State", name := "arrive", desc := "(II)I" } : Jvm.MethodName)) ∈ lw_all := lw_g (lw_at lw_m8 93 rfl) rfl
theorem q1850 : (Jvm.Cond.code ({ cls := "PostChaiseYard$State", name := "arrive", desc := "(II)I" } : Jvm.MethodName) prog_8_method_6_code (4 : Nat) (Option.some Jvm.ClassFile.FieldType.int)) ∈ lw_all := lw_g (lw_at lw_m8 94 rfl) rfl
theorem q1852 : (Jvm.Cond.methodLink "PostChaiseYard$State" (174 : Nat) ({ cls := "PostChaiseYard$Guest", name := "<init>", desc := "(IIII)V" } : Jvm.MethodName)) ∈ lw_all := lw_g (lw_at lw_m8 96 rfl) rfl
theorem q1857 : (Jvm.Cond.fieldLink "PostChaiseYard$State" (177 : Nat) "PostChaiseYard$Guest" "number" "I") ∈ lw_all := lw_g (lw_at lw_m8 101 rfl) rfl
theorem q1860 : (Jvm.Cond.fieldLink "PostChaiseYard$State" (276 : Nat) "PostChaiseYard$Guest" "rank" "I") ∈ lw_all := lw_g (lw_at lw_m8 104 rfl) rfl
theorem q1863 : (Jvm.Cond.fieldLink "PostChaiseYard$State" (239 : Nat) "PostChaiseYard$Guest" "road" "I") ∈ lw_all := lw_g (lw_at lw_m8 107 rfl) rfl
theorem q1866 : (Jvm.Cond.fieldLink "PostChaiseYard$State" (181 : Nat) "PostChaiseYard$Guest" "came" "I") ∈ lw_all := lw_g (lw_at lw_m8 110 rfl) rfl
theorem q1893 : (Jvm.Cond.instanceMethod ({ cls := "PostChaiseYard$State", name := "giveUp", desc := "(I)I" } : Jvm.MethodName)) ∈ lw_all := lw_g (lw_at lw_m8 137 rfl) rfl
theorem q1894 : (Jvm.Cond.selects "PostChaiseYard$State" ({ cls := "PostChaiseYard$State", name := "giveUp", desc := "(I)I" } : Jvm.MethodName) ({ cls := "PostChaiseYard$State", name := "giveUp", desc := "(I)I" } : Jvm.MethodName)) ∈ lw_all := lw_g (lw_at lw_m8 138 rfl) rfl
theorem q1895 : (Jvm.Cond.code ({ cls := "PostChaiseYard$State", name := "giveUp", desc := "(I)I" } : Jvm.MethodName) prog_8_method_7_code (2 : Nat) (Option.some Jvm.ClassFile.FieldType.int)) ∈ lw_all := lw_g (lw_at lw_m8 139 rfl) rfl
theorem q1896 : (Jvm.Cond.fieldLink "PostChaiseYard$State" (178 : Nat) "PostChaiseYard$Status" "GAVE_UP" "LPostChaiseYard$Status;") ∈ lw_all := lw_g (lw_at lw_m8 140 rfl) rfl
theorem q1906 : (Jvm.Cond.instanceMethod ({ cls := "PostChaiseYard$State", name := "canPass", desc := "(I)Z" } : Jvm.MethodName)) ∈ lw_all := lw_g (lw_at lw_m8 150 rfl) rfl
theorem q1907 : (Jvm.Cond.selects "PostChaiseYard$State" ({ cls := "PostChaiseYard$State", name := "canPass", desc := "(I)Z" } : Jvm.MethodName) ({ cls := "PostChaiseYard$State", name := "canPass", desc := "(I)Z" } : Jvm.MethodName)) ∈ lw_all := lw_g (lw_at lw_m8 151 rfl) rfl
theorem q1908 : (Jvm.Cond.code ({ cls := "PostChaiseYard$State", name := "canPass", desc := "(I)Z" } : Jvm.MethodName) prog_8_method_8_code (2 : Nat) (Option.some Jvm.ClassFile.FieldType.boolean)) ∈ lw_all := lw_g (lw_at lw_m8 152 rfl) rfl
theorem q1910 : (Jvm.Cond.instanceMethod ({ cls := "PostChaiseYard$State", name := "pass", desc := "(I)I" } : Jvm.MethodName)) ∈ lw_all := lw_g (lw_at lw_m8 154 rfl) rfl
theorem q1911 : (Jvm.Cond.selects "PostChaiseYard$State" ({ cls := "PostChaiseYard$State", name := "pass", desc := "(I)I" } : Jvm.MethodName) ({ cls := "PostChaiseYard$State", name := "pass", desc := "(I)I" } : Jvm.MethodName)) ∈ lw_all := lw_g (lw_at lw_m8 155 rfl) rfl
theorem q1912 : (Jvm.Cond.code ({ cls := "PostChaiseYard$State", name := "pass", desc := "(I)I" } : Jvm.MethodName) prog_8_method_9_code (4 : Nat) (Option.some Jvm.ClassFile.FieldType.int)) ∈ lw_all := lw_g (lw_at lw_m8 156 rfl) rfl
theorem q1913 : (Jvm.Cond.methodLink "PostChaiseYard$State" (184 : Nat) ({ cls := "PostChaiseYard$State", name := "quarter", desc := "()I" } : Jvm.MethodName)) ∈ lw_all := lw_g (lw_at lw_m8 157 rfl) rfl
theorem q1914 : (Jvm.Cond.instanceMethod ({ cls := "PostChaiseYard$State", name := "quarter", desc := "()I" } : Jvm.MethodName)) ∈ lw_all := lw_g (lw_at lw_m8 158 rfl) rfl
theorem q1915 : (Jvm.Cond.selects "PostChaiseYard$State" ({ cls := "PostChaiseYard$State", name := "quarter", desc := "()I" } : Jvm.MethodName) ({ cls := "PostChaiseYard$State", name := "quarter", desc := "()I" } : Jvm.MethodName)) ∈ lw_all := lw_g (lw_at lw_m8 159 rfl) rfl
theorem q1916 : (Jvm.Cond.code ({ cls := "PostChaiseYard$State", name := "quarter", desc := "()I" } : Jvm.MethodName) prog_8_method_13_code (2 : Nat) (Option.some Jvm.ClassFile.FieldType.int)) ∈ lw_all := lw_g (lw_at lw_m8 160 rfl) rfl
theorem q1917 : (Jvm.Cond.methodLink "PostChaiseYard$State" (204 : Nat) ({ cls := "PostChaiseYard$Pair", name := "rests", desc := "()V" } : Jvm.MethodName)) ∈ lw_all := lw_g (lw_at lw_m8 161 rfl) rfl
theorem q1921 : (Jvm.Cond.methodLink "PostChaiseYard$State" (207 : Nat) ({ cls := "PostChaiseYard$State", name := "repair", desc := "()V" } : Jvm.MethodName)) ∈ lw_all := lw_g (lw_at lw_m8 165 rfl) rfl
theorem q1922 : (Jvm.Cond.privateMethod ({ cls := "PostChaiseYard$State", name := "repair", desc := "()V" } : Jvm.MethodName)) ∈ lw_tbl := lw_at lw_m8 166 rfl
theorem q1923 : (Jvm.Cond.instanceMethod ({ cls := "PostChaiseYard$State", name := "repair", desc := "()V" } : Jvm.MethodName)) ∈ lw_all := lw_g (lw_at lw_m8 167 rfl) rfl
theorem q1924 : (Jvm.Cond.code ({ cls := "PostChaiseYard$State", name := "repair", desc := "()V" } : Jvm.MethodName) prog_8_method_14_code (2 : Nat) (Option.none : Option Jvm.ClassFile.FieldType)) ∈ lw_all := lw_g (lw_at lw_m8 168 rfl) rfl
theorem q1925 : (Jvm.Cond.methodLink "PostChaiseYard$State" (201 : Nat) ({ cls := "PostChaiseYard$Chaise", name := "getNewPole", desc := "()V" } : Jvm.MethodName)) ∈ lw_all := lw_g (lw_at lw_m8 169 rfl) rfl
theorem q1929 : (Jvm.Cond.methodLink "PostChaiseYard$State" (210 : Nat) ({ cls := "PostChaiseYard$State", name := "ride", desc := "(LPostChaiseYard$Chaise;)V" } : Jvm.MethodName)) ∈ lw_all := lw_g (lw_at lw_m8 173 rfl) rfl
theorem q1930 : (Jvm.Cond.privateMethod ({ cls := "PostChaiseYard$State", name := "ride", desc := "(LPostChaiseYard$Chaise;)V" } : Jvm.MethodName)) ∈ lw_tbl := lw_at lw_m8 174 rfl
theorem q1931 : (Jvm.Cond.instanceMethod ({ cls := "PostChaiseYard$State", name := "ride", desc := "(LPostChaiseYard$Chaise;)V" } : Jvm.MethodName)) ∈ lw_all := lw_g (lw_at lw_m8 175 rfl) rfl
theorem q1932 : (Jvm.Cond.code ({ cls := "PostChaiseYard$State", name := "ride", desc := "(LPostChaiseYard$Chaise;)V" } : Jvm.MethodName) prog_8_method_15_code (4 : Nat) (Option.none : Option Jvm.ClassFile.FieldType)) ∈ lw_all := lw_g (lw_at lw_m8 176 rfl) rfl
theorem q1933 : (Jvm.Cond.methodLinkNest "PostChaiseYard$State" (242 : Nat) ({ cls := "PostChaiseYard", name := "milesOf", desc := "(I)I" } : Jvm.MethodName) "PostChaiseYard") ∈ lw_tbl := lw_at lw_m8 177 rfl
theorem q1934 : (Jvm.Cond.methodLink "PostChaiseYard$State" (249 : Nat) ({ cls := "PostChaiseYard$Pair", name := "comesBack", desc := "(II)V" } : Jvm.MethodName)) ∈ lw_all := lw_g (lw_at lw_m8 178 rfl) rfl
theorem q1938 : (Jvm.Cond.methodLink "PostChaiseYard$State" (214 : Nat) ({ cls := "PostChaiseYard$State", name := "whyNoDeparture", desc := "()I" } : Jvm.MethodName)) ∈ lw_all := lw_g (lw_at lw_m8 182 rfl) rfl
theorem q1939 : (Jvm.Cond.methodLink "PostChaiseYard$State" (217 : Nat) ({ cls := "PostChaiseYard$State", name := "depart", desc := "()V" } : Jvm.MethodName)) ∈ lw_all := lw_g (lw_at lw_m8 183 rfl) rfl
theorem q1940 : (Jvm.Cond.privateMethod ({ cls := "PostChaiseYard$State", name := "depart", desc := "()V" } : Jvm.MethodName)) ∈ lw_tbl := lw_at lw_m8 184 rfl
theorem q1941 : (Jvm.Cond.instanceMethod ({ cls := "PostChaiseYard$State", name := "depart", desc := "()V" } : Jvm.MethodName)) ∈ lw_all := lw_g (lw_at lw_m8 185 rfl) rfl
theorem q1942 : (Jvm.Cond.code ({ cls := "PostChaiseYard$State", name := "depart", desc := "()V" } : Jvm.MethodName) prog_8_method_19_code (6 : Nat) (Option.none : Option Jvm.ClassFile.FieldType)) ∈ lw_all := lw_g (lw_at lw_m8 186 rfl) rfl
theorem q1943 : (Jvm.Cond.methodLink "PostChaiseYard$State" (270 : Nat) ({ cls := "java/util/PriorityQueue", name := "poll", desc := "()Ljava/lang/Object;" } : Jvm.MethodName)) ∈ lw_all := lw_g (lw_at lw_m8 187 rfl) rfl
theorem q1953 : (Jvm.Cond.methodLink "PostChaiseYard$State" (273 : Nat) ({ cls := "PostChaiseYard$State", name := "nextPair", desc := "()LPostChaiseYard$Pair;" } : Jvm.MethodName)) ∈ lw_all := lw_g (lw_at lw_m8 197 rfl) rfl
theorem q1954 : (Jvm.Cond.instanceMethod ({ cls := "PostChaiseYard$State", name := "nextPair", desc := "()LPostChaiseYard$Pair;" } : Jvm.MethodName)) ∈ lw_all := lw_g (lw_at lw_m8 198 rfl) rfl
theorem q1955 : (Jvm.Cond.selects "PostChaiseYard$State" ({ cls := "PostChaiseYard$State", name := "nextPair", desc := "()LPostChaiseYard$Pair;" } : Jvm.MethodName) ({ cls := "PostChaiseYard$State", name := "nextPair", desc := "()LPostChaiseYard$Pair;" } : Jvm.MethodName)) ∈ lw_all := lw_g (lw_at lw_m8 199 rfl) rfl
theorem q1956 : (Jvm.Cond.code ({ cls := "PostChaiseYard$State", name := "nextPair", desc := "()LPostChaiseYard$Pair;" } : Jvm.MethodName) prog_8_method_20_code (3 : Nat) (Option.some (Jvm.ClassFile.FieldType.object "PostChaiseYard$Pair"))) ∈ lw_all := lw_g (lw_at lw_m8 200 rfl) rfl
theorem q1957 : (Jvm.Cond.classLink "PostChaiseYard$State" (304 : Nat) "java/util/TreeSet") ∈ lw_all := lw_g (lw_at lw_m8 201 rfl) rfl
theorem q1959 : (Jvm.Cond.classLink "PostChaiseYard$State" (306 : Nat) "PostChaiseYard$ByMiles") ∈ lw_all := lw_g (lw_at lw_m8 203 rfl) rfl
theorem q1961 : (Jvm.Cond.methodLinkNest "PostChaiseYard$State" (308 : Nat) ({ cls := "PostChaiseYard$ByMiles", name := "<init>", desc := "()V" } : Jvm.MethodName) "PostChaiseYard") ∈ lw_tbl := lw_at lw_m8 205 rfl
theorem q1966 : (Jvm.Cond.methodLink "PostChaiseYard$State" (309 : Nat) ({ cls := "java/util/TreeSet", name := "<init>", desc := "(Ljava/util/Comparator;)V" } : Jvm.MethodName)) ∈ lw_all := lw_g (lw_at lw_m8 210 rfl) rfl
theorem q1984 : (Jvm.Cond.methodLink "PostChaiseYard$State" (312 : Nat) ({ cls := "java/util/TreeSet", name := "add", desc := "(Ljava/lang/Object;)Z" } : Jvm.MethodName)) ∈ lw_all := lw_g (lw_at lw_m8 228 rfl) rfl
theorem q1996 : (Jvm.Cond.methodLink "PostChaiseYard$State" (313 : Nat) ({ cls := "java/util/TreeSet", name := "isEmpty", desc := "()Z" } : Jvm.MethodName)) ∈ lw_all := lw_g (lw_at lw_m9 0 rfl) rfl
theorem q2013 : (Jvm.Cond.methodLink "PostChaiseYard$State" (314 : Nat) ({ cls := "java/util/TreeSet", name := "first", desc := "()Ljava/lang/Object;" } : Jvm.MethodName)) ∈ lw_all := lw_g (lw_at lw_m9 17 rfl) rfl
theorem q2034 : (Jvm.Cond.interfaceEntry "PostChaiseYard$State" (191 : Nat)) ∈ lw_tbl := lw_at lw_m9 38 rfl
theorem q2035 : (Jvm.Cond.methodLink "PostChaiseYard$State" (191 : Nat) ({ cls := "java/util/List", name := "remove", desc := "(I)Ljava/lang/Object;" } : Jvm.MethodName)) ∈ lw_all := lw_g (lw_at lw_m9 39 rfl) rfl
theorem q2048 : (Jvm.Cond.methodLinkNest "PostChaiseYard$State" (279 : Nat) ({ cls := "PostChaiseYard", name := "quartersFor", desc := "(II)I" } : Jvm.MethodName) "PostChaiseYard") ∈ lw_tbl := lw_at lw_m9 52 rfl
theorem q2051 : (Jvm.Cond.methodLink "PostChaiseYard$State" (283 : Nat) ({ cls := "PostChaiseYard$State", name := "nextChaise", desc := "()LPostChaiseYard$Chaise;" } : Jvm.MethodName)) ∈ lw_all := lw_g (lw_at lw_m9 55 rfl) rfl
theorem q2052 : (Jvm.Cond.instanceMethod ({ cls := "PostChaiseYard$State", name := "nextChaise", desc := "()LPostChaiseYard$Chaise;" } : Jvm.MethodName)) ∈ lw_all := lw_g (lw_at lw_m9 56 rfl) rfl
theorem q2053 : (Jvm.Cond.selects "PostChaiseYard$State" ({ cls := "PostChaiseYard$State", name := "nextChaise", desc := "()LPostChaiseYard$Chaise;" } : Jvm.MethodName) ({ cls := "PostChaiseYard$State", name := "nextChaise", desc := "()LPostChaiseYard$Chaise;" } : Jvm.MethodName)) ∈ lw_all := lw_g (lw_at lw_m9 57 rfl) rfl
theorem q2054 : (Jvm.Cond.code ({ cls := "PostChaiseYard$State", name := "nextChaise", desc := "()LPostChaiseYard$Chaise;" } : Jvm.MethodName) prog_8_method_21_code (3 : Nat) (Option.some (Jvm.ClassFile.FieldType.object "PostChaiseYard$Chaise"))) ∈ lw_all := lw_g (lw_at lw_m9 58 rfl) rfl
theorem q2055 : (Jvm.Cond.methodLink "PostChaiseYard$State" (317 : Nat) ({ cls := "java/util/PriorityQueue", name := "peek", desc := "()Ljava/lang/Object;" } : Jvm.MethodName)) ∈ lw_all := lw_g (lw_at lw_m9 59 rfl) rfl
theorem q2059 : (Jvm.Cond.classLink "PostChaiseYard$State" (145 : Nat) "PostChaiseYard$Trip") ∈ lw_all := lw_g (lw_at lw_m9 63 rfl) rfl
theorem q2060 : (Jvm.Cond.methodLink "PostChaiseYard$State" (286 : Nat) ({ cls := "PostChaiseYard$Trip", name := "<init>", desc := "(LPostChaiseYard$Guest;LPostChaiseYard$Pair;LPostChaiseYard$Boy;II)V" } : Jvm.MethodName)) ∈ lw_all := lw_g (lw_at lw_m9 64 rfl) rfl
theorem q2061 : (Jvm.Cond.methodLink "PostChaiseYard$State" (298 : Nat) ({ cls := "java/lang/Integer", name := "intValue", desc := "()I" } : Jvm.MethodName)) ∈ lw_all := lw_g (lw_at lw_m9 65 rfl) rfl
theorem q2062 : (Jvm.Cond.methodLink "PostChaiseYard$State" (301 : Nat) ({ cls := "PostChaiseYard$Guest", name := "fare", desc := "()I" } : Jvm.MethodName)) ∈ lw_all := lw_g (lw_at lw_m9 66 rfl) rfl
theorem q2110 : (Jvm.Cond.selects "PostChaiseYard$State" ({ cls := "java/lang/Object", name := "equals", desc := "(Ljava/lang/Object;)Z" } : Jvm.MethodName) ({ cls := "java/lang/Object", name := "equals", desc := "(Ljava/lang/Object;)Z" } : Jvm.MethodName)) ∈ lw_all := lw_g (lw_at lw_m9 114 rfl) rfl
theorem q2132 : (Jvm.Cond.instanceMethod ({ cls := "PostChaiseYard$State", name := "sendToBed", desc := "(I)I" } : Jvm.MethodName)) ∈ lw_all := lw_g (lw_at lw_m9 136 rfl) rfl
theorem q2133 : (Jvm.Cond.selects "PostChaiseYard$State" ({ cls := "PostChaiseYard$State", name := "sendToBed", desc := "(I)I" } : Jvm.MethodName) ({ cls := "PostChaiseYard$State", name := "sendToBed", desc := "(I)I" } : Jvm.MethodName)) ∈ lw_all := lw_g (lw_at lw_m9 137 rfl) rfl
theorem q2134 : (Jvm.Cond.code ({ cls := "PostChaiseYard$State", name := "sendToBed", desc := "(I)I" } : Jvm.MethodName) prog_8_method_10_code (3 : Nat) (Option.some Jvm.ClassFile.FieldType.int)) ∈ lw_all := lw_g (lw_at lw_m9 138 rfl) rfl
theorem q2135 : (Jvm.Cond.interfaceEntry "PostChaiseYard$State" (187 : Nat)) ∈ lw_tbl := lw_at lw_m9 139 rfl
theorem q2136 : (Jvm.Cond.methodLink "PostChaiseYard$State" (187 : Nat) ({ cls := "java/util/List", name := "indexOf", desc := "(Ljava/lang/Object;)I" } : Jvm.MethodName)) ∈ lw_all := lw_g (lw_at lw_m9 140 rfl) rfl
theorem q2145 : (Jvm.Cond.instanceMethod ({ cls := "PostChaiseYard$State", name := "callBoy", desc := "(I)I" } : Jvm.MethodName)) ∈ lw_all := lw_g (lw_at lw_m9 149 rfl) rfl
theorem q2146 : (Jvm.Cond.selects "PostChaiseYard$State" ({ cls := "PostChaiseYard$State", name := "callBoy", desc := "(I)I" } : Jvm.MethodName) ({ cls := "PostChaiseYard$State", name := "callBoy", desc := "(I)I" } : Jvm.MethodName)) ∈ lw_all := lw_g (lw_at lw_m9 150 rfl) rfl
theorem q2147 : (Jvm.Cond.code ({ cls := "PostChaiseYard$State", name := "callBoy", desc := "(I)I" } : Jvm.MethodName) prog_8_method_11_code (2 : Nat) (Option.some Jvm.ClassFile.FieldType.int)) ∈ lw_all := lw_g (lw_at lw_m9 151 rfl) rfl
theorem q2160 : (Jvm.Cond.instanceMethod ({ cls := "PostChaiseYard$State", name := "putOnPole", desc := "(I)I" } : Jvm.MethodName)) ∈ lw_all := lw_g (lw_at lw_m9 164 rfl) rfl
theorem q2161 : (Jvm.Cond.selects "PostChaiseYard$State" ({ cls := "PostChaiseYard$State", name := "putOnPole", desc := "(I)I" } : Jvm.MethodName) ({ cls := "PostChaiseYard$State", name := "putOnPole", desc := "(I)I" } : Jvm.MethodName)) ∈ lw_all := lw_g (lw_at lw_m9 165 rfl) rfl
theorem q2162 : (Jvm.Cond.code ({ cls := "PostChaiseYard$State", name := "putOnPole", desc := "(I)I" } : Jvm.MethodName) prog_8_method_12_code (4 : Nat) (Option.some Jvm.ClassFile.FieldType.int)) ∈ lw_all := lw_g (lw_at lw_m9 166 rfl) rfl
theorem q2230 : (Jvm.Cond.instanceMethod ({ cls := "PostChaiseYard$State", name := "waitOf", desc := "(I)I" } : Jvm.MethodName)) ∈ lw_all := lw_g (lw_at lw_m9 234 rfl) rfl
theorem q2231 : (Jvm.Cond.selects "PostChaiseYard$State" ({ cls := "PostChaiseYard$State", name := "waitOf", desc := "(I)I" } : Jvm.MethodName) ({ cls := "PostChaiseYard$State", name := "waitOf", desc := "(I)I" } : Jvm.MethodName)) ∈ lw_all := lw_g (lw_at lw_m9 235 rfl) rfl
theorem q2232 : (Jvm.Cond.code ({ cls := "PostChaiseYard$State", name := "waitOf", desc := "(I)I" } : Jvm.MethodName) prog_8_method_23_code (2 : Nat) (Option.some Jvm.ClassFile.FieldType.int)) ∈ lw_all := lw_g (lw_at lw_m9 236 rfl) rfl
theorem q2995 : (Jvm.Cond.castable "PostChaiseYard$State" "java/lang/Object") ∈ lw_tbl := lw_at lw_m13 39 rfl
theorem in_X2 : ∀ w ∈ wsX20, w ∈ lw_all := lw_in wsX20 [346, 348, 350, 352, 354, 356, 358, 360, 362, 364, 366, 368, 370, 372, 374, 376] (by decide +kernel) (by decide +kernel)

/-! PostChaiseYard$Pair -/
set_option maxRecDepth 100000
def RX3 : String := "PostChaiseYard$Pair"
def TX3 : u_T := fun k => match k with
  | 0 => ("PostChaiseYard$Pair", "number", "I", true)
  | 1 => ("PostChaiseYard$Pair", "miles", "I", false)
  | 2 => ("PostChaiseYard$Pair", "rest", "I", false)
  | _ => ("PostChaiseYard$Pair", "isOut", "Z", false)
def tyX3 : Nat → FieldType := fun k => match k with
  | 0 => .int
  | 1 => .int
  | 2 => .int
  | _ => .boolean
abbrev wsX30 : List Cond := u_ws RX3 TX3 4
theorem nmX3 : ∀ a, a < 4 → ∀ b, b < 4 → a ≠ b → (TX3 a).2.1 ≠ (TX3 b).2.1 := by decide +kernel
theorem tyX3_ok : ∀ k, k < 4 → parseFieldDescriptor (TX3 k).2.2.1 = some (tyX3 k) := by decide +kernel
abbrev cX3_init : ByteArray := prog_7_method_1_code
def yX3_init : MethodName := ⟨RX3, "<init>", "(I)V"⟩
def dkwX3_init_0 : List UInt8 := [42, 183, 0, 1, 42, 27, 181, 0, 7, 177]
abbrev dktX3_init_0 : List UInt8 := dkwX3_init_0 ++ []
theorem dksX3_init_0 : cX3_init.data.toList.drop 0 = dktX3_init_0 := by decide +kernel
theorem dX3_init_0 : decode cX3_init 0 = .ok (.aload_n 0, 1) := dk_42 (dk_at dksX3_init_0 0 rfl rfl)
theorem dX3_init_1 : decode cX3_init 1 = .ok (.invokespecial 1, 3) := dk_183 0 1 (dk_at dksX3_init_0 1 rfl rfl)
theorem dX3_init_4 : decode cX3_init 4 = .ok (.aload_n 0, 1) := dk_42 (dk_at dksX3_init_0 4 rfl rfl)
theorem dX3_init_5 : decode cX3_init 5 = .ok (.iload_n 1, 1) := dk_27 (dk_at dksX3_init_0 5 rfl rfl)
theorem dX3_init_6 : decode cX3_init 6 = .ok (.putfield 7, 3) := dk_181 0 7 (dk_at dksX3_init_0 6 rfl rfl)
theorem dX3_init_9 : decode cX3_init 9 = .ok (.return_, 1) := dk_177 (dk_at dksX3_init_0 9 rfl rfl)
abbrev cX3_isRested : ByteArray := prog_7_method_3_code
def yX3_isRested : MethodName := ⟨RX3, "isRested", "()Z"⟩
def dkwX3_isRested_0 : List UInt8 := [42, 180, 0, 22, 154, 0, 14, 42, 180, 0, 19, 154, 0, 7, 4, 167, 0, 4, 3, 172]
abbrev dktX3_isRested_0 : List UInt8 := dkwX3_isRested_0 ++ []
theorem dksX3_isRested_0 : cX3_isRested.data.toList.drop 0 = dktX3_isRested_0 := by decide +kernel
theorem dX3_isRested_0 : decode cX3_isRested 0 = .ok (.aload_n 0, 1) := dk_42 (dk_at dksX3_isRested_0 0 rfl rfl)
theorem dX3_isRested_1 : decode cX3_isRested 1 = .ok (.getfield 22, 3) := dk_180 0 22 (dk_at dksX3_isRested_0 1 rfl rfl)
theorem dX3_isRested_4 : decode cX3_isRested 4 = .ok (.ifCond .ne 14, 3) := dk_154 0 14 (dk_at dksX3_isRested_0 4 rfl rfl)
theorem dX3_isRested_7 : decode cX3_isRested 7 = .ok (.aload_n 0, 1) := dk_42 (dk_at dksX3_isRested_0 7 rfl rfl)
theorem dX3_isRested_8 : decode cX3_isRested 8 = .ok (.getfield 19, 3) := dk_180 0 19 (dk_at dksX3_isRested_0 8 rfl rfl)
theorem dX3_isRested_11 : decode cX3_isRested 11 = .ok (.ifCond .ne 7, 3) := dk_154 0 7 (dk_at dksX3_isRested_0 11 rfl rfl)
theorem dX3_isRested_14 : decode cX3_isRested 14 = .ok (.iconst 1, 1) := dk_4 (dk_at dksX3_isRested_0 14 rfl rfl)
theorem dX3_isRested_15 : decode cX3_isRested 15 = .ok (.goto 4, 3) := dk_167 0 4 (dk_at dksX3_isRested_0 15 rfl rfl)
theorem dX3_isRested_18 : decode cX3_isRested 18 = .ok (.iconst 0, 1) := dk_3 (dk_at dksX3_isRested_0 18 rfl rfl)
theorem dX3_isRested_19 : decode cX3_isRested 19 = .ok (.ireturn, 1) := dk_172 (dk_at dksX3_isRested_0 19 rfl rfl)
abbrev cX3_copy : ByteArray := prog_7_method_2_code
def yX3_copy : MethodName := ⟨RX3, "copy", "()LPostChaiseYard$Pair;"⟩
def dkwX3_copy_1 : List UInt8 := [180, 0, 19, 181, 0, 19, 43, 42, 180, 0, 22, 181, 0, 22, 43, 176]
abbrev dktX3_copy_1 : List UInt8 := dkwX3_copy_1 ++ []
def dkwX3_copy_0 : List UInt8 := [187, 0, 8, 89, 42, 180, 0, 7, 183, 0, 13, 76, 43, 42, 180, 0, 16, 181, 0, 16, 43, 42]
abbrev dktX3_copy_0 : List UInt8 := dkwX3_copy_0 ++ dktX3_copy_1
theorem dksX3_copy_0 : cX3_copy.data.toList.drop 0 = dktX3_copy_0 := by decide +kernel
theorem dksX3_copy_1 : cX3_copy.data.toList.drop 22 = dktX3_copy_1 := dk_seg dksX3_copy_0 22 rfl rfl
theorem dX3_copy_0 : decode cX3_copy 0 = .ok (.new 8, 3) := dk_187 0 8 (dk_at dksX3_copy_0 0 rfl rfl)
theorem dX3_copy_3 : decode cX3_copy 3 = .ok (.dup, 1) := dk_89 (dk_at dksX3_copy_0 3 rfl rfl)
theorem dX3_copy_4 : decode cX3_copy 4 = .ok (.aload_n 0, 1) := dk_42 (dk_at dksX3_copy_0 4 rfl rfl)
theorem dX3_copy_5 : decode cX3_copy 5 = .ok (.getfield 7, 3) := dk_180 0 7 (dk_at dksX3_copy_0 5 rfl rfl)
theorem dX3_copy_8 : decode cX3_copy 8 = .ok (.invokespecial 13, 3) := dk_183 0 13 (dk_at dksX3_copy_0 8 rfl rfl)
theorem dX3_copy_11 : decode cX3_copy 11 = .ok (.astore_n 1, 1) := dk_76 (dk_at dksX3_copy_0 11 rfl rfl)
theorem dX3_copy_12 : decode cX3_copy 12 = .ok (.aload_n 1, 1) := dk_43 (dk_at dksX3_copy_0 12 rfl rfl)
theorem dX3_copy_13 : decode cX3_copy 13 = .ok (.aload_n 0, 1) := dk_42 (dk_at dksX3_copy_0 13 rfl rfl)
theorem dX3_copy_14 : decode cX3_copy 14 = .ok (.getfield 16, 3) := dk_180 0 16 (dk_at dksX3_copy_0 14 rfl rfl)
theorem dX3_copy_17 : decode cX3_copy 17 = .ok (.putfield 16, 3) := dk_181 0 16 (dk_at dksX3_copy_0 17 rfl rfl)
theorem dX3_copy_20 : decode cX3_copy 20 = .ok (.aload_n 1, 1) := dk_43 (dk_at dksX3_copy_0 20 rfl rfl)
theorem dX3_copy_21 : decode cX3_copy 21 = .ok (.aload_n 0, 1) := dk_42 (dk_at dksX3_copy_0 21 rfl rfl)
theorem dX3_copy_22 : decode cX3_copy 22 = .ok (.getfield 19, 3) := dk_180 0 19 (dk_at dksX3_copy_1 0 rfl rfl)
theorem dX3_copy_25 : decode cX3_copy 25 = .ok (.putfield 19, 3) := dk_181 0 19 (dk_at dksX3_copy_1 3 rfl rfl)
theorem dX3_copy_28 : decode cX3_copy 28 = .ok (.aload_n 1, 1) := dk_43 (dk_at dksX3_copy_1 6 rfl rfl)
theorem dX3_copy_29 : decode cX3_copy 29 = .ok (.aload_n 0, 1) := dk_42 (dk_at dksX3_copy_1 7 rfl rfl)
theorem dX3_copy_30 : decode cX3_copy 30 = .ok (.getfield 22, 3) := dk_180 0 22 (dk_at dksX3_copy_1 8 rfl rfl)
theorem dX3_copy_33 : decode cX3_copy 33 = .ok (.putfield 22, 3) := dk_181 0 22 (dk_at dksX3_copy_1 11 rfl rfl)
theorem dX3_copy_36 : decode cX3_copy 36 = .ok (.aload_n 1, 1) := dk_43 (dk_at dksX3_copy_1 14 rfl rfl)
theorem dX3_copy_37 : decode cX3_copy 37 = .ok (.areturn, 1) := dk_176 (dk_at dksX3_copy_1 15 rfl rfl)
abbrev cX3_rests : ByteArray := prog_7_method_4_code
def yX3_rests : MethodName := ⟨RX3, "rests", "()V"⟩
def dkwX3_rests_0 : List UInt8 := [42, 89, 180, 0, 19, 42, 180, 0, 19, 158, 0, 7, 4, 167, 0, 4, 3, 100, 181, 0, 19, 177]
abbrev dktX3_rests_0 : List UInt8 := dkwX3_rests_0 ++ []
theorem dksX3_rests_0 : cX3_rests.data.toList.drop 0 = dktX3_rests_0 := by decide +kernel
theorem dX3_rests_0 : decode cX3_rests 0 = .ok (.aload_n 0, 1) := dk_42 (dk_at dksX3_rests_0 0 rfl rfl)
theorem dX3_rests_1 : decode cX3_rests 1 = .ok (.dup, 1) := dk_89 (dk_at dksX3_rests_0 1 rfl rfl)
theorem dX3_rests_2 : decode cX3_rests 2 = .ok (.getfield 19, 3) := dk_180 0 19 (dk_at dksX3_rests_0 2 rfl rfl)
theorem dX3_rests_5 : decode cX3_rests 5 = .ok (.aload_n 0, 1) := dk_42 (dk_at dksX3_rests_0 5 rfl rfl)
theorem dX3_rests_6 : decode cX3_rests 6 = .ok (.getfield 19, 3) := dk_180 0 19 (dk_at dksX3_rests_0 6 rfl rfl)
theorem dX3_rests_9 : decode cX3_rests 9 = .ok (.ifCond .le 7, 3) := dk_158 0 7 (dk_at dksX3_rests_0 9 rfl rfl)
theorem dX3_rests_12 : decode cX3_rests 12 = .ok (.iconst 1, 1) := dk_4 (dk_at dksX3_rests_0 12 rfl rfl)
theorem dX3_rests_13 : decode cX3_rests 13 = .ok (.goto 4, 3) := dk_167 0 4 (dk_at dksX3_rests_0 13 rfl rfl)
theorem dX3_rests_16 : decode cX3_rests 16 = .ok (.iconst 0, 1) := dk_3 (dk_at dksX3_rests_0 16 rfl rfl)
theorem dX3_rests_17 : decode cX3_rests 17 = .ok (.isub, 1) := dk_100 (dk_at dksX3_rests_0 17 rfl rfl)
theorem dX3_rests_18 : decode cX3_rests 18 = .ok (.putfield 19, 3) := dk_181 0 19 (dk_at dksX3_rests_0 18 rfl rfl)
theorem dX3_rests_21 : decode cX3_rests 21 = .ok (.return_, 1) := dk_177 (dk_at dksX3_rests_0 21 rfl rfl)
abbrev cX3_comesBack : ByteArray := prog_7_method_5_code
def yX3_comesBack : MethodName := ⟨RX3, "comesBack", "(II)V"⟩
def dkwX3_comesBack_0 : List UInt8 := [42, 3, 181, 0, 22, 42, 89, 180, 0, 16, 27, 96, 181, 0, 16, 42, 28, 181, 0, 19, 177]
abbrev dktX3_comesBack_0 : List UInt8 := dkwX3_comesBack_0 ++ []
theorem dksX3_comesBack_0 : cX3_comesBack.data.toList.drop 0 = dktX3_comesBack_0 := by decide +kernel
theorem dX3_comesBack_0 : decode cX3_comesBack 0 = .ok (.aload_n 0, 1) := dk_42 (dk_at dksX3_comesBack_0 0 rfl rfl)
theorem dX3_comesBack_1 : decode cX3_comesBack 1 = .ok (.iconst 0, 1) := dk_3 (dk_at dksX3_comesBack_0 1 rfl rfl)
theorem dX3_comesBack_2 : decode cX3_comesBack 2 = .ok (.putfield 22, 3) := dk_181 0 22 (dk_at dksX3_comesBack_0 2 rfl rfl)
theorem dX3_comesBack_5 : decode cX3_comesBack 5 = .ok (.aload_n 0, 1) := dk_42 (dk_at dksX3_comesBack_0 5 rfl rfl)
theorem dX3_comesBack_6 : decode cX3_comesBack 6 = .ok (.dup, 1) := dk_89 (dk_at dksX3_comesBack_0 6 rfl rfl)
theorem dX3_comesBack_7 : decode cX3_comesBack 7 = .ok (.getfield 16, 3) := dk_180 0 16 (dk_at dksX3_comesBack_0 7 rfl rfl)
theorem dX3_comesBack_10 : decode cX3_comesBack 10 = .ok (.iload_n 1, 1) := dk_27 (dk_at dksX3_comesBack_0 10 rfl rfl)
theorem dX3_comesBack_11 : decode cX3_comesBack 11 = .ok (.iadd, 1) := dk_96 (dk_at dksX3_comesBack_0 11 rfl rfl)
theorem dX3_comesBack_12 : decode cX3_comesBack 12 = .ok (.putfield 16, 3) := dk_181 0 16 (dk_at dksX3_comesBack_0 12 rfl rfl)
theorem dX3_comesBack_15 : decode cX3_comesBack 15 = .ok (.aload_n 0, 1) := dk_42 (dk_at dksX3_comesBack_0 15 rfl rfl)
theorem dX3_comesBack_16 : decode cX3_comesBack 16 = .ok (.iload_n 2, 1) := dk_28 (dk_at dksX3_comesBack_0 16 rfl rfl)
theorem dX3_comesBack_17 : decode cX3_comesBack 17 = .ok (.putfield 19, 3) := dk_181 0 19 (dk_at dksX3_comesBack_0 17 rfl rfl)
theorem dX3_comesBack_20 : decode cX3_comesBack 20 = .ok (.return_, 1) := dk_177 (dk_at dksX3_comesBack_0 20 rfl rfl)
theorem q90 : (Jvm.Cond.initialized "PostChaiseYard$Pair") ∈ lw_all := lw_g (lw_at lw_m1 14 rfl) rfl
theorem q380 : (Jvm.Cond.instantiable "PostChaiseYard$Pair" (4 : Nat)) ∈ lw_all := lw_g (lw_at lw_m2 64 rfl) rfl
theorem q382 : (Jvm.Cond.instanceMethod ({ cls := "PostChaiseYard$Pair", name := "<init>", desc := "(I)V" } : Jvm.MethodName)) ∈ lw_all := lw_g (lw_at lw_m2 66 rfl) rfl
theorem q383 : (Jvm.Cond.code ({ cls := "PostChaiseYard$Pair", name := "<init>", desc := "(I)V" } : Jvm.MethodName) prog_7_method_1_code (2 : Nat) (Option.none : Option Jvm.ClassFile.FieldType)) ∈ lw_all := lw_g (lw_at lw_m2 67 rfl) rfl
theorem q384 : (Jvm.Cond.methodLink "PostChaiseYard$Pair" (1 : Nat) ({ cls := "java/lang/Object", name := "<init>", desc := "()V" } : Jvm.MethodName)) ∈ lw_all := lw_g (lw_at lw_m2 68 rfl) rfl
theorem q385 : (Jvm.Cond.fieldLink "PostChaiseYard$Pair" (7 : Nat) "PostChaiseYard$Pair" "number" "I") ∈ lw_all := lw_g (lw_at lw_m2 69 rfl) rfl
theorem q390 : (Jvm.Cond.fieldLink "PostChaiseYard$Pair" (16 : Nat) "PostChaiseYard$Pair" "miles" "I") ∈ lw_all := lw_g (lw_at lw_m2 74 rfl) rfl
theorem q392 : (Jvm.Cond.fieldLink "PostChaiseYard$Pair" (19 : Nat) "PostChaiseYard$Pair" "rest" "I") ∈ lw_all := lw_g (lw_at lw_m2 76 rfl) rfl
theorem q394 : (Jvm.Cond.fieldLink "PostChaiseYard$Pair" (22 : Nat) "PostChaiseYard$Pair" "isOut" "Z") ∈ lw_all := lw_g (lw_at lw_m2 78 rfl) rfl
theorem q397 : (Jvm.Cond.laysFinal "PostChaiseYard$Pair" "PostChaiseYard$Pair" "number" "I") ∈ lw_all := lw_g (lw_at lw_m2 81 rfl) rfl
theorem q398 : (Jvm.Cond.soleField "PostChaiseYard$Pair" "number") ∈ lw_all := lw_g (lw_at lw_m2 82 rfl) rfl
theorem q399 : (Jvm.Cond.lays "PostChaiseYard$Pair" "PostChaiseYard$Pair" "miles" "I") ∈ lw_all := lw_g (lw_at lw_m2 83 rfl) rfl
theorem q400 : (Jvm.Cond.soleField "PostChaiseYard$Pair" "miles") ∈ lw_all := lw_g (lw_at lw_m2 84 rfl) rfl
theorem q401 : (Jvm.Cond.lays "PostChaiseYard$Pair" "PostChaiseYard$Pair" "rest" "I") ∈ lw_all := lw_g (lw_at lw_m2 85 rfl) rfl
theorem q402 : (Jvm.Cond.soleField "PostChaiseYard$Pair" "rest") ∈ lw_all := lw_g (lw_at lw_m2 86 rfl) rfl
theorem q403 : (Jvm.Cond.lays "PostChaiseYard$Pair" "PostChaiseYard$Pair" "isOut" "Z") ∈ lw_all := lw_g (lw_at lw_m2 87 rfl) rfl
theorem q404 : (Jvm.Cond.soleField "PostChaiseYard$Pair" "isOut") ∈ lw_all := lw_g (lw_at lw_m2 88 rfl) rfl
theorem q405 : (Jvm.Cond.superclass "PostChaiseYard$Pair" "java/lang/Object") ∈ lw_all := lw_g (lw_at lw_m2 89 rfl) rfl
theorem q450 : (Jvm.Cond.selects "PostChaiseYard$Pair" ({ cls := "java/lang/Object", name := "getClass", desc := "()Ljava/lang/Class;" } : Jvm.MethodName) ({ cls := "java/lang/Object", name := "getClass", desc := "()Ljava/lang/Class;" } : Jvm.MethodName)) ∈ lw_all := lw_g (lw_at lw_m2 134 rfl) rfl
theorem q1091 : (Jvm.Cond.instanceMethod ({ cls := "PostChaiseYard$Pair", name := "isRested", desc := "()Z" } : Jvm.MethodName)) ∈ lw_all := lw_g (lw_at lw_m5 55 rfl) rfl
theorem q1092 : (Jvm.Cond.selects "PostChaiseYard$Pair" ({ cls := "PostChaiseYard$Pair", name := "isRested", desc := "()Z" } : Jvm.MethodName) ({ cls := "PostChaiseYard$Pair", name := "isRested", desc := "()Z" } : Jvm.MethodName)) ∈ lw_all := lw_g (lw_at lw_m5 56 rfl) rfl
theorem q1093 : (Jvm.Cond.code ({ cls := "PostChaiseYard$Pair", name := "isRested", desc := "()Z" } : Jvm.MethodName) prog_7_method_3_code (1 : Nat) (Option.some Jvm.ClassFile.FieldType.boolean)) ∈ lw_all := lw_g (lw_at lw_m5 57 rfl) rfl
theorem q1680 : (Jvm.Cond.instanceMethod ({ cls := "PostChaiseYard$Pair", name := "copy", desc := "()LPostChaiseYard$Pair;" } : Jvm.MethodName)) ∈ lw_all := lw_g (lw_at lw_m7 164 rfl) rfl
theorem q1681 : (Jvm.Cond.selects "PostChaiseYard$Pair" ({ cls := "PostChaiseYard$Pair", name := "copy", desc := "()LPostChaiseYard$Pair;" } : Jvm.MethodName) ({ cls := "PostChaiseYard$Pair", name := "copy", desc := "()LPostChaiseYard$Pair;" } : Jvm.MethodName)) ∈ lw_all := lw_g (lw_at lw_m7 165 rfl) rfl
theorem q1682 : (Jvm.Cond.code ({ cls := "PostChaiseYard$Pair", name := "copy", desc := "()LPostChaiseYard$Pair;" } : Jvm.MethodName) prog_7_method_2_code (2 : Nat) (Option.some (Jvm.ClassFile.FieldType.object "PostChaiseYard$Pair"))) ∈ lw_all := lw_g (lw_at lw_m7 166 rfl) rfl
theorem q1683 : (Jvm.Cond.classLink "PostChaiseYard$Pair" (8 : Nat) "PostChaiseYard$Pair") ∈ lw_all := lw_g (lw_at lw_m7 167 rfl) rfl
theorem q1684 : (Jvm.Cond.methodLink "PostChaiseYard$Pair" (13 : Nat) ({ cls := "PostChaiseYard$Pair", name := "<init>", desc := "(I)V" } : Jvm.MethodName)) ∈ lw_all := lw_g (lw_at lw_m7 168 rfl) rfl
theorem q1918 : (Jvm.Cond.instanceMethod ({ cls := "PostChaiseYard$Pair", name := "rests", desc := "()V" } : Jvm.MethodName)) ∈ lw_all := lw_g (lw_at lw_m8 162 rfl) rfl
theorem q1919 : (Jvm.Cond.selects "PostChaiseYard$Pair" ({ cls := "PostChaiseYard$Pair", name := "rests", desc := "()V" } : Jvm.MethodName) ({ cls := "PostChaiseYard$Pair", name := "rests", desc := "()V" } : Jvm.MethodName)) ∈ lw_all := lw_g (lw_at lw_m8 163 rfl) rfl
theorem q1920 : (Jvm.Cond.code ({ cls := "PostChaiseYard$Pair", name := "rests", desc := "()V" } : Jvm.MethodName) prog_7_method_4_code (1 : Nat) (Option.none : Option Jvm.ClassFile.FieldType)) ∈ lw_all := lw_g (lw_at lw_m8 164 rfl) rfl
theorem q1935 : (Jvm.Cond.instanceMethod ({ cls := "PostChaiseYard$Pair", name := "comesBack", desc := "(II)V" } : Jvm.MethodName)) ∈ lw_all := lw_g (lw_at lw_m8 179 rfl) rfl
theorem q1936 : (Jvm.Cond.selects "PostChaiseYard$Pair" ({ cls := "PostChaiseYard$Pair", name := "comesBack", desc := "(II)V" } : Jvm.MethodName) ({ cls := "PostChaiseYard$Pair", name := "comesBack", desc := "(II)V" } : Jvm.MethodName)) ∈ lw_all := lw_g (lw_at lw_m8 180 rfl) rfl
theorem q1937 : (Jvm.Cond.code ({ cls := "PostChaiseYard$Pair", name := "comesBack", desc := "(II)V" } : Jvm.MethodName) prog_7_method_5_code (3 : Nat) (Option.none : Option Jvm.ClassFile.FieldType)) ∈ lw_all := lw_g (lw_at lw_m8 181 rfl) rfl
theorem q2109 : (Jvm.Cond.selects "PostChaiseYard$Pair" ({ cls := "java/lang/Object", name := "equals", desc := "(Ljava/lang/Object;)Z" } : Jvm.MethodName) ({ cls := "java/lang/Object", name := "equals", desc := "(Ljava/lang/Object;)Z" } : Jvm.MethodName)) ∈ lw_all := lw_g (lw_at lw_m9 113 rfl) rfl
theorem q3000 : (Jvm.Cond.castable "PostChaiseYard$Pair" "java/lang/Object") ∈ lw_tbl := lw_at lw_m13 44 rfl
theorem in_X3 : ∀ w ∈ wsX30, w ∈ lw_all := lw_in wsX30 [397, 399, 401, 403] (by decide +kernel) (by decide +kernel)

/-! PostChaiseYard$Boy -/
set_option maxRecDepth 100000
def RX4 : String := "PostChaiseYard$Boy"
def TX4 : u_T := fun k => match k with
  | 0 => ("PostChaiseYard$Boy", "number", "I", true)
  | 1 => ("PostChaiseYard$Boy", "trips", "I", false)
  | _ => ("PostChaiseYard$Boy", "isInBed", "Z", false)
def tyX4 : Nat → FieldType := fun k => match k with
  | 0 => .int
  | 1 => .int
  | _ => .boolean
abbrev wsX40 : List Cond := u_ws RX4 TX4 3
theorem nmX4 : ∀ a, a < 3 → ∀ b, b < 3 → a ≠ b → (TX4 a).2.1 ≠ (TX4 b).2.1 := by decide +kernel
theorem tyX4_ok : ∀ k, k < 3 → parseFieldDescriptor (TX4 k).2.2.1 = some (tyX4 k) := by decide +kernel
abbrev cX4_init : ByteArray := prog_2_method_1_code
def yX4_init : MethodName := ⟨RX4, "<init>", "(I)V"⟩
def dkwX4_init_0 : List UInt8 := [42, 183, 0, 1, 42, 27, 181, 0, 7, 177]
abbrev dktX4_init_0 : List UInt8 := dkwX4_init_0 ++ []
theorem dksX4_init_0 : cX4_init.data.toList.drop 0 = dktX4_init_0 := by decide +kernel
theorem dX4_init_0 : decode cX4_init 0 = .ok (.aload_n 0, 1) := dk_42 (dk_at dksX4_init_0 0 rfl rfl)
theorem dX4_init_1 : decode cX4_init 1 = .ok (.invokespecial 1, 3) := dk_183 0 1 (dk_at dksX4_init_0 1 rfl rfl)
theorem dX4_init_4 : decode cX4_init 4 = .ok (.aload_n 0, 1) := dk_42 (dk_at dksX4_init_0 4 rfl rfl)
theorem dX4_init_5 : decode cX4_init 5 = .ok (.iload_n 1, 1) := dk_27 (dk_at dksX4_init_0 5 rfl rfl)
theorem dX4_init_6 : decode cX4_init 6 = .ok (.putfield 7, 3) := dk_181 0 7 (dk_at dksX4_init_0 6 rfl rfl)
theorem dX4_init_9 : decode cX4_init 9 = .ok (.return_, 1) := dk_177 (dk_at dksX4_init_0 9 rfl rfl)
abbrev cX4_copy : ByteArray := prog_2_method_2_code
def yX4_copy : MethodName := ⟨RX4, "copy", "()LPostChaiseYard$Boy;"⟩
def dkwX4_copy_1 : List UInt8 := [180, 0, 19, 181, 0, 19, 43, 176]
abbrev dktX4_copy_1 : List UInt8 := dkwX4_copy_1 ++ []
def dkwX4_copy_0 : List UInt8 := [187, 0, 8, 89, 42, 180, 0, 7, 183, 0, 13, 76, 43, 42, 180, 0, 16, 181, 0, 16, 43, 42]
abbrev dktX4_copy_0 : List UInt8 := dkwX4_copy_0 ++ dktX4_copy_1
theorem dksX4_copy_0 : cX4_copy.data.toList.drop 0 = dktX4_copy_0 := by decide +kernel
theorem dksX4_copy_1 : cX4_copy.data.toList.drop 22 = dktX4_copy_1 := dk_seg dksX4_copy_0 22 rfl rfl
theorem dX4_copy_0 : decode cX4_copy 0 = .ok (.new 8, 3) := dk_187 0 8 (dk_at dksX4_copy_0 0 rfl rfl)
theorem dX4_copy_3 : decode cX4_copy 3 = .ok (.dup, 1) := dk_89 (dk_at dksX4_copy_0 3 rfl rfl)
theorem dX4_copy_4 : decode cX4_copy 4 = .ok (.aload_n 0, 1) := dk_42 (dk_at dksX4_copy_0 4 rfl rfl)
theorem dX4_copy_5 : decode cX4_copy 5 = .ok (.getfield 7, 3) := dk_180 0 7 (dk_at dksX4_copy_0 5 rfl rfl)
theorem dX4_copy_8 : decode cX4_copy 8 = .ok (.invokespecial 13, 3) := dk_183 0 13 (dk_at dksX4_copy_0 8 rfl rfl)
theorem dX4_copy_11 : decode cX4_copy 11 = .ok (.astore_n 1, 1) := dk_76 (dk_at dksX4_copy_0 11 rfl rfl)
theorem dX4_copy_12 : decode cX4_copy 12 = .ok (.aload_n 1, 1) := dk_43 (dk_at dksX4_copy_0 12 rfl rfl)
theorem dX4_copy_13 : decode cX4_copy 13 = .ok (.aload_n 0, 1) := dk_42 (dk_at dksX4_copy_0 13 rfl rfl)
theorem dX4_copy_14 : decode cX4_copy 14 = .ok (.getfield 16, 3) := dk_180 0 16 (dk_at dksX4_copy_0 14 rfl rfl)
theorem dX4_copy_17 : decode cX4_copy 17 = .ok (.putfield 16, 3) := dk_181 0 16 (dk_at dksX4_copy_0 17 rfl rfl)
theorem dX4_copy_20 : decode cX4_copy 20 = .ok (.aload_n 1, 1) := dk_43 (dk_at dksX4_copy_0 20 rfl rfl)
theorem dX4_copy_21 : decode cX4_copy 21 = .ok (.aload_n 0, 1) := dk_42 (dk_at dksX4_copy_0 21 rfl rfl)
theorem dX4_copy_22 : decode cX4_copy 22 = .ok (.getfield 19, 3) := dk_180 0 19 (dk_at dksX4_copy_1 0 rfl rfl)
theorem dX4_copy_25 : decode cX4_copy 25 = .ok (.putfield 19, 3) := dk_181 0 19 (dk_at dksX4_copy_1 3 rfl rfl)
theorem dX4_copy_28 : decode cX4_copy 28 = .ok (.aload_n 1, 1) := dk_43 (dk_at dksX4_copy_1 6 rfl rfl)
theorem dX4_copy_29 : decode cX4_copy 29 = .ok (.areturn, 1) := dk_176 (dk_at dksX4_copy_1 7 rfl rfl)
theorem q95 : (Jvm.Cond.initialized "PostChaiseYard$Boy") ∈ lw_all := lw_g (lw_at lw_m1 19 rfl) rfl
theorem q445 : (Jvm.Cond.selects "PostChaiseYard$Boy" ({ cls := "java/lang/Object", name := "getClass", desc := "()Ljava/lang/Class;" } : Jvm.MethodName) ({ cls := "java/lang/Object", name := "getClass", desc := "()Ljava/lang/Class;" } : Jvm.MethodName)) ∈ lw_all := lw_g (lw_at lw_m2 129 rfl) rfl
theorem q489 : (Jvm.Cond.instantiable "PostChaiseYard$Boy" (3 : Nat)) ∈ lw_all := lw_g (lw_at lw_m2 173 rfl) rfl
theorem q491 : (Jvm.Cond.instanceMethod ({ cls := "PostChaiseYard$Boy", name := "<init>", desc := "(I)V" } : Jvm.MethodName)) ∈ lw_all := lw_g (lw_at lw_m2 175 rfl) rfl
theorem q492 : (Jvm.Cond.code ({ cls := "PostChaiseYard$Boy", name := "<init>", desc := "(I)V" } : Jvm.MethodName) prog_2_method_1_code (2 : Nat) (Option.none : Option Jvm.ClassFile.FieldType)) ∈ lw_all := lw_g (lw_at lw_m2 176 rfl) rfl
theorem q493 : (Jvm.Cond.methodLink "PostChaiseYard$Boy" (1 : Nat) ({ cls := "java/lang/Object", name := "<init>", desc := "()V" } : Jvm.MethodName)) ∈ lw_all := lw_g (lw_at lw_m2 177 rfl) rfl
theorem q494 : (Jvm.Cond.fieldLink "PostChaiseYard$Boy" (7 : Nat) "PostChaiseYard$Boy" "number" "I") ∈ lw_all := lw_g (lw_at lw_m2 178 rfl) rfl
theorem q497 : (Jvm.Cond.fieldLink "PostChaiseYard$Boy" (16 : Nat) "PostChaiseYard$Boy" "trips" "I") ∈ lw_all := lw_g (lw_at lw_m2 181 rfl) rfl
theorem q500 : (Jvm.Cond.fieldLink "PostChaiseYard$Boy" (19 : Nat) "PostChaiseYard$Boy" "isInBed" "Z") ∈ lw_all := lw_g (lw_at lw_m2 184 rfl) rfl
theorem q504 : (Jvm.Cond.laysFinal "PostChaiseYard$Boy" "PostChaiseYard$Boy" "number" "I") ∈ lw_all := lw_g (lw_at lw_m2 188 rfl) rfl
theorem q505 : (Jvm.Cond.soleField "PostChaiseYard$Boy" "number") ∈ lw_all := lw_g (lw_at lw_m2 189 rfl) rfl
theorem q506 : (Jvm.Cond.lays "PostChaiseYard$Boy" "PostChaiseYard$Boy" "trips" "I") ∈ lw_all := lw_g (lw_at lw_m2 190 rfl) rfl
theorem q507 : (Jvm.Cond.soleField "PostChaiseYard$Boy" "trips") ∈ lw_all := lw_g (lw_at lw_m2 191 rfl) rfl
theorem q508 : (Jvm.Cond.lays "PostChaiseYard$Boy" "PostChaiseYard$Boy" "isInBed" "Z") ∈ lw_all := lw_g (lw_at lw_m2 192 rfl) rfl
theorem q509 : (Jvm.Cond.soleField "PostChaiseYard$Boy" "isInBed") ∈ lw_all := lw_g (lw_at lw_m2 193 rfl) rfl
theorem q510 : (Jvm.Cond.superclass "PostChaiseYard$Boy" "java/lang/Object") ∈ lw_all := lw_g (lw_at lw_m2 194 rfl) rfl
theorem q1686 : (Jvm.Cond.instanceMethod ({ cls := "PostChaiseYard$Boy", name := "copy", desc := "()LPostChaiseYard$Boy;" } : Jvm.MethodName)) ∈ lw_all := lw_g (lw_at lw_m7 170 rfl) rfl
theorem q1687 : (Jvm.Cond.selects "PostChaiseYard$Boy" ({ cls := "PostChaiseYard$Boy", name := "copy", desc := "()LPostChaiseYard$Boy;" } : Jvm.MethodName) ({ cls := "PostChaiseYard$Boy", name := "copy", desc := "()LPostChaiseYard$Boy;" } : Jvm.MethodName)) ∈ lw_all := lw_g (lw_at lw_m7 171 rfl) rfl
theorem q1688 : (Jvm.Cond.code ({ cls := "PostChaiseYard$Boy", name := "copy", desc := "()LPostChaiseYard$Boy;" } : Jvm.MethodName) prog_2_method_2_code (2 : Nat) (Option.some (Jvm.ClassFile.FieldType.object "PostChaiseYard$Boy"))) ∈ lw_all := lw_g (lw_at lw_m7 172 rfl) rfl
theorem q1689 : (Jvm.Cond.classLink "PostChaiseYard$Boy" (8 : Nat) "PostChaiseYard$Boy") ∈ lw_all := lw_g (lw_at lw_m7 173 rfl) rfl
theorem q1690 : (Jvm.Cond.methodLink "PostChaiseYard$Boy" (13 : Nat) ({ cls := "PostChaiseYard$Boy", name := "<init>", desc := "(I)V" } : Jvm.MethodName)) ∈ lw_all := lw_g (lw_at lw_m7 174 rfl) rfl
theorem q2104 : (Jvm.Cond.selects "PostChaiseYard$Boy" ({ cls := "java/lang/Object", name := "equals", desc := "(Ljava/lang/Object;)Z" } : Jvm.MethodName) ({ cls := "java/lang/Object", name := "equals", desc := "(Ljava/lang/Object;)Z" } : Jvm.MethodName)) ∈ lw_all := lw_g (lw_at lw_m9 108 rfl) rfl
theorem q3001 : (Jvm.Cond.castable "PostChaiseYard$Boy" "java/lang/Object") ∈ lw_tbl := lw_at lw_m13 45 rfl
theorem in_X4 : ∀ w ∈ wsX40, w ∈ lw_all := lw_in wsX40 [504, 506, 508] (by decide +kernel) (by decide +kernel)

/-! PostChaiseYard$Chaise -/
set_option maxRecDepth 100000
def RX5 : String := "PostChaiseYard$Chaise"
def TX5 : u_T := fun k => match k with
  | 0 => ("PostChaiseYard$Chaise", "number", "I", true)
  | 1 => ("PostChaiseYard$Chaise", "wear", "I", false)
  | 2 => ("PostChaiseYard$Chaise", "miles", "I", false)
  | 3 => ("PostChaiseYard$Chaise", "isBroken", "Z", false)
  | _ => ("PostChaiseYard$Chaise", "trip", "LPostChaiseYard$Trip;", false)
def tyX5 : Nat → FieldType := fun k => match k with
  | 0 => .int
  | 1 => .int
  | 2 => .int
  | 3 => .boolean
  | _ => .object "PostChaiseYard$Trip"
abbrev wsX50 : List Cond := u_ws RX5 TX5 5
theorem nmX5 : ∀ a, a < 5 → ∀ b, b < 5 → a ≠ b → (TX5 a).2.1 ≠ (TX5 b).2.1 := by decide +kernel
theorem tyX5_ok : ∀ k, k < 5 → parseFieldDescriptor (TX5 k).2.2.1 = some (tyX5 k) := by decide +kernel
abbrev cX5_init : ByteArray := prog_4_method_1_code
def yX5_init : MethodName := ⟨RX5, "<init>", "(I)V"⟩
def dkwX5_init_0 : List UInt8 := [42, 183, 0, 1, 42, 27, 181, 0, 7, 177]
abbrev dktX5_init_0 : List UInt8 := dkwX5_init_0 ++ []
theorem dksX5_init_0 : cX5_init.data.toList.drop 0 = dktX5_init_0 := by decide +kernel
theorem dX5_init_0 : decode cX5_init 0 = .ok (.aload_n 0, 1) := dk_42 (dk_at dksX5_init_0 0 rfl rfl)
theorem dX5_init_1 : decode cX5_init 1 = .ok (.invokespecial 1, 3) := dk_183 0 1 (dk_at dksX5_init_0 1 rfl rfl)
theorem dX5_init_4 : decode cX5_init 4 = .ok (.aload_n 0, 1) := dk_42 (dk_at dksX5_init_0 4 rfl rfl)
theorem dX5_init_5 : decode cX5_init 5 = .ok (.iload_n 1, 1) := dk_27 (dk_at dksX5_init_0 5 rfl rfl)
theorem dX5_init_6 : decode cX5_init 6 = .ok (.putfield 7, 3) := dk_181 0 7 (dk_at dksX5_init_0 6 rfl rfl)
theorem dX5_init_9 : decode cX5_init 9 = .ok (.return_, 1) := dk_177 (dk_at dksX5_init_0 9 rfl rfl)
abbrev cX5_compareTo : ByteArray := prog_4_method_6_code
def yX5_compareTo : MethodName := ⟨RX5, "compareTo", "(Ljava/lang/Object;)I"⟩
def dkwX5_compareTo_0 : List UInt8 := [42, 43, 192, 0, 8, 182, 0, 36, 172]
abbrev dktX5_compareTo_0 : List UInt8 := dkwX5_compareTo_0 ++ []
theorem dksX5_compareTo_0 : cX5_compareTo.data.toList.drop 0 = dktX5_compareTo_0 := by decide +kernel
theorem dX5_compareTo_0 : decode cX5_compareTo 0 = .ok (.aload_n 0, 1) := dk_42 (dk_at dksX5_compareTo_0 0 rfl rfl)
theorem dX5_compareTo_1 : decode cX5_compareTo 1 = .ok (.aload_n 1, 1) := dk_43 (dk_at dksX5_compareTo_0 1 rfl rfl)
theorem dX5_compareTo_2 : decode cX5_compareTo 2 = .ok (.checkcast 8, 3) := dk_192 0 8 (dk_at dksX5_compareTo_0 2 rfl rfl)
theorem dX5_compareTo_5 : decode cX5_compareTo 5 = .ok (.invokevirtual 36, 3) := dk_182 0 36 (dk_at dksX5_compareTo_0 5 rfl rfl)
theorem dX5_compareTo_8 : decode cX5_compareTo 8 = .ok (.ireturn, 1) := dk_172 (dk_at dksX5_compareTo_0 8 rfl rfl)
abbrev cX5_compareTo_2 : ByteArray := prog_4_method_5_code
def yX5_compareTo_2 : MethodName := ⟨RX5, "compareTo", "(LPostChaiseYard$Chaise;)I"⟩
def dkwX5_compareTo_2_1 : List UInt8 := [167, 0, 14, 42, 180, 0, 7, 43, 180, 0, 7, 184, 0, 30, 172]
abbrev dktX5_compareTo_2_1 : List UInt8 := dkwX5_compareTo_2_1 ++ []
def dkwX5_compareTo_2_0 : List UInt8 := [42, 180, 0, 16, 43, 180, 0, 16, 159, 0, 17, 42, 180, 0, 16, 43, 180, 0, 16, 184, 0, 30]
abbrev dktX5_compareTo_2_0 : List UInt8 := dkwX5_compareTo_2_0 ++ dktX5_compareTo_2_1
theorem dksX5_compareTo_2_0 : cX5_compareTo_2.data.toList.drop 0 = dktX5_compareTo_2_0 := by decide +kernel
theorem dksX5_compareTo_2_1 : cX5_compareTo_2.data.toList.drop 22 = dktX5_compareTo_2_1 := dk_seg dksX5_compareTo_2_0 22 rfl rfl
theorem dX5_compareTo_2_0 : decode cX5_compareTo_2 0 = .ok (.aload_n 0, 1) := dk_42 (dk_at dksX5_compareTo_2_0 0 rfl rfl)
theorem dX5_compareTo_2_1 : decode cX5_compareTo_2 1 = .ok (.getfield 16, 3) := dk_180 0 16 (dk_at dksX5_compareTo_2_0 1 rfl rfl)
theorem dX5_compareTo_2_4 : decode cX5_compareTo_2 4 = .ok (.aload_n 1, 1) := dk_43 (dk_at dksX5_compareTo_2_0 4 rfl rfl)
theorem dX5_compareTo_2_5 : decode cX5_compareTo_2 5 = .ok (.getfield 16, 3) := dk_180 0 16 (dk_at dksX5_compareTo_2_0 5 rfl rfl)
theorem dX5_compareTo_2_8 : decode cX5_compareTo_2 8 = .ok (.if_icmp .eq 17, 3) := dk_159 0 17 (dk_at dksX5_compareTo_2_0 8 rfl rfl)
theorem dX5_compareTo_2_11 : decode cX5_compareTo_2 11 = .ok (.aload_n 0, 1) := dk_42 (dk_at dksX5_compareTo_2_0 11 rfl rfl)
theorem dX5_compareTo_2_12 : decode cX5_compareTo_2 12 = .ok (.getfield 16, 3) := dk_180 0 16 (dk_at dksX5_compareTo_2_0 12 rfl rfl)
theorem dX5_compareTo_2_15 : decode cX5_compareTo_2 15 = .ok (.aload_n 1, 1) := dk_43 (dk_at dksX5_compareTo_2_0 15 rfl rfl)
theorem dX5_compareTo_2_16 : decode cX5_compareTo_2 16 = .ok (.getfield 16, 3) := dk_180 0 16 (dk_at dksX5_compareTo_2_0 16 rfl rfl)
theorem dX5_compareTo_2_19 : decode cX5_compareTo_2 19 = .ok (.invokestatic 30, 3) := dk_184 0 30 (dk_at dksX5_compareTo_2_0 19 rfl rfl)
theorem dX5_compareTo_2_22 : decode cX5_compareTo_2 22 = .ok (.goto 14, 3) := dk_167 0 14 (dk_at dksX5_compareTo_2_1 0 rfl rfl)
theorem dX5_compareTo_2_25 : decode cX5_compareTo_2 25 = .ok (.aload_n 0, 1) := dk_42 (dk_at dksX5_compareTo_2_1 3 rfl rfl)
theorem dX5_compareTo_2_26 : decode cX5_compareTo_2 26 = .ok (.getfield 7, 3) := dk_180 0 7 (dk_at dksX5_compareTo_2_1 4 rfl rfl)
theorem dX5_compareTo_2_29 : decode cX5_compareTo_2 29 = .ok (.aload_n 1, 1) := dk_43 (dk_at dksX5_compareTo_2_1 7 rfl rfl)
theorem dX5_compareTo_2_30 : decode cX5_compareTo_2 30 = .ok (.getfield 7, 3) := dk_180 0 7 (dk_at dksX5_compareTo_2_1 8 rfl rfl)
theorem dX5_compareTo_2_33 : decode cX5_compareTo_2 33 = .ok (.invokestatic 30, 3) := dk_184 0 30 (dk_at dksX5_compareTo_2_1 11 rfl rfl)
theorem dX5_compareTo_2_36 : decode cX5_compareTo_2 36 = .ok (.ireturn, 1) := dk_172 (dk_at dksX5_compareTo_2_1 14 rfl rfl)
abbrev cX5_isReady : ByteArray := prog_4_method_3_code
def yX5_isReady : MethodName := ⟨RX5, "isReady", "()Z"⟩
def dkwX5_isReady_0 : List UInt8 := [42, 180, 0, 26, 199, 0, 14, 42, 180, 0, 22, 154, 0, 7, 4, 167, 0, 4, 3, 172]
abbrev dktX5_isReady_0 : List UInt8 := dkwX5_isReady_0 ++ []
theorem dksX5_isReady_0 : cX5_isReady.data.toList.drop 0 = dktX5_isReady_0 := by decide +kernel
theorem dX5_isReady_0 : decode cX5_isReady 0 = .ok (.aload_n 0, 1) := dk_42 (dk_at dksX5_isReady_0 0 rfl rfl)
theorem dX5_isReady_1 : decode cX5_isReady 1 = .ok (.getfield 26, 3) := dk_180 0 26 (dk_at dksX5_isReady_0 1 rfl rfl)
theorem dX5_isReady_4 : decode cX5_isReady 4 = .ok (.ifnonnull 14, 3) := dk_199 0 14 (dk_at dksX5_isReady_0 4 rfl rfl)
theorem dX5_isReady_7 : decode cX5_isReady 7 = .ok (.aload_n 0, 1) := dk_42 (dk_at dksX5_isReady_0 7 rfl rfl)
theorem dX5_isReady_8 : decode cX5_isReady 8 = .ok (.getfield 22, 3) := dk_180 0 22 (dk_at dksX5_isReady_0 8 rfl rfl)
theorem dX5_isReady_11 : decode cX5_isReady 11 = .ok (.ifCond .ne 7, 3) := dk_154 0 7 (dk_at dksX5_isReady_0 11 rfl rfl)
theorem dX5_isReady_14 : decode cX5_isReady 14 = .ok (.iconst 1, 1) := dk_4 (dk_at dksX5_isReady_0 14 rfl rfl)
theorem dX5_isReady_15 : decode cX5_isReady 15 = .ok (.goto 4, 3) := dk_167 0 4 (dk_at dksX5_isReady_0 15 rfl rfl)
theorem dX5_isReady_18 : decode cX5_isReady 18 = .ok (.iconst 0, 1) := dk_3 (dk_at dksX5_isReady_0 18 rfl rfl)
theorem dX5_isReady_19 : decode cX5_isReady 19 = .ok (.ireturn, 1) := dk_172 (dk_at dksX5_isReady_0 19 rfl rfl)
abbrev cX5_copy : ByteArray := prog_4_method_2_code
def yX5_copy : MethodName := ⟨RX5, "copy", "()LPostChaiseYard$Chaise;"⟩
def dkwX5_copy_1 : List UInt8 := [180, 0, 19, 181, 0, 19, 43, 42, 180, 0, 22, 181, 0, 22, 43, 176]
abbrev dktX5_copy_1 : List UInt8 := dkwX5_copy_1 ++ []
def dkwX5_copy_0 : List UInt8 := [187, 0, 8, 89, 42, 180, 0, 7, 183, 0, 13, 76, 43, 42, 180, 0, 16, 181, 0, 16, 43, 42]
abbrev dktX5_copy_0 : List UInt8 := dkwX5_copy_0 ++ dktX5_copy_1
theorem dksX5_copy_0 : cX5_copy.data.toList.drop 0 = dktX5_copy_0 := by decide +kernel
theorem dksX5_copy_1 : cX5_copy.data.toList.drop 22 = dktX5_copy_1 := dk_seg dksX5_copy_0 22 rfl rfl
theorem dX5_copy_0 : decode cX5_copy 0 = .ok (.new 8, 3) := dk_187 0 8 (dk_at dksX5_copy_0 0 rfl rfl)
theorem dX5_copy_3 : decode cX5_copy 3 = .ok (.dup, 1) := dk_89 (dk_at dksX5_copy_0 3 rfl rfl)
theorem dX5_copy_4 : decode cX5_copy 4 = .ok (.aload_n 0, 1) := dk_42 (dk_at dksX5_copy_0 4 rfl rfl)
theorem dX5_copy_5 : decode cX5_copy 5 = .ok (.getfield 7, 3) := dk_180 0 7 (dk_at dksX5_copy_0 5 rfl rfl)
theorem dX5_copy_8 : decode cX5_copy 8 = .ok (.invokespecial 13, 3) := dk_183 0 13 (dk_at dksX5_copy_0 8 rfl rfl)
theorem dX5_copy_11 : decode cX5_copy 11 = .ok (.astore_n 1, 1) := dk_76 (dk_at dksX5_copy_0 11 rfl rfl)
theorem dX5_copy_12 : decode cX5_copy 12 = .ok (.aload_n 1, 1) := dk_43 (dk_at dksX5_copy_0 12 rfl rfl)
theorem dX5_copy_13 : decode cX5_copy 13 = .ok (.aload_n 0, 1) := dk_42 (dk_at dksX5_copy_0 13 rfl rfl)
theorem dX5_copy_14 : decode cX5_copy 14 = .ok (.getfield 16, 3) := dk_180 0 16 (dk_at dksX5_copy_0 14 rfl rfl)
theorem dX5_copy_17 : decode cX5_copy 17 = .ok (.putfield 16, 3) := dk_181 0 16 (dk_at dksX5_copy_0 17 rfl rfl)
theorem dX5_copy_20 : decode cX5_copy 20 = .ok (.aload_n 1, 1) := dk_43 (dk_at dksX5_copy_0 20 rfl rfl)
theorem dX5_copy_21 : decode cX5_copy 21 = .ok (.aload_n 0, 1) := dk_42 (dk_at dksX5_copy_0 21 rfl rfl)
theorem dX5_copy_22 : decode cX5_copy 22 = .ok (.getfield 19, 3) := dk_180 0 19 (dk_at dksX5_copy_1 0 rfl rfl)
theorem dX5_copy_25 : decode cX5_copy 25 = .ok (.putfield 19, 3) := dk_181 0 19 (dk_at dksX5_copy_1 3 rfl rfl)
theorem dX5_copy_28 : decode cX5_copy 28 = .ok (.aload_n 1, 1) := dk_43 (dk_at dksX5_copy_1 6 rfl rfl)
theorem dX5_copy_29 : decode cX5_copy 29 = .ok (.aload_n 0, 1) := dk_42 (dk_at dksX5_copy_1 7 rfl rfl)
theorem dX5_copy_30 : decode cX5_copy 30 = .ok (.getfield 22, 3) := dk_180 0 22 (dk_at dksX5_copy_1 8 rfl rfl)
theorem dX5_copy_33 : decode cX5_copy 33 = .ok (.putfield 22, 3) := dk_181 0 22 (dk_at dksX5_copy_1 11 rfl rfl)
theorem dX5_copy_36 : decode cX5_copy 36 = .ok (.aload_n 1, 1) := dk_43 (dk_at dksX5_copy_1 14 rfl rfl)
theorem dX5_copy_37 : decode cX5_copy 37 = .ok (.areturn, 1) := dk_176 (dk_at dksX5_copy_1 15 rfl rfl)
abbrev cX5_getNewPole : ByteArray := prog_4_method_4_code
def yX5_getNewPole : MethodName := ⟨RX5, "getNewPole", "()V"⟩
def dkwX5_getNewPole_0 : List UInt8 := [42, 3, 181, 0, 22, 42, 3, 181, 0, 16, 177]
abbrev dktX5_getNewPole_0 : List UInt8 := dkwX5_getNewPole_0 ++ []
theorem dksX5_getNewPole_0 : cX5_getNewPole.data.toList.drop 0 = dktX5_getNewPole_0 := by decide +kernel
theorem dX5_getNewPole_0 : decode cX5_getNewPole 0 = .ok (.aload_n 0, 1) := dk_42 (dk_at dksX5_getNewPole_0 0 rfl rfl)
theorem dX5_getNewPole_1 : decode cX5_getNewPole 1 = .ok (.iconst 0, 1) := dk_3 (dk_at dksX5_getNewPole_0 1 rfl rfl)
theorem dX5_getNewPole_2 : decode cX5_getNewPole 2 = .ok (.putfield 22, 3) := dk_181 0 22 (dk_at dksX5_getNewPole_0 2 rfl rfl)
theorem dX5_getNewPole_5 : decode cX5_getNewPole 5 = .ok (.aload_n 0, 1) := dk_42 (dk_at dksX5_getNewPole_0 5 rfl rfl)
theorem dX5_getNewPole_6 : decode cX5_getNewPole 6 = .ok (.iconst 0, 1) := dk_3 (dk_at dksX5_getNewPole_0 6 rfl rfl)
theorem dX5_getNewPole_7 : decode cX5_getNewPole 7 = .ok (.putfield 16, 3) := dk_181 0 16 (dk_at dksX5_getNewPole_0 7 rfl rfl)
theorem dX5_getNewPole_10 : decode cX5_getNewPole 10 = .ok (.return_, 1) := dk_177 (dk_at dksX5_getNewPole_0 10 rfl rfl)
theorem q98 : (Jvm.Cond.initialized "PostChaiseYard$Chaise") ∈ lw_all := lw_g (lw_at lw_m1 22 rfl) rfl
theorem q447 : (Jvm.Cond.selects "PostChaiseYard$Chaise" ({ cls := "java/lang/Object", name := "getClass", desc := "()Ljava/lang/Class;" } : Jvm.MethodName) ({ cls := "java/lang/Object", name := "getClass", desc := "()Ljava/lang/Class;" } : Jvm.MethodName)) ∈ lw_all := lw_g (lw_at lw_m2 131 rfl) rfl
theorem q531 : (Jvm.Cond.instantiable "PostChaiseYard$Chaise" (5 : Nat)) ∈ lw_all := lw_g (lw_at lw_m2 215 rfl) rfl
theorem q533 : (Jvm.Cond.instanceMethod ({ cls := "PostChaiseYard$Chaise", name := "<init>", desc := "(I)V" } : Jvm.MethodName)) ∈ lw_all := lw_g (lw_at lw_m2 217 rfl) rfl
theorem q534 : (Jvm.Cond.code ({ cls := "PostChaiseYard$Chaise", name := "<init>", desc := "(I)V" } : Jvm.MethodName) prog_4_method_1_code (2 : Nat) (Option.none : Option Jvm.ClassFile.FieldType)) ∈ lw_all := lw_g (lw_at lw_m2 218 rfl) rfl
theorem q535 : (Jvm.Cond.methodLink "PostChaiseYard$Chaise" (1 : Nat) ({ cls := "java/lang/Object", name := "<init>", desc := "()V" } : Jvm.MethodName)) ∈ lw_all := lw_g (lw_at lw_m2 219 rfl) rfl
theorem q536 : (Jvm.Cond.fieldLink "PostChaiseYard$Chaise" (7 : Nat) "PostChaiseYard$Chaise" "number" "I") ∈ lw_all := lw_g (lw_at lw_m2 220 rfl) rfl
theorem q539 : (Jvm.Cond.fieldLink "PostChaiseYard$Chaise" (16 : Nat) "PostChaiseYard$Chaise" "wear" "I") ∈ lw_all := lw_g (lw_at lw_m2 223 rfl) rfl
theorem q542 : (Jvm.Cond.fieldLink "PostChaiseYard$Chaise" (19 : Nat) "PostChaiseYard$Chaise" "miles" "I") ∈ lw_all := lw_g (lw_at lw_m2 226 rfl) rfl
theorem q545 : (Jvm.Cond.fieldLink "PostChaiseYard$Chaise" (22 : Nat) "PostChaiseYard$Chaise" "isBroken" "Z") ∈ lw_all := lw_g (lw_at lw_m2 229 rfl) rfl
theorem q549 : (Jvm.Cond.fieldLink "PostChaiseYard$Chaise" (26 : Nat) "PostChaiseYard$Chaise" "trip" "LPostChaiseYard$Trip;") ∈ lw_all := lw_g (lw_at lw_m2 233 rfl) rfl
theorem q552 : (Jvm.Cond.laysFinal "PostChaiseYard$Chaise" "PostChaiseYard$Chaise" "number" "I") ∈ lw_all := lw_g (lw_at lw_m2 236 rfl) rfl
theorem q553 : (Jvm.Cond.soleField "PostChaiseYard$Chaise" "number") ∈ lw_all := lw_g (lw_at lw_m2 237 rfl) rfl
theorem q554 : (Jvm.Cond.lays "PostChaiseYard$Chaise" "PostChaiseYard$Chaise" "wear" "I") ∈ lw_all := lw_g (lw_at lw_m2 238 rfl) rfl
theorem q555 : (Jvm.Cond.soleField "PostChaiseYard$Chaise" "wear") ∈ lw_all := lw_g (lw_at lw_m2 239 rfl) rfl
theorem q556 : (Jvm.Cond.lays "PostChaiseYard$Chaise" "PostChaiseYard$Chaise" "miles" "I") ∈ lw_all := lw_g (lw_at lw_m3 0 rfl) rfl
theorem q557 : (Jvm.Cond.soleField "PostChaiseYard$Chaise" "miles") ∈ lw_all := lw_g (lw_at lw_m3 1 rfl) rfl
theorem q558 : (Jvm.Cond.lays "PostChaiseYard$Chaise" "PostChaiseYard$Chaise" "isBroken" "Z") ∈ lw_all := lw_g (lw_at lw_m3 2 rfl) rfl
theorem q559 : (Jvm.Cond.soleField "PostChaiseYard$Chaise" "isBroken") ∈ lw_all := lw_g (lw_at lw_m3 3 rfl) rfl
theorem q560 : (Jvm.Cond.lays "PostChaiseYard$Chaise" "PostChaiseYard$Chaise" "trip" "LPostChaiseYard$Trip;") ∈ lw_all := lw_g (lw_at lw_m3 4 rfl) rfl
theorem q561 : (Jvm.Cond.soleField "PostChaiseYard$Chaise" "trip") ∈ lw_all := lw_g (lw_at lw_m3 5 rfl) rfl
theorem q562 : (Jvm.Cond.superclass "PostChaiseYard$Chaise" "java/lang/Object") ∈ lw_all := lw_g (lw_at lw_m3 6 rfl) rfl
theorem q604 : (Jvm.Cond.castable "PostChaiseYard$Chaise" "java/lang/Comparable") ∈ lw_tbl := lw_at lw_m3 48 rfl
theorem q605 : (Jvm.Cond.selects "PostChaiseYard$Chaise" ({ cls := "java/lang/Comparable", name := "compareTo", desc := "(Ljava/lang/Object;)I" } : Jvm.MethodName) ({ cls := "PostChaiseYard$Chaise", name := "compareTo", desc := "(Ljava/lang/Object;)I" } : Jvm.MethodName)) ∈ lw_all := lw_g (lw_at lw_m3 49 rfl) rfl
theorem q606 : (Jvm.Cond.unhidden "PostChaiseYard$Chaise" "compareTo" "(Ljava/lang/Object;)I") ∈ lw_tbl := lw_at lw_m3 50 rfl
theorem q607 : (Jvm.Cond.instanceMethod ({ cls := "PostChaiseYard$Chaise", name := "compareTo", desc := "(Ljava/lang/Object;)I" } : Jvm.MethodName)) ∈ lw_all := lw_g (lw_at lw_m3 51 rfl) rfl
theorem q608 : (Jvm.Cond.publicMethod ({ cls := "PostChaiseYard$Chaise", name := "compareTo", desc := "(Ljava/lang/Object;)I" } : Jvm.MethodName)) ∈ lw_tbl := lw_at lw_m3 52 rfl
theorem q609 : (Jvm.Cond.code ({ cls := "PostChaiseYard$Chaise", name := "compareTo", desc := "(Ljava/lang/Object;)I" } : Jvm.MethodName) prog_4_method_6_code (2 : Nat) (Option.some Jvm.ClassFile.FieldType.int)) ∈ lw_all := lw_g (lw_at lw_m3 53 rfl) rfl
theorem q610 : (Jvm.Cond.classLink "PostChaiseYard$Chaise" (8 : Nat) "PostChaiseYard$Chaise") ∈ lw_all := lw_g (lw_at lw_m3 54 rfl) rfl
theorem q611 : (Jvm.Cond.methodLink "PostChaiseYard$Chaise" (36 : Nat) ({ cls := "PostChaiseYard$Chaise", name := "compareTo", desc := "(LPostChaiseYard$Chaise;)I" } : Jvm.MethodName)) ∈ lw_all := lw_g (lw_at lw_m3 55 rfl) rfl
theorem q612 : (Jvm.Cond.instanceMethod ({ cls := "PostChaiseYard$Chaise", name := "compareTo", desc := "(LPostChaiseYard$Chaise;)I" } : Jvm.MethodName)) ∈ lw_all := lw_g (lw_at lw_m3 56 rfl) rfl
theorem q613 : (Jvm.Cond.selects "PostChaiseYard$Chaise" ({ cls := "PostChaiseYard$Chaise", name := "compareTo", desc := "(LPostChaiseYard$Chaise;)I" } : Jvm.MethodName) ({ cls := "PostChaiseYard$Chaise", name := "compareTo", desc := "(LPostChaiseYard$Chaise;)I" } : Jvm.MethodName)) ∈ lw_all := lw_g (lw_at lw_m3 57 rfl) rfl
theorem q614 : (Jvm.Cond.code ({ cls := "PostChaiseYard$Chaise", name := "compareTo", desc := "(LPostChaiseYard$Chaise;)I" } : Jvm.MethodName) prog_4_method_5_code (2 : Nat) (Option.some Jvm.ClassFile.FieldType.int)) ∈ lw_all := lw_g (lw_at lw_m3 58 rfl) rfl
theorem q615 : (Jvm.Cond.methodLink "PostChaiseYard$Chaise" (30 : Nat) ({ cls := "java/lang/Integer", name := "compare", desc := "(II)I" } : Jvm.MethodName)) ∈ lw_all := lw_g (lw_at lw_m3 59 rfl) rfl
theorem q1108 : (Jvm.Cond.instanceMethod ({ cls := "PostChaiseYard$Chaise", name := "isReady", desc := "()Z" } : Jvm.MethodName)) ∈ lw_all := lw_g (lw_at lw_m5 72 rfl) rfl
theorem q1109 : (Jvm.Cond.selects "PostChaiseYard$Chaise" ({ cls := "PostChaiseYard$Chaise", name := "isReady", desc := "()Z" } : Jvm.MethodName) ({ cls := "PostChaiseYard$Chaise", name := "isReady", desc := "()Z" } : Jvm.MethodName)) ∈ lw_all := lw_g (lw_at lw_m5 73 rfl) rfl
theorem q1110 : (Jvm.Cond.code ({ cls := "PostChaiseYard$Chaise", name := "isReady", desc := "()Z" } : Jvm.MethodName) prog_4_method_3_code (1 : Nat) (Option.some Jvm.ClassFile.FieldType.boolean)) ∈ lw_all := lw_g (lw_at lw_m5 74 rfl) rfl
theorem q1692 : (Jvm.Cond.instanceMethod ({ cls := "PostChaiseYard$Chaise", name := "copy", desc := "()LPostChaiseYard$Chaise;" } : Jvm.MethodName)) ∈ lw_all := lw_g (lw_at lw_m7 176 rfl) rfl
theorem q1693 : (Jvm.Cond.selects "PostChaiseYard$Chaise" ({ cls := "PostChaiseYard$Chaise", name := "copy", desc := "()LPostChaiseYard$Chaise;" } : Jvm.MethodName) ({ cls := "PostChaiseYard$Chaise", name := "copy", desc := "()LPostChaiseYard$Chaise;" } : Jvm.MethodName)) ∈ lw_all := lw_g (lw_at lw_m7 177 rfl) rfl
theorem q1694 : (Jvm.Cond.code ({ cls := "PostChaiseYard$Chaise", name := "copy", desc := "()LPostChaiseYard$Chaise;" } : Jvm.MethodName) prog_4_method_2_code (2 : Nat) (Option.some (Jvm.ClassFile.FieldType.object "PostChaiseYard$Chaise"))) ∈ lw_all := lw_g (lw_at lw_m7 178 rfl) rfl
theorem q1695 : (Jvm.Cond.methodLink "PostChaiseYard$Chaise" (13 : Nat) ({ cls := "PostChaiseYard$Chaise", name := "<init>", desc := "(I)V" } : Jvm.MethodName)) ∈ lw_all := lw_g (lw_at lw_m7 179 rfl) rfl
theorem q1926 : (Jvm.Cond.instanceMethod ({ cls := "PostChaiseYard$Chaise", name := "getNewPole", desc := "()V" } : Jvm.MethodName)) ∈ lw_all := lw_g (lw_at lw_m8 170 rfl) rfl
theorem q1927 : (Jvm.Cond.selects "PostChaiseYard$Chaise" ({ cls := "PostChaiseYard$Chaise", name := "getNewPole", desc := "()V" } : Jvm.MethodName) ({ cls := "PostChaiseYard$Chaise", name := "getNewPole", desc := "()V" } : Jvm.MethodName)) ∈ lw_all := lw_g (lw_at lw_m8 171 rfl) rfl
theorem q1928 : (Jvm.Cond.code ({ cls := "PostChaiseYard$Chaise", name := "getNewPole", desc := "()V" } : Jvm.MethodName) prog_4_method_4_code (1 : Nat) (Option.none : Option Jvm.ClassFile.FieldType)) ∈ lw_all := lw_g (lw_at lw_m8 172 rfl) rfl
theorem q2106 : (Jvm.Cond.selects "PostChaiseYard$Chaise" ({ cls := "java/lang/Object", name := "equals", desc := "(Ljava/lang/Object;)Z" } : Jvm.MethodName) ({ cls := "java/lang/Object", name := "equals", desc := "(Ljava/lang/Object;)Z" } : Jvm.MethodName)) ∈ lw_all := lw_g (lw_at lw_m9 110 rfl) rfl
theorem q3002 : (Jvm.Cond.castable "PostChaiseYard$Chaise" "java/lang/Object") ∈ lw_tbl := lw_at lw_m13 46 rfl
theorem in_X5 : ∀ w ∈ wsX50, w ∈ lw_all := lw_in wsX50 [552, 554, 556, 558, 560] (by decide +kernel) (by decide +kernel)

/-! PostChaiseYard$Trip -/
set_option maxRecDepth 100000
def RX7 : String := "PostChaiseYard$Trip"
def TX7 : u_T := fun k => match k with
  | 0 => ("PostChaiseYard$Trip", "guest", "LPostChaiseYard$Guest;", true)
  | 1 => ("PostChaiseYard$Trip", "pair", "LPostChaiseYard$Pair;", true)
  | 2 => ("PostChaiseYard$Trip", "boy", "LPostChaiseYard$Boy;", true)
  | 3 => ("PostChaiseYard$Trip", "wayOut", "I", true)
  | 4 => ("PostChaiseYard$Trip", "bothWays", "I", true)
  | _ => ("PostChaiseYard$Trip", "left", "I", false)
def tyX7 : Nat → FieldType := fun k => match k with
  | 0 => .object "PostChaiseYard$Guest"
  | 1 => .object "PostChaiseYard$Pair"
  | 2 => .object "PostChaiseYard$Boy"
  | 3 => .int
  | 4 => .int
  | _ => .int
abbrev wsX70 : List Cond := u_ws RX7 TX7 6
theorem nmX7 : ∀ a, a < 6 → ∀ b, b < 6 → a ≠ b → (TX7 a).2.1 ≠ (TX7 b).2.1 := by decide +kernel
theorem tyX7_ok : ∀ k, k < 6 → parseFieldDescriptor (TX7 k).2.2.1 = some (tyX7 k) := by decide +kernel
abbrev cX7_copy : ByteArray := prog_11_method_2_code
def yX7_copy : MethodName := ⟨RX7, "copy", "(LPostChaiseYard$Pair;LPostChaiseYard$Boy;)LPostChaiseYard$Trip;"⟩
def dkwX7_copy_1 : List UInt8 := [180, 0, 28, 181, 0, 28, 45, 176]
abbrev dktX7_copy_1 : List UInt8 := dkwX7_copy_1 ++ []
def dkwX7_copy_0 : List UInt8 := [187, 0, 8, 89, 42, 180, 0, 7, 43, 44, 42, 180, 0, 21, 42, 180, 0, 25, 183, 0, 31, 78, 45, 42]
abbrev dktX7_copy_0 : List UInt8 := dkwX7_copy_0 ++ dktX7_copy_1
theorem dksX7_copy_0 : cX7_copy.data.toList.drop 0 = dktX7_copy_0 := by decide +kernel
theorem dksX7_copy_1 : cX7_copy.data.toList.drop 24 = dktX7_copy_1 := dk_seg dksX7_copy_0 24 rfl rfl
theorem dX7_copy_0 : decode cX7_copy 0 = .ok (.new 8, 3) := dk_187 0 8 (dk_at dksX7_copy_0 0 rfl rfl)
theorem dX7_copy_3 : decode cX7_copy 3 = .ok (.dup, 1) := dk_89 (dk_at dksX7_copy_0 3 rfl rfl)
theorem dX7_copy_4 : decode cX7_copy 4 = .ok (.aload_n 0, 1) := dk_42 (dk_at dksX7_copy_0 4 rfl rfl)
theorem dX7_copy_5 : decode cX7_copy 5 = .ok (.getfield 7, 3) := dk_180 0 7 (dk_at dksX7_copy_0 5 rfl rfl)
theorem dX7_copy_8 : decode cX7_copy 8 = .ok (.aload_n 1, 1) := dk_43 (dk_at dksX7_copy_0 8 rfl rfl)
theorem dX7_copy_9 : decode cX7_copy 9 = .ok (.aload_n 2, 1) := dk_44 (dk_at dksX7_copy_0 9 rfl rfl)
theorem dX7_copy_10 : decode cX7_copy 10 = .ok (.aload_n 0, 1) := dk_42 (dk_at dksX7_copy_0 10 rfl rfl)
theorem dX7_copy_11 : decode cX7_copy 11 = .ok (.getfield 21, 3) := dk_180 0 21 (dk_at dksX7_copy_0 11 rfl rfl)
theorem dX7_copy_14 : decode cX7_copy 14 = .ok (.aload_n 0, 1) := dk_42 (dk_at dksX7_copy_0 14 rfl rfl)
theorem dX7_copy_15 : decode cX7_copy 15 = .ok (.getfield 25, 3) := dk_180 0 25 (dk_at dksX7_copy_0 15 rfl rfl)
theorem dX7_copy_18 : decode cX7_copy 18 = .ok (.invokespecial 31, 3) := dk_183 0 31 (dk_at dksX7_copy_0 18 rfl rfl)
theorem dX7_copy_21 : decode cX7_copy 21 = .ok (.astore_n 3, 1) := dk_78 (dk_at dksX7_copy_0 21 rfl rfl)
theorem dX7_copy_22 : decode cX7_copy 22 = .ok (.aload_n 3, 1) := dk_45 (dk_at dksX7_copy_0 22 rfl rfl)
theorem dX7_copy_23 : decode cX7_copy 23 = .ok (.aload_n 0, 1) := dk_42 (dk_at dksX7_copy_0 23 rfl rfl)
theorem dX7_copy_24 : decode cX7_copy 24 = .ok (.getfield 28, 3) := dk_180 0 28 (dk_at dksX7_copy_1 0 rfl rfl)
theorem dX7_copy_27 : decode cX7_copy 27 = .ok (.putfield 28, 3) := dk_181 0 28 (dk_at dksX7_copy_1 3 rfl rfl)
theorem dX7_copy_30 : decode cX7_copy 30 = .ok (.aload_n 3, 1) := dk_45 (dk_at dksX7_copy_1 6 rfl rfl)
theorem dX7_copy_31 : decode cX7_copy 31 = .ok (.areturn, 1) := dk_176 (dk_at dksX7_copy_1 7 rfl rfl)
abbrev cX7_init : ByteArray := prog_11_method_1_code
def yX7_init : MethodName := ⟨RX7, "<init>", "(LPostChaiseYard$Guest;LPostChaiseYard$Pair;LPostChaiseYard$Boy;II)V"⟩
def dkwX7_init_1 : List UInt8 := [181, 0, 21, 42, 21, 5, 181, 0, 25, 42, 21, 5, 181, 0, 28, 177]
abbrev dktX7_init_1 : List UInt8 := dkwX7_init_1 ++ []
def dkwX7_init_0 : List UInt8 := [42, 183, 0, 1, 42, 43, 181, 0, 7, 42, 44, 181, 0, 13, 42, 45, 181, 0, 17, 42, 21, 4]
abbrev dktX7_init_0 : List UInt8 := dkwX7_init_0 ++ dktX7_init_1
theorem dksX7_init_0 : cX7_init.data.toList.drop 0 = dktX7_init_0 := by decide +kernel
theorem dksX7_init_1 : cX7_init.data.toList.drop 22 = dktX7_init_1 := dk_seg dksX7_init_0 22 rfl rfl
theorem dX7_init_0 : decode cX7_init 0 = .ok (.aload_n 0, 1) := dk_42 (dk_at dksX7_init_0 0 rfl rfl)
theorem dX7_init_1 : decode cX7_init 1 = .ok (.invokespecial 1, 3) := dk_183 0 1 (dk_at dksX7_init_0 1 rfl rfl)
theorem dX7_init_4 : decode cX7_init 4 = .ok (.aload_n 0, 1) := dk_42 (dk_at dksX7_init_0 4 rfl rfl)
theorem dX7_init_5 : decode cX7_init 5 = .ok (.aload_n 1, 1) := dk_43 (dk_at dksX7_init_0 5 rfl rfl)
theorem dX7_init_6 : decode cX7_init 6 = .ok (.putfield 7, 3) := dk_181 0 7 (dk_at dksX7_init_0 6 rfl rfl)
theorem dX7_init_9 : decode cX7_init 9 = .ok (.aload_n 0, 1) := dk_42 (dk_at dksX7_init_0 9 rfl rfl)
theorem dX7_init_10 : decode cX7_init 10 = .ok (.aload_n 2, 1) := dk_44 (dk_at dksX7_init_0 10 rfl rfl)
theorem dX7_init_11 : decode cX7_init 11 = .ok (.putfield 13, 3) := dk_181 0 13 (dk_at dksX7_init_0 11 rfl rfl)
theorem dX7_init_14 : decode cX7_init 14 = .ok (.aload_n 0, 1) := dk_42 (dk_at dksX7_init_0 14 rfl rfl)
theorem dX7_init_15 : decode cX7_init 15 = .ok (.aload_n 3, 1) := dk_45 (dk_at dksX7_init_0 15 rfl rfl)
theorem dX7_init_16 : decode cX7_init 16 = .ok (.putfield 17, 3) := dk_181 0 17 (dk_at dksX7_init_0 16 rfl rfl)
theorem dX7_init_19 : decode cX7_init 19 = .ok (.aload_n 0, 1) := dk_42 (dk_at dksX7_init_0 19 rfl rfl)
theorem dX7_init_20 : decode cX7_init 20 = .ok (.iload 4, 2) := dk_21 4 (dk_at dksX7_init_0 20 rfl rfl)
theorem dX7_init_22 : decode cX7_init 22 = .ok (.putfield 21, 3) := dk_181 0 21 (dk_at dksX7_init_1 0 rfl rfl)
theorem dX7_init_25 : decode cX7_init 25 = .ok (.aload_n 0, 1) := dk_42 (dk_at dksX7_init_1 3 rfl rfl)
theorem dX7_init_26 : decode cX7_init 26 = .ok (.iload 5, 2) := dk_21 5 (dk_at dksX7_init_1 4 rfl rfl)
theorem dX7_init_28 : decode cX7_init 28 = .ok (.putfield 25, 3) := dk_181 0 25 (dk_at dksX7_init_1 6 rfl rfl)
theorem dX7_init_31 : decode cX7_init 31 = .ok (.aload_n 0, 1) := dk_42 (dk_at dksX7_init_1 9 rfl rfl)
theorem dX7_init_32 : decode cX7_init 32 = .ok (.iload 5, 2) := dk_21 5 (dk_at dksX7_init_1 10 rfl rfl)
theorem dX7_init_34 : decode cX7_init 34 = .ok (.putfield 28, 3) := dk_181 0 28 (dk_at dksX7_init_1 12 rfl rfl)
theorem dX7_init_37 : decode cX7_init 37 = .ok (.return_, 1) := dk_177 (dk_at dksX7_init_1 15 rfl rfl)
theorem q119 : (Jvm.Cond.initialized "PostChaiseYard$Trip") ∈ lw_all := lw_g (lw_at lw_m1 43 rfl) rfl
theorem q454 : (Jvm.Cond.selects "PostChaiseYard$Trip" ({ cls := "java/lang/Object", name := "getClass", desc := "()Ljava/lang/Class;" } : Jvm.MethodName) ({ cls := "java/lang/Object", name := "getClass", desc := "()Ljava/lang/Class;" } : Jvm.MethodName)) ∈ lw_all := lw_g (lw_at lw_m2 138 rfl) rfl
theorem q1697 : (Jvm.Cond.instanceMethod ({ cls := "PostChaiseYard$Trip", name := "copy", desc := "(LPostChaiseYard$Pair;LPostChaiseYard$Boy;)LPostChaiseYard$Trip;" } : Jvm.MethodName)) ∈ lw_all := lw_g (lw_at lw_m7 181 rfl) rfl
theorem q1698 : (Jvm.Cond.selects "PostChaiseYard$Trip" ({ cls := "PostChaiseYard$Trip", name := "copy", desc := "(LPostChaiseYard$Pair;LPostChaiseYard$Boy;)LPostChaiseYard$Trip;" } : Jvm.MethodName) ({ cls := "PostChaiseYard$Trip", name := "copy", desc := "(LPostChaiseYard$Pair;LPostChaiseYard$Boy;)LPostChaiseYard$Trip;" } : Jvm.MethodName)) ∈ lw_all := lw_g (lw_at lw_m7 182 rfl) rfl
theorem q1699 : (Jvm.Cond.code ({ cls := "PostChaiseYard$Trip", name := "copy", desc := "(LPostChaiseYard$Pair;LPostChaiseYard$Boy;)LPostChaiseYard$Trip;" } : Jvm.MethodName) prog_11_method_2_code (4 : Nat) (Option.some (Jvm.ClassFile.FieldType.object "PostChaiseYard$Trip"))) ∈ lw_all := lw_g (lw_at lw_m7 183 rfl) rfl
theorem q1700 : (Jvm.Cond.classLink "PostChaiseYard$Trip" (8 : Nat) "PostChaiseYard$Trip") ∈ lw_all := lw_g (lw_at lw_m7 184 rfl) rfl
theorem q1701 : (Jvm.Cond.instantiable "PostChaiseYard$Trip" (6 : Nat)) ∈ lw_all := lw_g (lw_at lw_m7 185 rfl) rfl
theorem q1702 : (Jvm.Cond.methodLink "PostChaiseYard$Trip" (31 : Nat) ({ cls := "PostChaiseYard$Trip", name := "<init>", desc := "(LPostChaiseYard$Guest;LPostChaiseYard$Pair;LPostChaiseYard$Boy;II)V" } : Jvm.MethodName)) ∈ lw_all := lw_g (lw_at lw_m7 186 rfl) rfl
theorem q1703 : (Jvm.Cond.instanceMethod ({ cls := "PostChaiseYard$Trip", name := "<init>", desc := "(LPostChaiseYard$Guest;LPostChaiseYard$Pair;LPostChaiseYard$Boy;II)V" } : Jvm.MethodName)) ∈ lw_all := lw_g (lw_at lw_m7 187 rfl) rfl
theorem q1704 : (Jvm.Cond.code ({ cls := "PostChaiseYard$Trip", name := "<init>", desc := "(LPostChaiseYard$Guest;LPostChaiseYard$Pair;LPostChaiseYard$Boy;II)V" } : Jvm.MethodName) prog_11_method_1_code (6 : Nat) (Option.none : Option Jvm.ClassFile.FieldType)) ∈ lw_all := lw_g (lw_at lw_m7 188 rfl) rfl
theorem q1705 : (Jvm.Cond.methodLink "PostChaiseYard$Trip" (1 : Nat) ({ cls := "java/lang/Object", name := "<init>", desc := "()V" } : Jvm.MethodName)) ∈ lw_all := lw_g (lw_at lw_m7 189 rfl) rfl
theorem q1706 : (Jvm.Cond.fieldLink "PostChaiseYard$Trip" (7 : Nat) "PostChaiseYard$Trip" "guest" "LPostChaiseYard$Guest;") ∈ lw_all := lw_g (lw_at lw_m7 190 rfl) rfl
theorem q1709 : (Jvm.Cond.fieldLink "PostChaiseYard$Trip" (13 : Nat) "PostChaiseYard$Trip" "pair" "LPostChaiseYard$Pair;") ∈ lw_all := lw_g (lw_at lw_m7 193 rfl) rfl
theorem q1711 : (Jvm.Cond.fieldLink "PostChaiseYard$Trip" (17 : Nat) "PostChaiseYard$Trip" "boy" "LPostChaiseYard$Boy;") ∈ lw_all := lw_g (lw_at lw_m7 195 rfl) rfl
theorem q1713 : (Jvm.Cond.fieldLink "PostChaiseYard$Trip" (21 : Nat) "PostChaiseYard$Trip" "wayOut" "I") ∈ lw_all := lw_g (lw_at lw_m7 197 rfl) rfl
theorem q1715 : (Jvm.Cond.fieldLink "PostChaiseYard$Trip" (25 : Nat) "PostChaiseYard$Trip" "bothWays" "I") ∈ lw_all := lw_g (lw_at lw_m7 199 rfl) rfl
theorem q1717 : (Jvm.Cond.fieldLink "PostChaiseYard$Trip" (28 : Nat) "PostChaiseYard$Trip" "left" "I") ∈ lw_all := lw_g (lw_at lw_m7 201 rfl) rfl
theorem q1720 : (Jvm.Cond.laysFinal "PostChaiseYard$Trip" "PostChaiseYard$Trip" "guest" "LPostChaiseYard$Guest;") ∈ lw_all := lw_g (lw_at lw_m7 204 rfl) rfl
theorem q1721 : (Jvm.Cond.soleField "PostChaiseYard$Trip" "guest") ∈ lw_all := lw_g (lw_at lw_m7 205 rfl) rfl
theorem q1722 : (Jvm.Cond.laysFinal "PostChaiseYard$Trip" "PostChaiseYard$Trip" "pair" "LPostChaiseYard$Pair;") ∈ lw_all := lw_g (lw_at lw_m7 206 rfl) rfl
theorem q1723 : (Jvm.Cond.soleField "PostChaiseYard$Trip" "pair") ∈ lw_all := lw_g (lw_at lw_m7 207 rfl) rfl
theorem q1724 : (Jvm.Cond.laysFinal "PostChaiseYard$Trip" "PostChaiseYard$Trip" "boy" "LPostChaiseYard$Boy;") ∈ lw_all := lw_g (lw_at lw_m7 208 rfl) rfl
theorem q1725 : (Jvm.Cond.soleField "PostChaiseYard$Trip" "boy") ∈ lw_all := lw_g (lw_at lw_m7 209 rfl) rfl
theorem q1726 : (Jvm.Cond.laysFinal "PostChaiseYard$Trip" "PostChaiseYard$Trip" "wayOut" "I") ∈ lw_all := lw_g (lw_at lw_m7 210 rfl) rfl
theorem q1727 : (Jvm.Cond.soleField "PostChaiseYard$Trip" "wayOut") ∈ lw_all := lw_g (lw_at lw_m7 211 rfl) rfl
theorem q1728 : (Jvm.Cond.laysFinal "PostChaiseYard$Trip" "PostChaiseYard$Trip" "bothWays" "I") ∈ lw_all := lw_g (lw_at lw_m7 212 rfl) rfl
theorem q1729 : (Jvm.Cond.soleField "PostChaiseYard$Trip" "bothWays") ∈ lw_all := lw_g (lw_at lw_m7 213 rfl) rfl
theorem q1730 : (Jvm.Cond.lays "PostChaiseYard$Trip" "PostChaiseYard$Trip" "left" "I") ∈ lw_all := lw_g (lw_at lw_m7 214 rfl) rfl
theorem q1731 : (Jvm.Cond.soleField "PostChaiseYard$Trip" "left") ∈ lw_all := lw_g (lw_at lw_m7 215 rfl) rfl
theorem q1732 : (Jvm.Cond.superclass "PostChaiseYard$Trip" "java/lang/Object") ∈ lw_all := lw_g (lw_at lw_m7 216 rfl) rfl
theorem q2115 : (Jvm.Cond.selects "PostChaiseYard$Trip" ({ cls := "java/lang/Object", name := "equals", desc := "(Ljava/lang/Object;)Z" } : Jvm.MethodName) ({ cls := "java/lang/Object", name := "equals", desc := "(Ljava/lang/Object;)Z" } : Jvm.MethodName)) ∈ lw_all := lw_g (lw_at lw_m9 119 rfl) rfl
theorem q3013 : (Jvm.Cond.castable "PostChaiseYard$Trip" "java/lang/Object") ∈ lw_tbl := lw_at lw_m13 57 rfl
theorem in_X7 : ∀ w ∈ wsX70, w ∈ lw_all := lw_in wsX70 [1720, 1722, 1724, 1726, 1728, 1730] (by decide +kernel) (by decide +kernel)

/-! PostChaiseYard$Guest -/
set_option maxRecDepth 100000
def RX8 : String := "PostChaiseYard$Guest"
def TX8 : u_T := fun k => match k with
  | 0 => ("PostChaiseYard$Guest", "number", "I", true)
  | 1 => ("PostChaiseYard$Guest", "rank", "I", true)
  | 2 => ("PostChaiseYard$Guest", "road", "I", true)
  | _ => ("PostChaiseYard$Guest", "came", "I", true)
def tyX8 : Nat → FieldType := fun k => match k with
  | 0 => .int
  | 1 => .int
  | 2 => .int
  | _ => .int
abbrev wsX80 : List Cond := u_ws RX8 TX8 4
theorem nmX8 : ∀ a, a < 4 → ∀ b, b < 4 → a ≠ b → (TX8 a).2.1 ≠ (TX8 b).2.1 := by decide +kernel
theorem tyX8_ok : ∀ k, k < 4 → parseFieldDescriptor (TX8 k).2.2.1 = some (tyX8 k) := by decide +kernel
abbrev cX8_compareTo : ByteArray := prog_5_method_4_code
def yX8_compareTo : MethodName := ⟨RX8, "compareTo", "(Ljava/lang/Object;)I"⟩
def dkwX8_compareTo_0 : List UInt8 := [42, 43, 192, 0, 8, 182, 0, 34, 172]
abbrev dktX8_compareTo_0 : List UInt8 := dkwX8_compareTo_0 ++ []
theorem dksX8_compareTo_0 : cX8_compareTo.data.toList.drop 0 = dktX8_compareTo_0 := by decide +kernel
theorem dX8_compareTo_0 : decode cX8_compareTo 0 = .ok (.aload_n 0, 1) := dk_42 (dk_at dksX8_compareTo_0 0 rfl rfl)
theorem dX8_compareTo_1 : decode cX8_compareTo 1 = .ok (.aload_n 1, 1) := dk_43 (dk_at dksX8_compareTo_0 1 rfl rfl)
theorem dX8_compareTo_2 : decode cX8_compareTo 2 = .ok (.checkcast 8, 3) := dk_192 0 8 (dk_at dksX8_compareTo_0 2 rfl rfl)
theorem dX8_compareTo_5 : decode cX8_compareTo 5 = .ok (.invokevirtual 34, 3) := dk_182 0 34 (dk_at dksX8_compareTo_0 5 rfl rfl)
theorem dX8_compareTo_8 : decode cX8_compareTo 8 = .ok (.ireturn, 1) := dk_172 (dk_at dksX8_compareTo_0 8 rfl rfl)
abbrev cX8_compareTo_2 : ByteArray := prog_5_method_3_code
def yX8_compareTo_2 : MethodName := ⟨RX8, "compareTo", "(LPostChaiseYard$Guest;)I"⟩
def dkwX8_compareTo_2_1 : List UInt8 := [167, 0, 14, 42, 180, 0, 7, 43, 180, 0, 7, 184, 0, 28, 172]
abbrev dktX8_compareTo_2_1 : List UInt8 := dkwX8_compareTo_2_1 ++ []
def dkwX8_compareTo_2_0 : List UInt8 := [42, 180, 0, 13, 43, 180, 0, 13, 159, 0, 17, 42, 180, 0, 13, 43, 180, 0, 13, 184, 0, 28]
abbrev dktX8_compareTo_2_0 : List UInt8 := dkwX8_compareTo_2_0 ++ dktX8_compareTo_2_1
theorem dksX8_compareTo_2_0 : cX8_compareTo_2.data.toList.drop 0 = dktX8_compareTo_2_0 := by decide +kernel
theorem dksX8_compareTo_2_1 : cX8_compareTo_2.data.toList.drop 22 = dktX8_compareTo_2_1 := dk_seg dksX8_compareTo_2_0 22 rfl rfl
theorem dX8_compareTo_2_0 : decode cX8_compareTo_2 0 = .ok (.aload_n 0, 1) := dk_42 (dk_at dksX8_compareTo_2_0 0 rfl rfl)
theorem dX8_compareTo_2_1 : decode cX8_compareTo_2 1 = .ok (.getfield 13, 3) := dk_180 0 13 (dk_at dksX8_compareTo_2_0 1 rfl rfl)
theorem dX8_compareTo_2_4 : decode cX8_compareTo_2 4 = .ok (.aload_n 1, 1) := dk_43 (dk_at dksX8_compareTo_2_0 4 rfl rfl)
theorem dX8_compareTo_2_5 : decode cX8_compareTo_2 5 = .ok (.getfield 13, 3) := dk_180 0 13 (dk_at dksX8_compareTo_2_0 5 rfl rfl)
theorem dX8_compareTo_2_8 : decode cX8_compareTo_2 8 = .ok (.if_icmp .eq 17, 3) := dk_159 0 17 (dk_at dksX8_compareTo_2_0 8 rfl rfl)
theorem dX8_compareTo_2_11 : decode cX8_compareTo_2 11 = .ok (.aload_n 0, 1) := dk_42 (dk_at dksX8_compareTo_2_0 11 rfl rfl)
theorem dX8_compareTo_2_12 : decode cX8_compareTo_2 12 = .ok (.getfield 13, 3) := dk_180 0 13 (dk_at dksX8_compareTo_2_0 12 rfl rfl)
theorem dX8_compareTo_2_15 : decode cX8_compareTo_2 15 = .ok (.aload_n 1, 1) := dk_43 (dk_at dksX8_compareTo_2_0 15 rfl rfl)
theorem dX8_compareTo_2_16 : decode cX8_compareTo_2 16 = .ok (.getfield 13, 3) := dk_180 0 13 (dk_at dksX8_compareTo_2_0 16 rfl rfl)
theorem dX8_compareTo_2_19 : decode cX8_compareTo_2 19 = .ok (.invokestatic 28, 3) := dk_184 0 28 (dk_at dksX8_compareTo_2_0 19 rfl rfl)
theorem dX8_compareTo_2_22 : decode cX8_compareTo_2 22 = .ok (.goto 14, 3) := dk_167 0 14 (dk_at dksX8_compareTo_2_1 0 rfl rfl)
theorem dX8_compareTo_2_25 : decode cX8_compareTo_2 25 = .ok (.aload_n 0, 1) := dk_42 (dk_at dksX8_compareTo_2_1 3 rfl rfl)
theorem dX8_compareTo_2_26 : decode cX8_compareTo_2 26 = .ok (.getfield 7, 3) := dk_180 0 7 (dk_at dksX8_compareTo_2_1 4 rfl rfl)
theorem dX8_compareTo_2_29 : decode cX8_compareTo_2 29 = .ok (.aload_n 1, 1) := dk_43 (dk_at dksX8_compareTo_2_1 7 rfl rfl)
theorem dX8_compareTo_2_30 : decode cX8_compareTo_2 30 = .ok (.getfield 7, 3) := dk_180 0 7 (dk_at dksX8_compareTo_2_1 8 rfl rfl)
theorem dX8_compareTo_2_33 : decode cX8_compareTo_2 33 = .ok (.invokestatic 28, 3) := dk_184 0 28 (dk_at dksX8_compareTo_2_1 11 rfl rfl)
theorem dX8_compareTo_2_36 : decode cX8_compareTo_2 36 = .ok (.ireturn, 1) := dk_172 (dk_at dksX8_compareTo_2_1 14 rfl rfl)
abbrev cX8_fare : ByteArray := prog_5_method_2_code
def yX8_fare : MethodName := ⟨RX8, "fare", "()I"⟩
def dkwX8_fare_1 : List UInt8 := [167, 0, 5, 16, 14, 60, 27, 42, 180, 0, 16, 184, 0, 22, 104, 172]
abbrev dktX8_fare_1 : List UInt8 := dkwX8_fare_1 ++ []
def dkwX8_fare_0 : List UInt8 := [42, 180, 0, 13, 154, 0, 8, 16, 28, 167, 0, 18, 42, 180, 0, 13, 4, 160, 0, 8, 16, 21]
abbrev dktX8_fare_0 : List UInt8 := dkwX8_fare_0 ++ dktX8_fare_1
theorem dksX8_fare_0 : cX8_fare.data.toList.drop 0 = dktX8_fare_0 := by decide +kernel
theorem dksX8_fare_1 : cX8_fare.data.toList.drop 22 = dktX8_fare_1 := dk_seg dksX8_fare_0 22 rfl rfl
theorem dX8_fare_0 : decode cX8_fare 0 = .ok (.aload_n 0, 1) := dk_42 (dk_at dksX8_fare_0 0 rfl rfl)
theorem dX8_fare_1 : decode cX8_fare 1 = .ok (.getfield 13, 3) := dk_180 0 13 (dk_at dksX8_fare_0 1 rfl rfl)
theorem dX8_fare_4 : decode cX8_fare 4 = .ok (.ifCond .ne 8, 3) := dk_154 0 8 (dk_at dksX8_fare_0 4 rfl rfl)
theorem dX8_fare_7 : decode cX8_fare 7 = .ok (.bipush 28, 2) := dk_16 28 (dk_at dksX8_fare_0 7 rfl rfl)
theorem dX8_fare_9 : decode cX8_fare 9 = .ok (.goto 18, 3) := dk_167 0 18 (dk_at dksX8_fare_0 9 rfl rfl)
theorem dX8_fare_12 : decode cX8_fare 12 = .ok (.aload_n 0, 1) := dk_42 (dk_at dksX8_fare_0 12 rfl rfl)
theorem dX8_fare_13 : decode cX8_fare 13 = .ok (.getfield 13, 3) := dk_180 0 13 (dk_at dksX8_fare_0 13 rfl rfl)
theorem dX8_fare_16 : decode cX8_fare 16 = .ok (.iconst 1, 1) := dk_4 (dk_at dksX8_fare_0 16 rfl rfl)
theorem dX8_fare_17 : decode cX8_fare 17 = .ok (.if_icmp .ne 8, 3) := dk_160 0 8 (dk_at dksX8_fare_0 17 rfl rfl)
theorem dX8_fare_20 : decode cX8_fare 20 = .ok (.bipush 21, 2) := dk_16 21 (dk_at dksX8_fare_0 20 rfl rfl)
theorem dX8_fare_22 : decode cX8_fare 22 = .ok (.goto 5, 3) := dk_167 0 5 (dk_at dksX8_fare_1 0 rfl rfl)
theorem dX8_fare_25 : decode cX8_fare 25 = .ok (.bipush 14, 2) := dk_16 14 (dk_at dksX8_fare_1 3 rfl rfl)
theorem dX8_fare_27 : decode cX8_fare 27 = .ok (.istore_n 1, 1) := dk_60 (dk_at dksX8_fare_1 5 rfl rfl)
theorem dX8_fare_28 : decode cX8_fare 28 = .ok (.iload_n 1, 1) := dk_27 (dk_at dksX8_fare_1 6 rfl rfl)
theorem dX8_fare_29 : decode cX8_fare 29 = .ok (.aload_n 0, 1) := dk_42 (dk_at dksX8_fare_1 7 rfl rfl)
theorem dX8_fare_30 : decode cX8_fare 30 = .ok (.getfield 16, 3) := dk_180 0 16 (dk_at dksX8_fare_1 8 rfl rfl)
theorem dX8_fare_33 : decode cX8_fare 33 = .ok (.invokestatic 22, 3) := dk_184 0 22 (dk_at dksX8_fare_1 11 rfl rfl)
theorem dX8_fare_36 : decode cX8_fare 36 = .ok (.imul, 1) := dk_104 (dk_at dksX8_fare_1 14 rfl rfl)
theorem dX8_fare_37 : decode cX8_fare 37 = .ok (.ireturn, 1) := dk_172 (dk_at dksX8_fare_1 15 rfl rfl)
abbrev cX8_init : ByteArray := prog_5_method_1_code
def yX8_init : MethodName := ⟨RX8, "<init>", "(IIII)V"⟩
def dkwX8_init_1 : List UInt8 := [181, 0, 19, 177]
abbrev dktX8_init_1 : List UInt8 := dkwX8_init_1 ++ []
def dkwX8_init_0 : List UInt8 := [42, 183, 0, 1, 42, 27, 181, 0, 7, 42, 28, 181, 0, 13, 42, 29, 181, 0, 16, 42, 21, 4]
abbrev dktX8_init_0 : List UInt8 := dkwX8_init_0 ++ dktX8_init_1
theorem dksX8_init_0 : cX8_init.data.toList.drop 0 = dktX8_init_0 := by decide +kernel
theorem dksX8_init_1 : cX8_init.data.toList.drop 22 = dktX8_init_1 := dk_seg dksX8_init_0 22 rfl rfl
theorem dX8_init_0 : decode cX8_init 0 = .ok (.aload_n 0, 1) := dk_42 (dk_at dksX8_init_0 0 rfl rfl)
theorem dX8_init_1 : decode cX8_init 1 = .ok (.invokespecial 1, 3) := dk_183 0 1 (dk_at dksX8_init_0 1 rfl rfl)
theorem dX8_init_4 : decode cX8_init 4 = .ok (.aload_n 0, 1) := dk_42 (dk_at dksX8_init_0 4 rfl rfl)
theorem dX8_init_5 : decode cX8_init 5 = .ok (.iload_n 1, 1) := dk_27 (dk_at dksX8_init_0 5 rfl rfl)
theorem dX8_init_6 : decode cX8_init 6 = .ok (.putfield 7, 3) := dk_181 0 7 (dk_at dksX8_init_0 6 rfl rfl)
theorem dX8_init_9 : decode cX8_init 9 = .ok (.aload_n 0, 1) := dk_42 (dk_at dksX8_init_0 9 rfl rfl)
theorem dX8_init_10 : decode cX8_init 10 = .ok (.iload_n 2, 1) := dk_28 (dk_at dksX8_init_0 10 rfl rfl)
theorem dX8_init_11 : decode cX8_init 11 = .ok (.putfield 13, 3) := dk_181 0 13 (dk_at dksX8_init_0 11 rfl rfl)
theorem dX8_init_14 : decode cX8_init 14 = .ok (.aload_n 0, 1) := dk_42 (dk_at dksX8_init_0 14 rfl rfl)
theorem dX8_init_15 : decode cX8_init 15 = .ok (.iload_n 3, 1) := dk_29 (dk_at dksX8_init_0 15 rfl rfl)
theorem dX8_init_16 : decode cX8_init 16 = .ok (.putfield 16, 3) := dk_181 0 16 (dk_at dksX8_init_0 16 rfl rfl)
theorem dX8_init_19 : decode cX8_init 19 = .ok (.aload_n 0, 1) := dk_42 (dk_at dksX8_init_0 19 rfl rfl)
theorem dX8_init_20 : decode cX8_init 20 = .ok (.iload 4, 2) := dk_21 4 (dk_at dksX8_init_0 20 rfl rfl)
theorem dX8_init_22 : decode cX8_init 22 = .ok (.putfield 19, 3) := dk_181 0 19 (dk_at dksX8_init_1 0 rfl rfl)
theorem dX8_init_25 : decode cX8_init 25 = .ok (.return_, 1) := dk_177 (dk_at dksX8_init_1 3 rfl rfl)
theorem q120 : (Jvm.Cond.initialized "PostChaiseYard$Guest") ∈ lw_all := lw_g (lw_at lw_m1 44 rfl) rfl
theorem q448 : (Jvm.Cond.selects "PostChaiseYard$Guest" ({ cls := "java/lang/Object", name := "getClass", desc := "()Ljava/lang/Class;" } : Jvm.MethodName) ({ cls := "java/lang/Object", name := "getClass", desc := "()Ljava/lang/Class;" } : Jvm.MethodName)) ∈ lw_all := lw_g (lw_at lw_m2 132 rfl) rfl
theorem q618 : (Jvm.Cond.castable "PostChaiseYard$Guest" "java/lang/Comparable") ∈ lw_tbl := lw_at lw_m3 62 rfl
theorem q619 : (Jvm.Cond.selects "PostChaiseYard$Guest" ({ cls := "java/lang/Comparable", name := "compareTo", desc := "(Ljava/lang/Object;)I" } : Jvm.MethodName) ({ cls := "PostChaiseYard$Guest", name := "compareTo", desc := "(Ljava/lang/Object;)I" } : Jvm.MethodName)) ∈ lw_all := lw_g (lw_at lw_m3 63 rfl) rfl
theorem q620 : (Jvm.Cond.unhidden "PostChaiseYard$Guest" "compareTo" "(Ljava/lang/Object;)I") ∈ lw_tbl := lw_at lw_m3 64 rfl
theorem q621 : (Jvm.Cond.instanceMethod ({ cls := "PostChaiseYard$Guest", name := "compareTo", desc := "(Ljava/lang/Object;)I" } : Jvm.MethodName)) ∈ lw_all := lw_g (lw_at lw_m3 65 rfl) rfl
theorem q622 : (Jvm.Cond.publicMethod ({ cls := "PostChaiseYard$Guest", name := "compareTo", desc := "(Ljava/lang/Object;)I" } : Jvm.MethodName)) ∈ lw_tbl := lw_at lw_m3 66 rfl
theorem q623 : (Jvm.Cond.code ({ cls := "PostChaiseYard$Guest", name := "compareTo", desc := "(Ljava/lang/Object;)I" } : Jvm.MethodName) prog_5_method_4_code (2 : Nat) (Option.some Jvm.ClassFile.FieldType.int)) ∈ lw_all := lw_g (lw_at lw_m3 67 rfl) rfl
theorem q624 : (Jvm.Cond.classLink "PostChaiseYard$Guest" (8 : Nat) "PostChaiseYard$Guest") ∈ lw_all := lw_g (lw_at lw_m3 68 rfl) rfl
theorem q625 : (Jvm.Cond.methodLink "PostChaiseYard$Guest" (34 : Nat) ({ cls := "PostChaiseYard$Guest", name := "compareTo", desc := "(LPostChaiseYard$Guest;)I" } : Jvm.MethodName)) ∈ lw_all := lw_g (lw_at lw_m3 69 rfl) rfl
theorem q626 : (Jvm.Cond.instanceMethod ({ cls := "PostChaiseYard$Guest", name := "compareTo", desc := "(LPostChaiseYard$Guest;)I" } : Jvm.MethodName)) ∈ lw_all := lw_g (lw_at lw_m3 70 rfl) rfl
theorem q627 : (Jvm.Cond.selects "PostChaiseYard$Guest" ({ cls := "PostChaiseYard$Guest", name := "compareTo", desc := "(LPostChaiseYard$Guest;)I" } : Jvm.MethodName) ({ cls := "PostChaiseYard$Guest", name := "compareTo", desc := "(LPostChaiseYard$Guest;)I" } : Jvm.MethodName)) ∈ lw_all := lw_g (lw_at lw_m3 71 rfl) rfl
theorem q628 : (Jvm.Cond.code ({ cls := "PostChaiseYard$Guest", name := "compareTo", desc := "(LPostChaiseYard$Guest;)I" } : Jvm.MethodName) prog_5_method_3_code (2 : Nat) (Option.some Jvm.ClassFile.FieldType.int)) ∈ lw_all := lw_g (lw_at lw_m3 72 rfl) rfl
theorem q629 : (Jvm.Cond.methodLink "PostChaiseYard$Guest" (28 : Nat) ({ cls := "java/lang/Integer", name := "compare", desc := "(II)I" } : Jvm.MethodName)) ∈ lw_all := lw_g (lw_at lw_m3 73 rfl) rfl
theorem q1127 : (Jvm.Cond.instanceMethod ({ cls := "PostChaiseYard$Guest", name := "fare", desc := "()I" } : Jvm.MethodName)) ∈ lw_all := lw_g (lw_at lw_m5 91 rfl) rfl
theorem q1128 : (Jvm.Cond.selects "PostChaiseYard$Guest" ({ cls := "PostChaiseYard$Guest", name := "fare", desc := "()I" } : Jvm.MethodName) ({ cls := "PostChaiseYard$Guest", name := "fare", desc := "()I" } : Jvm.MethodName)) ∈ lw_all := lw_g (lw_at lw_m5 92 rfl) rfl
theorem q1129 : (Jvm.Cond.code ({ cls := "PostChaiseYard$Guest", name := "fare", desc := "()I" } : Jvm.MethodName) prog_5_method_2_code (2 : Nat) (Option.some Jvm.ClassFile.FieldType.int)) ∈ lw_all := lw_g (lw_at lw_m5 93 rfl) rfl
theorem q1130 : (Jvm.Cond.methodLinkNest "PostChaiseYard$Guest" (22 : Nat) ({ cls := "PostChaiseYard", name := "milesOf", desc := "(I)I" } : Jvm.MethodName) "PostChaiseYard") ∈ lw_tbl := lw_at lw_m5 94 rfl
theorem q1851 : (Jvm.Cond.instantiable "PostChaiseYard$Guest" (4 : Nat)) ∈ lw_all := lw_g (lw_at lw_m8 95 rfl) rfl
theorem q1853 : (Jvm.Cond.instanceMethod ({ cls := "PostChaiseYard$Guest", name := "<init>", desc := "(IIII)V" } : Jvm.MethodName)) ∈ lw_all := lw_g (lw_at lw_m8 97 rfl) rfl
theorem q1854 : (Jvm.Cond.code ({ cls := "PostChaiseYard$Guest", name := "<init>", desc := "(IIII)V" } : Jvm.MethodName) prog_5_method_1_code (5 : Nat) (Option.none : Option Jvm.ClassFile.FieldType)) ∈ lw_all := lw_g (lw_at lw_m8 98 rfl) rfl
theorem q1855 : (Jvm.Cond.methodLink "PostChaiseYard$Guest" (1 : Nat) ({ cls := "java/lang/Object", name := "<init>", desc := "()V" } : Jvm.MethodName)) ∈ lw_all := lw_g (lw_at lw_m8 99 rfl) rfl
theorem q1856 : (Jvm.Cond.fieldLink "PostChaiseYard$Guest" (7 : Nat) "PostChaiseYard$Guest" "number" "I") ∈ lw_all := lw_g (lw_at lw_m8 100 rfl) rfl
theorem q1859 : (Jvm.Cond.fieldLink "PostChaiseYard$Guest" (13 : Nat) "PostChaiseYard$Guest" "rank" "I") ∈ lw_all := lw_g (lw_at lw_m8 103 rfl) rfl
theorem q1862 : (Jvm.Cond.fieldLink "PostChaiseYard$Guest" (16 : Nat) "PostChaiseYard$Guest" "road" "I") ∈ lw_all := lw_g (lw_at lw_m8 106 rfl) rfl
theorem q1865 : (Jvm.Cond.fieldLink "PostChaiseYard$Guest" (19 : Nat) "PostChaiseYard$Guest" "came" "I") ∈ lw_all := lw_g (lw_at lw_m8 109 rfl) rfl
theorem q1867 : (Jvm.Cond.laysFinal "PostChaiseYard$Guest" "PostChaiseYard$Guest" "number" "I") ∈ lw_all := lw_g (lw_at lw_m8 111 rfl) rfl
theorem q1868 : (Jvm.Cond.soleField "PostChaiseYard$Guest" "number") ∈ lw_all := lw_g (lw_at lw_m8 112 rfl) rfl
theorem q1869 : (Jvm.Cond.laysFinal "PostChaiseYard$Guest" "PostChaiseYard$Guest" "rank" "I") ∈ lw_all := lw_g (lw_at lw_m8 113 rfl) rfl
theorem q1870 : (Jvm.Cond.soleField "PostChaiseYard$Guest" "rank") ∈ lw_all := lw_g (lw_at lw_m8 114 rfl) rfl
theorem q1871 : (Jvm.Cond.laysFinal "PostChaiseYard$Guest" "PostChaiseYard$Guest" "road" "I") ∈ lw_all := lw_g (lw_at lw_m8 115 rfl) rfl
theorem q1872 : (Jvm.Cond.soleField "PostChaiseYard$Guest" "road") ∈ lw_all := lw_g (lw_at lw_m8 116 rfl) rfl
theorem q1873 : (Jvm.Cond.laysFinal "PostChaiseYard$Guest" "PostChaiseYard$Guest" "came" "I") ∈ lw_all := lw_g (lw_at lw_m8 117 rfl) rfl
theorem q1874 : (Jvm.Cond.soleField "PostChaiseYard$Guest" "came") ∈ lw_all := lw_g (lw_at lw_m8 118 rfl) rfl
theorem q1875 : (Jvm.Cond.superclass "PostChaiseYard$Guest" "java/lang/Object") ∈ lw_all := lw_g (lw_at lw_m8 119 rfl) rfl
theorem q2107 : (Jvm.Cond.selects "PostChaiseYard$Guest" ({ cls := "java/lang/Object", name := "equals", desc := "(Ljava/lang/Object;)Z" } : Jvm.MethodName) ({ cls := "java/lang/Object", name := "equals", desc := "(Ljava/lang/Object;)Z" } : Jvm.MethodName)) ∈ lw_all := lw_g (lw_at lw_m9 111 rfl) rfl
theorem q3014 : (Jvm.Cond.castable "PostChaiseYard$Guest" "java/lang/Object") ∈ lw_tbl := lw_at lw_m13 58 rfl
theorem in_X8 : ∀ w ∈ wsX80, w ∈ lw_all := lw_in wsX80 [1867, 1869, 1871, 1873] (by decide +kernel) (by decide +kernel)

/-! PostChaiseYard$ByMiles -/
set_option maxRecDepth 100000
def RX9 : String := "PostChaiseYard$ByMiles"
abbrev cX9_compare : ByteArray := prog_3_method_3_code
def yX9_compare : MethodName := ⟨RX9, "compare", "(Ljava/lang/Object;Ljava/lang/Object;)I"⟩
def dkwX9_compare_0 : List UInt8 := [42, 43, 192, 0, 8, 44, 192, 0, 8, 182, 0, 22, 172]
abbrev dktX9_compare_0 : List UInt8 := dkwX9_compare_0 ++ []
theorem dksX9_compare_0 : cX9_compare.data.toList.drop 0 = dktX9_compare_0 := by decide +kernel
theorem dX9_compare_0 : decode cX9_compare 0 = .ok (.aload_n 0, 1) := dk_42 (dk_at dksX9_compare_0 0 rfl rfl)
theorem dX9_compare_1 : decode cX9_compare 1 = .ok (.aload_n 1, 1) := dk_43 (dk_at dksX9_compare_0 1 rfl rfl)
theorem dX9_compare_2 : decode cX9_compare 2 = .ok (.checkcast 8, 3) := dk_192 0 8 (dk_at dksX9_compare_0 2 rfl rfl)
theorem dX9_compare_5 : decode cX9_compare 5 = .ok (.aload_n 2, 1) := dk_44 (dk_at dksX9_compare_0 5 rfl rfl)
theorem dX9_compare_6 : decode cX9_compare 6 = .ok (.checkcast 8, 3) := dk_192 0 8 (dk_at dksX9_compare_0 6 rfl rfl)
theorem dX9_compare_9 : decode cX9_compare 9 = .ok (.invokevirtual 22, 3) := dk_182 0 22 (dk_at dksX9_compare_0 9 rfl rfl)
theorem dX9_compare_12 : decode cX9_compare 12 = .ok (.ireturn, 1) := dk_172 (dk_at dksX9_compare_0 12 rfl rfl)
abbrev cX9_compare_2 : ByteArray := prog_3_method_2_code
def yX9_compare_2 : MethodName := ⟨RX9, "compare", "(LPostChaiseYard$Pair;LPostChaiseYard$Pair;)I"⟩
def dkwX9_compare_2_1 : List UInt8 := [167, 0, 14, 43, 180, 0, 19, 44, 180, 0, 19, 184, 0, 13, 172]
abbrev dktX9_compare_2_1 : List UInt8 := dkwX9_compare_2_1 ++ []
def dkwX9_compare_2_0 : List UInt8 := [43, 180, 0, 7, 44, 180, 0, 7, 159, 0, 17, 43, 180, 0, 7, 44, 180, 0, 7, 184, 0, 13]
abbrev dktX9_compare_2_0 : List UInt8 := dkwX9_compare_2_0 ++ dktX9_compare_2_1
theorem dksX9_compare_2_0 : cX9_compare_2.data.toList.drop 0 = dktX9_compare_2_0 := by decide +kernel
theorem dksX9_compare_2_1 : cX9_compare_2.data.toList.drop 22 = dktX9_compare_2_1 := dk_seg dksX9_compare_2_0 22 rfl rfl
theorem dX9_compare_2_0 : decode cX9_compare_2 0 = .ok (.aload_n 1, 1) := dk_43 (dk_at dksX9_compare_2_0 0 rfl rfl)
theorem dX9_compare_2_1 : decode cX9_compare_2 1 = .ok (.getfield 7, 3) := dk_180 0 7 (dk_at dksX9_compare_2_0 1 rfl rfl)
theorem dX9_compare_2_4 : decode cX9_compare_2 4 = .ok (.aload_n 2, 1) := dk_44 (dk_at dksX9_compare_2_0 4 rfl rfl)
theorem dX9_compare_2_5 : decode cX9_compare_2 5 = .ok (.getfield 7, 3) := dk_180 0 7 (dk_at dksX9_compare_2_0 5 rfl rfl)
theorem dX9_compare_2_8 : decode cX9_compare_2 8 = .ok (.if_icmp .eq 17, 3) := dk_159 0 17 (dk_at dksX9_compare_2_0 8 rfl rfl)
theorem dX9_compare_2_11 : decode cX9_compare_2 11 = .ok (.aload_n 1, 1) := dk_43 (dk_at dksX9_compare_2_0 11 rfl rfl)
theorem dX9_compare_2_12 : decode cX9_compare_2 12 = .ok (.getfield 7, 3) := dk_180 0 7 (dk_at dksX9_compare_2_0 12 rfl rfl)
theorem dX9_compare_2_15 : decode cX9_compare_2 15 = .ok (.aload_n 2, 1) := dk_44 (dk_at dksX9_compare_2_0 15 rfl rfl)
theorem dX9_compare_2_16 : decode cX9_compare_2 16 = .ok (.getfield 7, 3) := dk_180 0 7 (dk_at dksX9_compare_2_0 16 rfl rfl)
theorem dX9_compare_2_19 : decode cX9_compare_2 19 = .ok (.invokestatic 13, 3) := dk_184 0 13 (dk_at dksX9_compare_2_0 19 rfl rfl)
theorem dX9_compare_2_22 : decode cX9_compare_2 22 = .ok (.goto 14, 3) := dk_167 0 14 (dk_at dksX9_compare_2_1 0 rfl rfl)
theorem dX9_compare_2_25 : decode cX9_compare_2 25 = .ok (.aload_n 1, 1) := dk_43 (dk_at dksX9_compare_2_1 3 rfl rfl)
theorem dX9_compare_2_26 : decode cX9_compare_2 26 = .ok (.getfield 19, 3) := dk_180 0 19 (dk_at dksX9_compare_2_1 4 rfl rfl)
theorem dX9_compare_2_29 : decode cX9_compare_2 29 = .ok (.aload_n 2, 1) := dk_44 (dk_at dksX9_compare_2_1 7 rfl rfl)
theorem dX9_compare_2_30 : decode cX9_compare_2 30 = .ok (.getfield 19, 3) := dk_180 0 19 (dk_at dksX9_compare_2_1 8 rfl rfl)
theorem dX9_compare_2_33 : decode cX9_compare_2 33 = .ok (.invokestatic 13, 3) := dk_184 0 13 (dk_at dksX9_compare_2_1 11 rfl rfl)
theorem dX9_compare_2_36 : decode cX9_compare_2 36 = .ok (.ireturn, 1) := dk_172 (dk_at dksX9_compare_2_1 14 rfl rfl)
abbrev cX9_init : ByteArray := prog_3_method_1_code
def yX9_init : MethodName := ⟨RX9, "<init>", "()V"⟩
theorem dX9_init_0 : decode cX9_init 0 = .ok (.aload_n 0, 1) := by decide +kernel
theorem dX9_init_1 : decode cX9_init 1 = .ok (.invokespecial 1, 3) := by decide +kernel
theorem dX9_init_4 : decode cX9_init 4 = .ok (.return_, 1) := by decide +kernel
theorem q123 : (Jvm.Cond.initialized "PostChaiseYard$ByMiles") ∈ lw_all := lw_g (lw_at lw_m1 47 rfl) rfl
theorem q386 : (Jvm.Cond.fieldLink "PostChaiseYard$ByMiles" (19 : Nat) "PostChaiseYard$Pair" "number" "I") ∈ lw_all := lw_g (lw_at lw_m2 70 rfl) rfl
theorem q389 : (Jvm.Cond.fieldLink "PostChaiseYard$ByMiles" (7 : Nat) "PostChaiseYard$Pair" "miles" "I") ∈ lw_all := lw_g (lw_at lw_m2 73 rfl) rfl
theorem q446 : (Jvm.Cond.selects "PostChaiseYard$ByMiles" ({ cls := "java/lang/Object", name := "getClass", desc := "()Ljava/lang/Class;" } : Jvm.MethodName) ({ cls := "java/lang/Object", name := "getClass", desc := "()Ljava/lang/Class;" } : Jvm.MethodName)) ∈ lw_all := lw_g (lw_at lw_m2 130 rfl) rfl
theorem q872 : (Jvm.Cond.castable "PostChaiseYard$ByMiles" "java/util/Comparator") ∈ lw_tbl := lw_at lw_m4 76 rfl
theorem q873 : (Jvm.Cond.selects "PostChaiseYard$ByMiles" ({ cls := "java/util/Comparator", name := "compare", desc := "(Ljava/lang/Object;Ljava/lang/Object;)I" } : Jvm.MethodName) ({ cls := "PostChaiseYard$ByMiles", name := "compare", desc := "(Ljava/lang/Object;Ljava/lang/Object;)I" } : Jvm.MethodName)) ∈ lw_all := lw_g (lw_at lw_m4 77 rfl) rfl
theorem q874 : (Jvm.Cond.unhidden "PostChaiseYard$ByMiles" "compare" "(Ljava/lang/Object;Ljava/lang/Object;)I") ∈ lw_tbl := lw_at lw_m4 78 rfl
theorem q875 : (Jvm.Cond.instanceMethod ({ cls := "PostChaiseYard$ByMiles", name := "compare", desc := "(Ljava/lang/Object;Ljava/lang/Object;)I" } : Jvm.MethodName)) ∈ lw_all := lw_g (lw_at lw_m4 79 rfl) rfl
theorem q876 : (Jvm.Cond.publicMethod ({ cls := "PostChaiseYard$ByMiles", name := "compare", desc := "(Ljava/lang/Object;Ljava/lang/Object;)I" } : Jvm.MethodName)) ∈ lw_tbl := lw_at lw_m4 80 rfl
theorem q877 : (Jvm.Cond.code ({ cls := "PostChaiseYard$ByMiles", name := "compare", desc := "(Ljava/lang/Object;Ljava/lang/Object;)I" } : Jvm.MethodName) prog_3_method_3_code (3 : Nat) (Option.some Jvm.ClassFile.FieldType.int)) ∈ lw_all := lw_g (lw_at lw_m4 81 rfl) rfl
theorem q878 : (Jvm.Cond.classLink "PostChaiseYard$ByMiles" (8 : Nat) "PostChaiseYard$Pair") ∈ lw_all := lw_g (lw_at lw_m4 82 rfl) rfl
theorem q879 : (Jvm.Cond.methodLink "PostChaiseYard$ByMiles" (22 : Nat) ({ cls := "PostChaiseYard$ByMiles", name := "compare", desc := "(LPostChaiseYard$Pair;LPostChaiseYard$Pair;)I" } : Jvm.MethodName)) ∈ lw_all := lw_g (lw_at lw_m4 83 rfl) rfl
theorem q880 : (Jvm.Cond.instanceMethod ({ cls := "PostChaiseYard$ByMiles", name := "compare", desc := "(LPostChaiseYard$Pair;LPostChaiseYard$Pair;)I" } : Jvm.MethodName)) ∈ lw_all := lw_g (lw_at lw_m4 84 rfl) rfl
theorem q881 : (Jvm.Cond.selects "PostChaiseYard$ByMiles" ({ cls := "PostChaiseYard$ByMiles", name := "compare", desc := "(LPostChaiseYard$Pair;LPostChaiseYard$Pair;)I" } : Jvm.MethodName) ({ cls := "PostChaiseYard$ByMiles", name := "compare", desc := "(LPostChaiseYard$Pair;LPostChaiseYard$Pair;)I" } : Jvm.MethodName)) ∈ lw_all := lw_g (lw_at lw_m4 85 rfl) rfl
theorem q882 : (Jvm.Cond.code ({ cls := "PostChaiseYard$ByMiles", name := "compare", desc := "(LPostChaiseYard$Pair;LPostChaiseYard$Pair;)I" } : Jvm.MethodName) prog_3_method_2_code (3 : Nat) (Option.some Jvm.ClassFile.FieldType.int)) ∈ lw_all := lw_g (lw_at lw_m4 86 rfl) rfl
theorem q883 : (Jvm.Cond.methodLink "PostChaiseYard$ByMiles" (13 : Nat) ({ cls := "java/lang/Integer", name := "compare", desc := "(II)I" } : Jvm.MethodName)) ∈ lw_all := lw_g (lw_at lw_m4 87 rfl) rfl
theorem q1960 : (Jvm.Cond.instantiable "PostChaiseYard$ByMiles" (0 : Nat)) ∈ lw_all := lw_g (lw_at lw_m8 204 rfl) rfl
theorem q1962 : (Jvm.Cond.instanceMethod ({ cls := "PostChaiseYard$ByMiles", name := "<init>", desc := "()V" } : Jvm.MethodName)) ∈ lw_all := lw_g (lw_at lw_m8 206 rfl) rfl
theorem q1963 : (Jvm.Cond.code ({ cls := "PostChaiseYard$ByMiles", name := "<init>", desc := "()V" } : Jvm.MethodName) prog_3_method_1_code (1 : Nat) (Option.none : Option Jvm.ClassFile.FieldType)) ∈ lw_all := lw_g (lw_at lw_m8 207 rfl) rfl
theorem q1964 : (Jvm.Cond.methodLink "PostChaiseYard$ByMiles" (1 : Nat) ({ cls := "java/lang/Object", name := "<init>", desc := "()V" } : Jvm.MethodName)) ∈ lw_all := lw_g (lw_at lw_m8 208 rfl) rfl
theorem q1965 : (Jvm.Cond.superclass "PostChaiseYard$ByMiles" "java/lang/Object") ∈ lw_all := lw_g (lw_at lw_m8 209 rfl) rfl
theorem q2105 : (Jvm.Cond.selects "PostChaiseYard$ByMiles" ({ cls := "java/lang/Object", name := "equals", desc := "(Ljava/lang/Object;)Z" } : Jvm.MethodName) ({ cls := "java/lang/Object", name := "equals", desc := "(Ljava/lang/Object;)Z" } : Jvm.MethodName)) ∈ lw_all := lw_g (lw_at lw_m9 109 rfl) rfl
theorem q3016 : (Jvm.Cond.castable "PostChaiseYard$ByMiles" "java/lang/Object") ∈ lw_tbl := lw_at lw_m13 60 rfl
