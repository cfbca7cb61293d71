/-! PostChaiseYardModel -/
set_option maxRecDepth 100000
def RX6 : String := "PostChaiseYardModel"
def TX6 : u_T := fun k => match k with
  | 0 => ("PostChaiseYardModel", "s", "[I", true)
  | 1 => ("PostChaiseYardModel", "before", "[I", true)
  | 2 => ("PostChaiseYardModel", "known", "I", false)
  | 3 => ("PostChaiseYardModel", "kept", "[I", true)
  | 4 => ("PostChaiseYardModel", "isKept", "Z", false)
  | 5 => ("PostChaiseYardModel", "aside", "[I", true)
  | 6 => ("PostChaiseYardModel", "buffer", "[I", true)
  | 7 => ("PostChaiseYardModel", "length", "I", false)
  | 8 => ("PostChaiseYardModel", "thrown", "I", false)
  | 9 => ("PostChaiseYardModel", "at", "I", false)
  | _ => ("PostChaiseYardModel", "isWrong", "Z", false)
def tyX6 : Nat → FieldType := fun k => match k with
  | 0 => .array .int
  | 1 => .array .int
  | 2 => .int
  | 3 => .array .int
  | 4 => .boolean
  | 5 => .array .int
  | 6 => .array .int
  | 7 => .int
  | 8 => .int
  | 9 => .int
  | _ => .boolean
abbrev wsX60 : List Cond := u_ws RX6 TX6 11
theorem nmX6 : ∀ a, a < 11 → ∀ b, b < 11 → a ≠ b → (TX6 a).2.1 ≠ (TX6 b).2.1 := by decide +kernel
theorem tyX6_ok : ∀ k, k < 11 → parseFieldDescriptor (TX6 k).2.2.1 = some (tyX6 k) := by decide +kernel
abbrev cX6_init : ByteArray := prog_13_method_1_code
def yX6_init : MethodName := ⟨RX6, "<init>", "()V"⟩
def dkwX6_init_4 : List UInt8 := [180, 0, 7, 16, 9, 2, 79, 177]
abbrev dktX6_init_4 : List UInt8 := dkwX6_init_4 ++ []
def dkwX6_init_3 : List UInt8 := [79, 3, 60, 27, 7, 162, 0, 18, 42, 180, 0, 7, 8, 27, 96, 27, 79, 132, 1, 1, 167, 255, 239, 42]
abbrev dktX6_init_3 : List UInt8 := dkwX6_init_3 ++ dktX6_init_4
def dkwX6_init_2 : List UInt8 := [181, 0, 22, 42, 180, 0, 7, 4, 6, 79, 42, 180, 0, 7, 5, 16, 60, 79, 42, 180, 0, 7, 7, 7]
abbrev dktX6_init_2 : List UInt8 := dkwX6_init_2 ++ dktX6_init_3
def dkwX6_init_1 : List UInt8 := [17, 1, 14, 188, 10, 181, 0, 16, 42, 17, 1, 14, 188, 10, 181, 0, 19, 42, 16, 60, 188, 10]
abbrev dktX6_init_1 : List UInt8 := dkwX6_init_1 ++ dktX6_init_2
def dkwX6_init_0 : List UInt8 := [42, 183, 0, 1, 42, 17, 1, 14, 188, 10, 181, 0, 7, 42, 17, 5, 70, 188, 10, 181, 0, 13, 42]
abbrev dktX6_init_0 : List UInt8 := dkwX6_init_0 ++ dktX6_init_1
theorem dksX6_init_0 : cX6_init.data.toList.drop 0 = dktX6_init_0 := by decide +kernel
theorem dksX6_init_1 : cX6_init.data.toList.drop 23 = dktX6_init_1 := dk_seg dksX6_init_0 23 rfl rfl
theorem dksX6_init_2 : cX6_init.data.toList.drop 45 = dktX6_init_2 := dk_seg dksX6_init_1 22 rfl rfl
theorem dksX6_init_3 : cX6_init.data.toList.drop 69 = dktX6_init_3 := dk_seg dksX6_init_2 24 rfl rfl
theorem dksX6_init_4 : cX6_init.data.toList.drop 93 = dktX6_init_4 := dk_seg dksX6_init_3 24 rfl rfl
theorem dX6_init_0 : decode cX6_init 0 = .ok (.aload_n 0, 1) := dk_42 (dk_at dksX6_init_0 0 rfl rfl)
theorem dX6_init_1 : decode cX6_init 1 = .ok (.invokespecial 1, 3) := dk_183 0 1 (dk_at dksX6_init_0 1 rfl rfl)
theorem dX6_init_4 : decode cX6_init 4 = .ok (.aload_n 0, 1) := dk_42 (dk_at dksX6_init_0 4 rfl rfl)
theorem dX6_init_5 : decode cX6_init 5 = .ok (.sipush 270, 3) := dk_17 1 14 (dk_at dksX6_init_0 5 rfl rfl)
theorem dX6_init_8 : decode cX6_init 8 = .ok (.newarray .int, 2) := dk_188_10 (dk_at dksX6_init_0 8 rfl rfl)
theorem dX6_init_10 : decode cX6_init 10 = .ok (.putfield 7, 3) := dk_181 0 7 (dk_at dksX6_init_0 10 rfl rfl)
theorem dX6_init_13 : decode cX6_init 13 = .ok (.aload_n 0, 1) := dk_42 (dk_at dksX6_init_0 13 rfl rfl)
theorem dX6_init_14 : decode cX6_init 14 = .ok (.sipush 1350, 3) := dk_17 5 70 (dk_at dksX6_init_0 14 rfl rfl)
theorem dX6_init_17 : decode cX6_init 17 = .ok (.newarray .int, 2) := dk_188_10 (dk_at dksX6_init_0 17 rfl rfl)
theorem dX6_init_19 : decode cX6_init 19 = .ok (.putfield 13, 3) := dk_181 0 13 (dk_at dksX6_init_0 19 rfl rfl)
theorem dX6_init_22 : decode cX6_init 22 = .ok (.aload_n 0, 1) := dk_42 (dk_at dksX6_init_0 22 rfl rfl)
theorem dX6_init_23 : decode cX6_init 23 = .ok (.sipush 270, 3) := dk_17 1 14 (dk_at dksX6_init_1 0 rfl rfl)
theorem dX6_init_26 : decode cX6_init 26 = .ok (.newarray .int, 2) := dk_188_10 (dk_at dksX6_init_1 3 rfl rfl)
theorem dX6_init_28 : decode cX6_init 28 = .ok (.putfield 16, 3) := dk_181 0 16 (dk_at dksX6_init_1 5 rfl rfl)
theorem dX6_init_31 : decode cX6_init 31 = .ok (.aload_n 0, 1) := dk_42 (dk_at dksX6_init_1 8 rfl rfl)
theorem dX6_init_32 : decode cX6_init 32 = .ok (.sipush 270, 3) := dk_17 1 14 (dk_at dksX6_init_1 9 rfl rfl)
theorem dX6_init_35 : decode cX6_init 35 = .ok (.newarray .int, 2) := dk_188_10 (dk_at dksX6_init_1 12 rfl rfl)
theorem dX6_init_37 : decode cX6_init 37 = .ok (.putfield 19, 3) := dk_181 0 19 (dk_at dksX6_init_1 14 rfl rfl)
theorem dX6_init_40 : decode cX6_init 40 = .ok (.aload_n 0, 1) := dk_42 (dk_at dksX6_init_1 17 rfl rfl)
theorem dX6_init_41 : decode cX6_init 41 = .ok (.bipush 60, 2) := dk_16 60 (dk_at dksX6_init_1 18 rfl rfl)
theorem dX6_init_43 : decode cX6_init 43 = .ok (.newarray .int, 2) := dk_188_10 (dk_at dksX6_init_1 20 rfl rfl)
theorem dX6_init_45 : decode cX6_init 45 = .ok (.putfield 22, 3) := dk_181 0 22 (dk_at dksX6_init_2 0 rfl rfl)
theorem dX6_init_48 : decode cX6_init 48 = .ok (.aload_n 0, 1) := dk_42 (dk_at dksX6_init_2 3 rfl rfl)
theorem dX6_init_49 : decode cX6_init 49 = .ok (.getfield 7, 3) := dk_180 0 7 (dk_at dksX6_init_2 4 rfl rfl)
theorem dX6_init_52 : decode cX6_init 52 = .ok (.iconst 1, 1) := dk_4 (dk_at dksX6_init_2 7 rfl rfl)
theorem dX6_init_53 : decode cX6_init 53 = .ok (.iconst 3, 1) := dk_6 (dk_at dksX6_init_2 8 rfl rfl)
theorem dX6_init_54 : decode cX6_init 54 = .ok (.iastore, 1) := dk_79 (dk_at dksX6_init_2 9 rfl rfl)
theorem dX6_init_55 : decode cX6_init 55 = .ok (.aload_n 0, 1) := dk_42 (dk_at dksX6_init_2 10 rfl rfl)
theorem dX6_init_56 : decode cX6_init 56 = .ok (.getfield 7, 3) := dk_180 0 7 (dk_at dksX6_init_2 11 rfl rfl)
theorem dX6_init_59 : decode cX6_init 59 = .ok (.iconst 2, 1) := dk_5 (dk_at dksX6_init_2 14 rfl rfl)
theorem dX6_init_60 : decode cX6_init 60 = .ok (.bipush 60, 2) := dk_16 60 (dk_at dksX6_init_2 15 rfl rfl)
theorem dX6_init_62 : decode cX6_init 62 = .ok (.iastore, 1) := dk_79 (dk_at dksX6_init_2 17 rfl rfl)
theorem dX6_init_63 : decode cX6_init 63 = .ok (.aload_n 0, 1) := dk_42 (dk_at dksX6_init_2 18 rfl rfl)
theorem dX6_init_64 : decode cX6_init 64 = .ok (.getfield 7, 3) := dk_180 0 7 (dk_at dksX6_init_2 19 rfl rfl)
theorem dX6_init_67 : decode cX6_init 67 = .ok (.iconst 4, 1) := dk_7 (dk_at dksX6_init_2 22 rfl rfl)
theorem dX6_init_68 : decode cX6_init 68 = .ok (.iconst 4, 1) := dk_7 (dk_at dksX6_init_2 23 rfl rfl)
theorem dX6_init_69 : decode cX6_init 69 = .ok (.iastore, 1) := dk_79 (dk_at dksX6_init_3 0 rfl rfl)
theorem dX6_init_70 : decode cX6_init 70 = .ok (.iconst 0, 1) := dk_3 (dk_at dksX6_init_3 1 rfl rfl)
theorem dX6_init_71 : decode cX6_init 71 = .ok (.istore_n 1, 1) := dk_60 (dk_at dksX6_init_3 2 rfl rfl)
theorem dX6_init_72 : decode cX6_init 72 = .ok (.iload_n 1, 1) := dk_27 (dk_at dksX6_init_3 3 rfl rfl)
theorem dX6_init_73 : decode cX6_init 73 = .ok (.iconst 4, 1) := dk_7 (dk_at dksX6_init_3 4 rfl rfl)
theorem dX6_init_74 : decode cX6_init 74 = .ok (.if_icmp .ge 18, 3) := dk_162 0 18 (dk_at dksX6_init_3 5 rfl rfl)
theorem dX6_init_77 : decode cX6_init 77 = .ok (.aload_n 0, 1) := dk_42 (dk_at dksX6_init_3 8 rfl rfl)
theorem dX6_init_78 : decode cX6_init 78 = .ok (.getfield 7, 3) := dk_180 0 7 (dk_at dksX6_init_3 9 rfl rfl)
theorem dX6_init_81 : decode cX6_init 81 = .ok (.iconst 5, 1) := dk_8 (dk_at dksX6_init_3 12 rfl rfl)
theorem dX6_init_82 : decode cX6_init 82 = .ok (.iload_n 1, 1) := dk_27 (dk_at dksX6_init_3 13 rfl rfl)
theorem dX6_init_83 : decode cX6_init 83 = .ok (.iadd, 1) := dk_96 (dk_at dksX6_init_3 14 rfl rfl)
theorem dX6_init_84 : decode cX6_init 84 = .ok (.iload_n 1, 1) := dk_27 (dk_at dksX6_init_3 15 rfl rfl)
theorem dX6_init_85 : decode cX6_init 85 = .ok (.iastore, 1) := dk_79 (dk_at dksX6_init_3 16 rfl rfl)
theorem dX6_init_86 : decode cX6_init 86 = .ok (.iinc 1 1, 3) := dk_132 1 1 (dk_at dksX6_init_3 17 rfl rfl)
theorem dX6_init_89 : decode cX6_init 89 = .ok (.goto (-17), 3) := dk_167 255 239 (dk_at dksX6_init_3 20 rfl rfl)
theorem dX6_init_92 : decode cX6_init 92 = .ok (.aload_n 0, 1) := dk_42 (dk_at dksX6_init_3 23 rfl rfl)
theorem dX6_init_93 : decode cX6_init 93 = .ok (.getfield 7, 3) := dk_180 0 7 (dk_at dksX6_init_4 0 rfl rfl)
theorem dX6_init_96 : decode cX6_init 96 = .ok (.bipush 9, 2) := dk_16 9 (dk_at dksX6_init_4 3 rfl rfl)
theorem dX6_init_98 : decode cX6_init 98 = .ok (.iconst (-1), 1) := dk_2 (dk_at dksX6_init_4 5 rfl rfl)
theorem dX6_init_99 : decode cX6_init 99 = .ok (.iastore, 1) := dk_79 (dk_at dksX6_init_4 6 rfl rfl)
theorem dX6_init_100 : decode cX6_init 100 = .ok (.return_, 1) := dk_177 (dk_at dksX6_init_4 7 rfl rfl)
abbrev cX6_thrown : ByteArray := prog_13_method_2_code
def yX6_thrown : MethodName := ⟨RX6, "thrown", "()I"⟩
theorem dX6_thrown_0 : decode cX6_thrown 0 = .ok (.aload_n 0, 1) := by decide +kernel
theorem dX6_thrown_1 : decode cX6_thrown 1 = .ok (.getfield 25, 3) := by decide +kernel
theorem dX6_thrown_4 : decode cX6_thrown 4 = .ok (.ireturn, 1) := by decide +kernel
abbrev cX6_arrive : ByteArray := prog_13_method_36_code
def yX6_arrive : MethodName := ⟨RX6, "arrive", "(II)I"⟩
def dkwX6_arrive_2 : List UInt8 := [6, 182, 0, 104, 172, 42, 182, 0, 107, 42, 27, 28, 182, 0, 110, 172]
abbrev dktX6_arrive_2 : List UInt8 := dkwX6_arrive_2 ++ []
def dkwX6_arrive_1 : List UInt8 := [184, 0, 29, 154, 0, 9, 42, 5, 182, 0, 104, 172, 42, 180, 0, 7, 6, 46, 16, 40, 160, 0, 9, 42]
abbrev dktX6_arrive_1 : List UInt8 := dkwX6_arrive_1 ++ dktX6_arrive_2
def dkwX6_arrive_0 : List UInt8 := [42, 3, 181, 0, 25, 27, 3, 5, 184, 0, 29, 154, 0, 9, 42, 4, 182, 0, 104, 172, 28, 3, 6]
abbrev dktX6_arrive_0 : List UInt8 := dkwX6_arrive_0 ++ dktX6_arrive_1
theorem dksX6_arrive_0 : cX6_arrive.data.toList.drop 0 = dktX6_arrive_0 := by decide +kernel
theorem dksX6_arrive_1 : cX6_arrive.data.toList.drop 23 = dktX6_arrive_1 := dk_seg dksX6_arrive_0 23 rfl rfl
theorem dksX6_arrive_2 : cX6_arrive.data.toList.drop 47 = dktX6_arrive_2 := dk_seg dksX6_arrive_1 24 rfl rfl
theorem dX6_arrive_0 : decode cX6_arrive 0 = .ok (.aload_n 0, 1) := dk_42 (dk_at dksX6_arrive_0 0 rfl rfl)
theorem dX6_arrive_1 : decode cX6_arrive 1 = .ok (.iconst 0, 1) := dk_3 (dk_at dksX6_arrive_0 1 rfl rfl)
theorem dX6_arrive_2 : decode cX6_arrive 2 = .ok (.putfield 25, 3) := dk_181 0 25 (dk_at dksX6_arrive_0 2 rfl rfl)
theorem dX6_arrive_5 : decode cX6_arrive 5 = .ok (.iload_n 1, 1) := dk_27 (dk_at dksX6_arrive_0 5 rfl rfl)
theorem dX6_arrive_6 : decode cX6_arrive 6 = .ok (.iconst 0, 1) := dk_3 (dk_at dksX6_arrive_0 6 rfl rfl)
theorem dX6_arrive_7 : decode cX6_arrive 7 = .ok (.iconst 2, 1) := dk_5 (dk_at dksX6_arrive_0 7 rfl rfl)
theorem dX6_arrive_8 : decode cX6_arrive 8 = .ok (.invokestatic 29, 3) := dk_184 0 29 (dk_at dksX6_arrive_0 8 rfl rfl)
theorem dX6_arrive_11 : decode cX6_arrive 11 = .ok (.ifCond .ne 9, 3) := dk_154 0 9 (dk_at dksX6_arrive_0 11 rfl rfl)
theorem dX6_arrive_14 : decode cX6_arrive 14 = .ok (.aload_n 0, 1) := dk_42 (dk_at dksX6_arrive_0 14 rfl rfl)
theorem dX6_arrive_15 : decode cX6_arrive 15 = .ok (.iconst 1, 1) := dk_4 (dk_at dksX6_arrive_0 15 rfl rfl)
theorem dX6_arrive_16 : decode cX6_arrive 16 = .ok (.invokevirtual 104, 3) := dk_182 0 104 (dk_at dksX6_arrive_0 16 rfl rfl)
theorem dX6_arrive_19 : decode cX6_arrive 19 = .ok (.ireturn, 1) := dk_172 (dk_at dksX6_arrive_0 19 rfl rfl)
theorem dX6_arrive_20 : decode cX6_arrive 20 = .ok (.iload_n 2, 1) := dk_28 (dk_at dksX6_arrive_0 20 rfl rfl)
theorem dX6_arrive_21 : decode cX6_arrive 21 = .ok (.iconst 0, 1) := dk_3 (dk_at dksX6_arrive_0 21 rfl rfl)
theorem dX6_arrive_22 : decode cX6_arrive 22 = .ok (.iconst 3, 1) := dk_6 (dk_at dksX6_arrive_0 22 rfl rfl)
theorem dX6_arrive_23 : decode cX6_arrive 23 = .ok (.invokestatic 29, 3) := dk_184 0 29 (dk_at dksX6_arrive_1 0 rfl rfl)
theorem dX6_arrive_26 : decode cX6_arrive 26 = .ok (.ifCond .ne 9, 3) := dk_154 0 9 (dk_at dksX6_arrive_1 3 rfl rfl)
theorem dX6_arrive_29 : decode cX6_arrive 29 = .ok (.aload_n 0, 1) := dk_42 (dk_at dksX6_arrive_1 6 rfl rfl)
theorem dX6_arrive_30 : decode cX6_arrive 30 = .ok (.iconst 2, 1) := dk_5 (dk_at dksX6_arrive_1 7 rfl rfl)
theorem dX6_arrive_31 : decode cX6_arrive 31 = .ok (.invokevirtual 104, 3) := dk_182 0 104 (dk_at dksX6_arrive_1 8 rfl rfl)
theorem dX6_arrive_34 : decode cX6_arrive 34 = .ok (.ireturn, 1) := dk_172 (dk_at dksX6_arrive_1 11 rfl rfl)
theorem dX6_arrive_35 : decode cX6_arrive 35 = .ok (.aload_n 0, 1) := dk_42 (dk_at dksX6_arrive_1 12 rfl rfl)
theorem dX6_arrive_36 : decode cX6_arrive 36 = .ok (.getfield 7, 3) := dk_180 0 7 (dk_at dksX6_arrive_1 13 rfl rfl)
theorem dX6_arrive_39 : decode cX6_arrive 39 = .ok (.iconst 3, 1) := dk_6 (dk_at dksX6_arrive_1 16 rfl rfl)
theorem dX6_arrive_40 : decode cX6_arrive 40 = .ok (.iaload, 1) := dk_46 (dk_at dksX6_arrive_1 17 rfl rfl)
theorem dX6_arrive_41 : decode cX6_arrive 41 = .ok (.bipush 40, 2) := dk_16 40 (dk_at dksX6_arrive_1 18 rfl rfl)
theorem dX6_arrive_43 : decode cX6_arrive 43 = .ok (.if_icmp .ne 9, 3) := dk_160 0 9 (dk_at dksX6_arrive_1 20 rfl rfl)
theorem dX6_arrive_46 : decode cX6_arrive 46 = .ok (.aload_n 0, 1) := dk_42 (dk_at dksX6_arrive_1 23 rfl rfl)
theorem dX6_arrive_47 : decode cX6_arrive 47 = .ok (.iconst 3, 1) := dk_6 (dk_at dksX6_arrive_2 0 rfl rfl)
theorem dX6_arrive_48 : decode cX6_arrive 48 = .ok (.invokevirtual 104, 3) := dk_182 0 104 (dk_at dksX6_arrive_2 1 rfl rfl)
theorem dX6_arrive_51 : decode cX6_arrive 51 = .ok (.ireturn, 1) := dk_172 (dk_at dksX6_arrive_2 4 rfl rfl)
theorem dX6_arrive_52 : decode cX6_arrive 52 = .ok (.aload_n 0, 1) := dk_42 (dk_at dksX6_arrive_2 5 rfl rfl)
theorem dX6_arrive_53 : decode cX6_arrive 53 = .ok (.invokevirtual 107, 3) := dk_182 0 107 (dk_at dksX6_arrive_2 6 rfl rfl)
theorem dX6_arrive_56 : decode cX6_arrive 56 = .ok (.aload_n 0, 1) := dk_42 (dk_at dksX6_arrive_2 9 rfl rfl)
theorem dX6_arrive_57 : decode cX6_arrive 57 = .ok (.iload_n 1, 1) := dk_27 (dk_at dksX6_arrive_2 10 rfl rfl)
theorem dX6_arrive_58 : decode cX6_arrive 58 = .ok (.iload_n 2, 1) := dk_28 (dk_at dksX6_arrive_2 11 rfl rfl)
theorem dX6_arrive_59 : decode cX6_arrive 59 = .ok (.invokevirtual 110, 3) := dk_182 0 110 (dk_at dksX6_arrive_2 12 rfl rfl)
theorem dX6_arrive_62 : decode cX6_arrive 62 = .ok (.ireturn, 1) := dk_172 (dk_at dksX6_arrive_2 15 rfl rfl)
abbrev cX6_in : ByteArray := prog_13_method_4_code
def yX6_in : MethodName := ⟨RX6, "in", "(III)Z"⟩
def dkwX6_in_0 : List UInt8 := [26, 27, 161, 0, 12, 26, 28, 163, 0, 7, 4, 167, 0, 4, 3, 172]
abbrev dktX6_in_0 : List UInt8 := dkwX6_in_0 ++ []
theorem dksX6_in_0 : cX6_in.data.toList.drop 0 = dktX6_in_0 := by decide +kernel
theorem dX6_in_0 : decode cX6_in 0 = .ok (.iload_n 0, 1) := dk_26 (dk_at dksX6_in_0 0 rfl rfl)
theorem dX6_in_1 : decode cX6_in 1 = .ok (.iload_n 1, 1) := dk_27 (dk_at dksX6_in_0 1 rfl rfl)
theorem dX6_in_2 : decode cX6_in 2 = .ok (.if_icmp .lt 12, 3) := dk_161 0 12 (dk_at dksX6_in_0 2 rfl rfl)
theorem dX6_in_5 : decode cX6_in 5 = .ok (.iload_n 0, 1) := dk_26 (dk_at dksX6_in_0 5 rfl rfl)
theorem dX6_in_6 : decode cX6_in 6 = .ok (.iload_n 2, 1) := dk_28 (dk_at dksX6_in_0 6 rfl rfl)
theorem dX6_in_7 : decode cX6_in 7 = .ok (.if_icmp .gt 7, 3) := dk_163 0 7 (dk_at dksX6_in_0 7 rfl rfl)
theorem dX6_in_10 : decode cX6_in 10 = .ok (.iconst 1, 1) := dk_4 (dk_at dksX6_in_0 10 rfl rfl)
theorem dX6_in_11 : decode cX6_in 11 = .ok (.goto 4, 3) := dk_167 0 4 (dk_at dksX6_in_0 11 rfl rfl)
theorem dX6_in_14 : decode cX6_in 14 = .ok (.iconst 0, 1) := dk_3 (dk_at dksX6_in_0 14 rfl rfl)
theorem dX6_in_15 : decode cX6_in 15 = .ok (.ireturn, 1) := dk_172 (dk_at dksX6_in_0 15 rfl rfl)
abbrev cX6_throwing : ByteArray := prog_13_method_3_code
def yX6_throwing : MethodName := ⟨RX6, "throwing", "(I)I"⟩
def dkwX6_throwing_0 : List UInt8 := [42, 27, 181, 0, 25, 3, 172]
abbrev dktX6_throwing_0 : List UInt8 := dkwX6_throwing_0 ++ []
theorem dksX6_throwing_0 : cX6_throwing.data.toList.drop 0 = dktX6_throwing_0 := by decide +kernel
theorem dX6_throwing_0 : decode cX6_throwing 0 = .ok (.aload_n 0, 1) := dk_42 (dk_at dksX6_throwing_0 0 rfl rfl)
theorem dX6_throwing_1 : decode cX6_throwing 1 = .ok (.iload_n 1, 1) := dk_27 (dk_at dksX6_throwing_0 1 rfl rfl)
theorem dX6_throwing_2 : decode cX6_throwing 2 = .ok (.putfield 25, 3) := dk_181 0 25 (dk_at dksX6_throwing_0 2 rfl rfl)
theorem dX6_throwing_5 : decode cX6_throwing 5 = .ok (.iconst 0, 1) := dk_3 (dk_at dksX6_throwing_0 5 rfl rfl)
theorem dX6_throwing_6 : decode cX6_throwing 6 = .ok (.ireturn, 1) := dk_172 (dk_at dksX6_throwing_0 6 rfl rfl)
abbrev cX6_save : ByteArray := prog_13_method_9_code
def yX6_save : MethodName := ⟨RX6, "save", "()V"⟩
def dkwX6_save_4 : List UInt8 := [181, 0, 33, 177]
abbrev dktX6_save_4 : List UInt8 := dkwX6_save_4 ++ []
def dkwX6_save_3 : List UInt8 := [27, 96, 42, 180, 0, 7, 27, 46, 79, 132, 1, 1, 167, 255, 225, 42, 89, 180, 0, 33, 4, 96]
abbrev dktX6_save_3 : List UInt8 := dkwX6_save_3 ++ dktX6_save_4
def dkwX6_save_2 : List UInt8 := [181, 0, 33, 3, 60, 27, 17, 1, 14, 162, 0, 30, 42, 180, 0, 13, 17, 1, 14, 42, 180, 0, 33, 104]
abbrev dktX6_save_2 : List UInt8 := dkwX6_save_2 ++ dktX6_save_3
def dkwX6_save_1 : List UInt8 := [180, 0, 13, 17, 1, 14, 27, 96, 46, 79, 132, 1, 1, 167, 255, 230, 42, 89, 180, 0, 33, 4, 100]
abbrev dktX6_save_1 : List UInt8 := dkwX6_save_1 ++ dktX6_save_2
def dkwX6_save_0 : List UInt8 := [42, 180, 0, 33, 8, 160, 0, 44, 3, 60, 27, 17, 4, 56, 162, 0, 25, 42, 180, 0, 13, 27, 42]
abbrev dktX6_save_0 : List UInt8 := dkwX6_save_0 ++ dktX6_save_1
theorem dksX6_save_0 : cX6_save.data.toList.drop 0 = dktX6_save_0 := by decide +kernel
theorem dksX6_save_1 : cX6_save.data.toList.drop 23 = dktX6_save_1 := dk_seg dksX6_save_0 23 rfl rfl
theorem dksX6_save_2 : cX6_save.data.toList.drop 46 = dktX6_save_2 := dk_seg dksX6_save_1 23 rfl rfl
theorem dksX6_save_3 : cX6_save.data.toList.drop 70 = dktX6_save_3 := dk_seg dksX6_save_2 24 rfl rfl
theorem dksX6_save_4 : cX6_save.data.toList.drop 92 = dktX6_save_4 := dk_seg dksX6_save_3 22 rfl rfl
theorem dX6_save_0 : decode cX6_save 0 = .ok (.aload_n 0, 1) := dk_42 (dk_at dksX6_save_0 0 rfl rfl)
theorem dX6_save_1 : decode cX6_save 1 = .ok (.getfield 33, 3) := dk_180 0 33 (dk_at dksX6_save_0 1 rfl rfl)
theorem dX6_save_4 : decode cX6_save 4 = .ok (.iconst 5, 1) := dk_8 (dk_at dksX6_save_0 4 rfl rfl)
theorem dX6_save_5 : decode cX6_save 5 = .ok (.if_icmp .ne 44, 3) := dk_160 0 44 (dk_at dksX6_save_0 5 rfl rfl)
theorem dX6_save_8 : decode cX6_save 8 = .ok (.iconst 0, 1) := dk_3 (dk_at dksX6_save_0 8 rfl rfl)
theorem dX6_save_9 : decode cX6_save 9 = .ok (.istore_n 1, 1) := dk_60 (dk_at dksX6_save_0 9 rfl rfl)
theorem dX6_save_10 : decode cX6_save 10 = .ok (.iload_n 1, 1) := dk_27 (dk_at dksX6_save_0 10 rfl rfl)
theorem dX6_save_11 : decode cX6_save 11 = .ok (.sipush 1080, 3) := dk_17 4 56 (dk_at dksX6_save_0 11 rfl rfl)
theorem dX6_save_14 : decode cX6_save 14 = .ok (.if_icmp .ge 25, 3) := dk_162 0 25 (dk_at dksX6_save_0 14 rfl rfl)
theorem dX6_save_17 : decode cX6_save 17 = .ok (.aload_n 0, 1) := dk_42 (dk_at dksX6_save_0 17 rfl rfl)
theorem dX6_save_18 : decode cX6_save 18 = .ok (.getfield 13, 3) := dk_180 0 13 (dk_at dksX6_save_0 18 rfl rfl)
theorem dX6_save_21 : decode cX6_save 21 = .ok (.iload_n 1, 1) := dk_27 (dk_at dksX6_save_0 21 rfl rfl)
theorem dX6_save_22 : decode cX6_save 22 = .ok (.aload_n 0, 1) := dk_42 (dk_at dksX6_save_0 22 rfl rfl)
theorem dX6_save_23 : decode cX6_save 23 = .ok (.getfield 13, 3) := dk_180 0 13 (dk_at dksX6_save_1 0 rfl rfl)
theorem dX6_save_26 : decode cX6_save 26 = .ok (.sipush 270, 3) := dk_17 1 14 (dk_at dksX6_save_1 3 rfl rfl)
theorem dX6_save_29 : decode cX6_save 29 = .ok (.iload_n 1, 1) := dk_27 (dk_at dksX6_save_1 6 rfl rfl)
theorem dX6_save_30 : decode cX6_save 30 = .ok (.iadd, 1) := dk_96 (dk_at dksX6_save_1 7 rfl rfl)
theorem dX6_save_31 : decode cX6_save 31 = .ok (.iaload, 1) := dk_46 (dk_at dksX6_save_1 8 rfl rfl)
theorem dX6_save_32 : decode cX6_save 32 = .ok (.iastore, 1) := dk_79 (dk_at dksX6_save_1 9 rfl rfl)
theorem dX6_save_33 : decode cX6_save 33 = .ok (.iinc 1 1, 3) := dk_132 1 1 (dk_at dksX6_save_1 10 rfl rfl)
theorem dX6_save_36 : decode cX6_save 36 = .ok (.goto (-26), 3) := dk_167 255 230 (dk_at dksX6_save_1 13 rfl rfl)
theorem dX6_save_39 : decode cX6_save 39 = .ok (.aload_n 0, 1) := dk_42 (dk_at dksX6_save_1 16 rfl rfl)
theorem dX6_save_40 : decode cX6_save 40 = .ok (.dup, 1) := dk_89 (dk_at dksX6_save_1 17 rfl rfl)
theorem dX6_save_41 : decode cX6_save 41 = .ok (.getfield 33, 3) := dk_180 0 33 (dk_at dksX6_save_1 18 rfl rfl)
theorem dX6_save_44 : decode cX6_save 44 = .ok (.iconst 1, 1) := dk_4 (dk_at dksX6_save_1 21 rfl rfl)
theorem dX6_save_45 : decode cX6_save 45 = .ok (.isub, 1) := dk_100 (dk_at dksX6_save_1 22 rfl rfl)
theorem dX6_save_46 : decode cX6_save 46 = .ok (.putfield 33, 3) := dk_181 0 33 (dk_at dksX6_save_2 0 rfl rfl)
theorem dX6_save_49 : decode cX6_save 49 = .ok (.iconst 0, 1) := dk_3 (dk_at dksX6_save_2 3 rfl rfl)
theorem dX6_save_50 : decode cX6_save 50 = .ok (.istore_n 1, 1) := dk_60 (dk_at dksX6_save_2 4 rfl rfl)
theorem dX6_save_51 : decode cX6_save 51 = .ok (.iload_n 1, 1) := dk_27 (dk_at dksX6_save_2 5 rfl rfl)
theorem dX6_save_52 : decode cX6_save 52 = .ok (.sipush 270, 3) := dk_17 1 14 (dk_at dksX6_save_2 6 rfl rfl)
theorem dX6_save_55 : decode cX6_save 55 = .ok (.if_icmp .ge 30, 3) := dk_162 0 30 (dk_at dksX6_save_2 9 rfl rfl)
theorem dX6_save_58 : decode cX6_save 58 = .ok (.aload_n 0, 1) := dk_42 (dk_at dksX6_save_2 12 rfl rfl)
theorem dX6_save_59 : decode cX6_save 59 = .ok (.getfield 13, 3) := dk_180 0 13 (dk_at dksX6_save_2 13 rfl rfl)
theorem dX6_save_62 : decode cX6_save 62 = .ok (.sipush 270, 3) := dk_17 1 14 (dk_at dksX6_save_2 16 rfl rfl)
theorem dX6_save_65 : decode cX6_save 65 = .ok (.aload_n 0, 1) := dk_42 (dk_at dksX6_save_2 19 rfl rfl)
theorem dX6_save_66 : decode cX6_save 66 = .ok (.getfield 33, 3) := dk_180 0 33 (dk_at dksX6_save_2 20 rfl rfl)
theorem dX6_save_69 : decode cX6_save 69 = .ok (.imul, 1) := dk_104 (dk_at dksX6_save_2 23 rfl rfl)
theorem dX6_save_70 : decode cX6_save 70 = .ok (.iload_n 1, 1) := dk_27 (dk_at dksX6_save_3 0 rfl rfl)
theorem dX6_save_71 : decode cX6_save 71 = .ok (.iadd, 1) := dk_96 (dk_at dksX6_save_3 1 rfl rfl)
theorem dX6_save_72 : decode cX6_save 72 = .ok (.aload_n 0, 1) := dk_42 (dk_at dksX6_save_3 2 rfl rfl)
theorem dX6_save_73 : decode cX6_save 73 = .ok (.getfield 7, 3) := dk_180 0 7 (dk_at dksX6_save_3 3 rfl rfl)
theorem dX6_save_76 : decode cX6_save 76 = .ok (.iload_n 1, 1) := dk_27 (dk_at dksX6_save_3 6 rfl rfl)
theorem dX6_save_77 : decode cX6_save 77 = .ok (.iaload, 1) := dk_46 (dk_at dksX6_save_3 7 rfl rfl)
theorem dX6_save_78 : decode cX6_save 78 = .ok (.iastore, 1) := dk_79 (dk_at dksX6_save_3 8 rfl rfl)
theorem dX6_save_79 : decode cX6_save 79 = .ok (.iinc 1 1, 3) := dk_132 1 1 (dk_at dksX6_save_3 9 rfl rfl)
theorem dX6_save_82 : decode cX6_save 82 = .ok (.goto (-31), 3) := dk_167 255 225 (dk_at dksX6_save_3 12 rfl rfl)
theorem dX6_save_85 : decode cX6_save 85 = .ok (.aload_n 0, 1) := dk_42 (dk_at dksX6_save_3 15 rfl rfl)
theorem dX6_save_86 : decode cX6_save 86 = .ok (.dup, 1) := dk_89 (dk_at dksX6_save_3 16 rfl rfl)
theorem dX6_save_87 : decode cX6_save 87 = .ok (.getfield 33, 3) := dk_180 0 33 (dk_at dksX6_save_3 17 rfl rfl)
theorem dX6_save_90 : decode cX6_save 90 = .ok (.iconst 1, 1) := dk_4 (dk_at dksX6_save_3 20 rfl rfl)
theorem dX6_save_91 : decode cX6_save 91 = .ok (.iadd, 1) := dk_96 (dk_at dksX6_save_3 21 rfl rfl)
theorem dX6_save_92 : decode cX6_save 92 = .ok (.putfield 33, 3) := dk_181 0 33 (dk_at dksX6_save_4 0 rfl rfl)
theorem dX6_save_95 : decode cX6_save 95 = .ok (.return_, 1) := dk_177 (dk_at dksX6_save_4 3 rfl rfl)
abbrev cX6_arrives : ByteArray := prog_13_method_32_code
def yX6_arrives : MethodName := ⟨RX6, "arrives", "(II)I"⟩
def dkwX6_arrives_2 : List UInt8 := [182, 0, 67, 42, 29, 7, 3, 182, 0, 67, 29, 172]
abbrev dktX6_arrives_2 : List UInt8 := dkwX6_arrives_2 ++ []
def dkwX6_arrives_1 : List UInt8 := [42, 29, 4, 28, 182, 0, 67, 42, 29, 5, 3, 182, 0, 67, 42, 29, 6, 42, 180, 0, 7, 3, 46]
abbrev dktX6_arrives_1 : List UInt8 := dkwX6_arrives_1 ++ dktX6_arrives_2
def dkwX6_arrives_0 : List UInt8 := [42, 180, 0, 7, 6, 46, 62, 42, 180, 0, 7, 6, 92, 46, 4, 96, 79, 42, 29, 3, 27, 182, 0, 67]
abbrev dktX6_arrives_0 : List UInt8 := dkwX6_arrives_0 ++ dktX6_arrives_1
theorem dksX6_arrives_0 : cX6_arrives.data.toList.drop 0 = dktX6_arrives_0 := by decide +kernel
theorem dksX6_arrives_1 : cX6_arrives.data.toList.drop 24 = dktX6_arrives_1 := dk_seg dksX6_arrives_0 24 rfl rfl
theorem dksX6_arrives_2 : cX6_arrives.data.toList.drop 47 = dktX6_arrives_2 := dk_seg dksX6_arrives_1 23 rfl rfl
theorem dX6_arrives_0 : decode cX6_arrives 0 = .ok (.aload_n 0, 1) := dk_42 (dk_at dksX6_arrives_0 0 rfl rfl)
theorem dX6_arrives_1 : decode cX6_arrives 1 = .ok (.getfield 7, 3) := dk_180 0 7 (dk_at dksX6_arrives_0 1 rfl rfl)
theorem dX6_arrives_4 : decode cX6_arrives 4 = .ok (.iconst 3, 1) := dk_6 (dk_at dksX6_arrives_0 4 rfl rfl)
theorem dX6_arrives_5 : decode cX6_arrives 5 = .ok (.iaload, 1) := dk_46 (dk_at dksX6_arrives_0 5 rfl rfl)
theorem dX6_arrives_6 : decode cX6_arrives 6 = .ok (.istore_n 3, 1) := dk_62 (dk_at dksX6_arrives_0 6 rfl rfl)
theorem dX6_arrives_7 : decode cX6_arrives 7 = .ok (.aload_n 0, 1) := dk_42 (dk_at dksX6_arrives_0 7 rfl rfl)
theorem dX6_arrives_8 : decode cX6_arrives 8 = .ok (.getfield 7, 3) := dk_180 0 7 (dk_at dksX6_arrives_0 8 rfl rfl)
theorem dX6_arrives_11 : decode cX6_arrives 11 = .ok (.iconst 3, 1) := dk_6 (dk_at dksX6_arrives_0 11 rfl rfl)
theorem dX6_arrives_12 : decode cX6_arrives 12 = .ok (.dup2, 1) := dk_92 (dk_at dksX6_arrives_0 12 rfl rfl)
theorem dX6_arrives_13 : decode cX6_arrives 13 = .ok (.iaload, 1) := dk_46 (dk_at dksX6_arrives_0 13 rfl rfl)
theorem dX6_arrives_14 : decode cX6_arrives 14 = .ok (.iconst 1, 1) := dk_4 (dk_at dksX6_arrives_0 14 rfl rfl)
theorem dX6_arrives_15 : decode cX6_arrives 15 = .ok (.iadd, 1) := dk_96 (dk_at dksX6_arrives_0 15 rfl rfl)
theorem dX6_arrives_16 : decode cX6_arrives 16 = .ok (.iastore, 1) := dk_79 (dk_at dksX6_arrives_0 16 rfl rfl)
theorem dX6_arrives_17 : decode cX6_arrives 17 = .ok (.aload_n 0, 1) := dk_42 (dk_at dksX6_arrives_0 17 rfl rfl)
theorem dX6_arrives_18 : decode cX6_arrives 18 = .ok (.iload_n 3, 1) := dk_29 (dk_at dksX6_arrives_0 18 rfl rfl)
theorem dX6_arrives_19 : decode cX6_arrives 19 = .ok (.iconst 0, 1) := dk_3 (dk_at dksX6_arrives_0 19 rfl rfl)
theorem dX6_arrives_20 : decode cX6_arrives 20 = .ok (.iload_n 1, 1) := dk_27 (dk_at dksX6_arrives_0 20 rfl rfl)
theorem dX6_arrives_21 : decode cX6_arrives 21 = .ok (.invokevirtual 67, 3) := dk_182 0 67 (dk_at dksX6_arrives_0 21 rfl rfl)
theorem dX6_arrives_24 : decode cX6_arrives 24 = .ok (.aload_n 0, 1) := dk_42 (dk_at dksX6_arrives_1 0 rfl rfl)
theorem dX6_arrives_25 : decode cX6_arrives 25 = .ok (.iload_n 3, 1) := dk_29 (dk_at dksX6_arrives_1 1 rfl rfl)
theorem dX6_arrives_26 : decode cX6_arrives 26 = .ok (.iconst 1, 1) := dk_4 (dk_at dksX6_arrives_1 2 rfl rfl)
theorem dX6_arrives_27 : decode cX6_arrives 27 = .ok (.iload_n 2, 1) := dk_28 (dk_at dksX6_arrives_1 3 rfl rfl)
theorem dX6_arrives_28 : decode cX6_arrives 28 = .ok (.invokevirtual 67, 3) := dk_182 0 67 (dk_at dksX6_arrives_1 4 rfl rfl)
theorem dX6_arrives_31 : decode cX6_arrives 31 = .ok (.aload_n 0, 1) := dk_42 (dk_at dksX6_arrives_1 7 rfl rfl)
theorem dX6_arrives_32 : decode cX6_arrives 32 = .ok (.iload_n 3, 1) := dk_29 (dk_at dksX6_arrives_1 8 rfl rfl)
theorem dX6_arrives_33 : decode cX6_arrives 33 = .ok (.iconst 2, 1) := dk_5 (dk_at dksX6_arrives_1 9 rfl rfl)
theorem dX6_arrives_34 : decode cX6_arrives 34 = .ok (.iconst 0, 1) := dk_3 (dk_at dksX6_arrives_1 10 rfl rfl)
theorem dX6_arrives_35 : decode cX6_arrives 35 = .ok (.invokevirtual 67, 3) := dk_182 0 67 (dk_at dksX6_arrives_1 11 rfl rfl)
theorem dX6_arrives_38 : decode cX6_arrives 38 = .ok (.aload_n 0, 1) := dk_42 (dk_at dksX6_arrives_1 14 rfl rfl)
theorem dX6_arrives_39 : decode cX6_arrives 39 = .ok (.iload_n 3, 1) := dk_29 (dk_at dksX6_arrives_1 15 rfl rfl)
theorem dX6_arrives_40 : decode cX6_arrives 40 = .ok (.iconst 3, 1) := dk_6 (dk_at dksX6_arrives_1 16 rfl rfl)
theorem dX6_arrives_41 : decode cX6_arrives 41 = .ok (.aload_n 0, 1) := dk_42 (dk_at dksX6_arrives_1 17 rfl rfl)
theorem dX6_arrives_42 : decode cX6_arrives 42 = .ok (.getfield 7, 3) := dk_180 0 7 (dk_at dksX6_arrives_1 18 rfl rfl)
theorem dX6_arrives_45 : decode cX6_arrives 45 = .ok (.iconst 0, 1) := dk_3 (dk_at dksX6_arrives_1 21 rfl rfl)
theorem dX6_arrives_46 : decode cX6_arrives 46 = .ok (.iaload, 1) := dk_46 (dk_at dksX6_arrives_1 22 rfl rfl)
theorem dX6_arrives_47 : decode cX6_arrives 47 = .ok (.invokevirtual 67, 3) := dk_182 0 67 (dk_at dksX6_arrives_2 0 rfl rfl)
theorem dX6_arrives_50 : decode cX6_arrives 50 = .ok (.aload_n 0, 1) := dk_42 (dk_at dksX6_arrives_2 3 rfl rfl)
theorem dX6_arrives_51 : decode cX6_arrives 51 = .ok (.iload_n 3, 1) := dk_29 (dk_at dksX6_arrives_2 4 rfl rfl)
theorem dX6_arrives_52 : decode cX6_arrives 52 = .ok (.iconst 4, 1) := dk_7 (dk_at dksX6_arrives_2 5 rfl rfl)
theorem dX6_arrives_53 : decode cX6_arrives 53 = .ok (.iconst 0, 1) := dk_3 (dk_at dksX6_arrives_2 6 rfl rfl)
theorem dX6_arrives_54 : decode cX6_arrives 54 = .ok (.invokevirtual 67, 3) := dk_182 0 67 (dk_at dksX6_arrives_2 7 rfl rfl)
theorem dX6_arrives_57 : decode cX6_arrives 57 = .ok (.iload_n 3, 1) := dk_29 (dk_at dksX6_arrives_2 10 rfl rfl)
theorem dX6_arrives_58 : decode cX6_arrives 58 = .ok (.ireturn, 1) := dk_172 (dk_at dksX6_arrives_2 11 rfl rfl)
abbrev cX6_layGuest : ByteArray := prog_13_method_11_code
def yX6_layGuest : MethodName := ⟨RX6, "layGuest", "(III)V"⟩
def dkwX6_layGuest_0 : List UInt8 := [42, 180, 0, 7, 16, 17, 8, 27, 104, 96, 28, 96, 29, 79, 177]
abbrev dktX6_layGuest_0 : List UInt8 := dkwX6_layGuest_0 ++ []
theorem dksX6_layGuest_0 : cX6_layGuest.data.toList.drop 0 = dktX6_layGuest_0 := by decide +kernel
theorem dX6_layGuest_0 : decode cX6_layGuest 0 = .ok (.aload_n 0, 1) := dk_42 (dk_at dksX6_layGuest_0 0 rfl rfl)
theorem dX6_layGuest_1 : decode cX6_layGuest 1 = .ok (.getfield 7, 3) := dk_180 0 7 (dk_at dksX6_layGuest_0 1 rfl rfl)
theorem dX6_layGuest_4 : decode cX6_layGuest 4 = .ok (.bipush 17, 2) := dk_16 17 (dk_at dksX6_layGuest_0 4 rfl rfl)
theorem dX6_layGuest_6 : decode cX6_layGuest 6 = .ok (.iconst 5, 1) := dk_8 (dk_at dksX6_layGuest_0 6 rfl rfl)
theorem dX6_layGuest_7 : decode cX6_layGuest 7 = .ok (.iload_n 1, 1) := dk_27 (dk_at dksX6_layGuest_0 7 rfl rfl)
theorem dX6_layGuest_8 : decode cX6_layGuest 8 = .ok (.imul, 1) := dk_104 (dk_at dksX6_layGuest_0 8 rfl rfl)
theorem dX6_layGuest_9 : decode cX6_layGuest 9 = .ok (.iadd, 1) := dk_96 (dk_at dksX6_layGuest_0 9 rfl rfl)
theorem dX6_layGuest_10 : decode cX6_layGuest 10 = .ok (.iload_n 2, 1) := dk_28 (dk_at dksX6_layGuest_0 10 rfl rfl)
theorem dX6_layGuest_11 : decode cX6_layGuest 11 = .ok (.iadd, 1) := dk_96 (dk_at dksX6_layGuest_0 11 rfl rfl)
theorem dX6_layGuest_12 : decode cX6_layGuest 12 = .ok (.iload_n 3, 1) := dk_29 (dk_at dksX6_layGuest_0 12 rfl rfl)
theorem dX6_layGuest_13 : decode cX6_layGuest 13 = .ok (.iastore, 1) := dk_79 (dk_at dksX6_layGuest_0 13 rfl rfl)
theorem dX6_layGuest_14 : decode cX6_layGuest 14 = .ok (.return_, 1) := dk_177 (dk_at dksX6_layGuest_0 14 rfl rfl)
abbrev cX6_giveUp : ByteArray := prog_13_method_37_code
def yX6_giveUp : MethodName := ⟨RX6, "giveUp", "(I)I"⟩
def dkwX6_giveUp_2 : List UInt8 := [182, 0, 67, 42, 27, 5, 6, 182, 0, 67, 42, 27, 7, 182, 0, 36, 172]
abbrev dktX6_giveUp_2 : List UInt8 := dkwX6_giveUp_2 ++ []
def dkwX6_giveUp_1 : List UInt8 := [182, 0, 36, 153, 0, 9, 42, 5, 182, 0, 104, 172, 42, 182, 0, 107, 42, 27, 7, 42, 27, 182, 0, 64]
abbrev dktX6_giveUp_1 : List UInt8 := dkwX6_giveUp_1 ++ dktX6_giveUp_2
def dkwX6_giveUp_0 : List UInt8 := [42, 3, 181, 0, 25, 42, 27, 182, 0, 113, 154, 0, 9, 42, 4, 182, 0, 104, 172, 42, 27, 5]
abbrev dktX6_giveUp_0 : List UInt8 := dkwX6_giveUp_0 ++ dktX6_giveUp_1
theorem dksX6_giveUp_0 : cX6_giveUp.data.toList.drop 0 = dktX6_giveUp_0 := by decide +kernel
theorem dksX6_giveUp_1 : cX6_giveUp.data.toList.drop 22 = dktX6_giveUp_1 := dk_seg dksX6_giveUp_0 22 rfl rfl
theorem dksX6_giveUp_2 : cX6_giveUp.data.toList.drop 46 = dktX6_giveUp_2 := dk_seg dksX6_giveUp_1 24 rfl rfl
theorem dX6_giveUp_0 : decode cX6_giveUp 0 = .ok (.aload_n 0, 1) := dk_42 (dk_at dksX6_giveUp_0 0 rfl rfl)
theorem dX6_giveUp_1 : decode cX6_giveUp 1 = .ok (.iconst 0, 1) := dk_3 (dk_at dksX6_giveUp_0 1 rfl rfl)
theorem dX6_giveUp_2 : decode cX6_giveUp 2 = .ok (.putfield 25, 3) := dk_181 0 25 (dk_at dksX6_giveUp_0 2 rfl rfl)
theorem dX6_giveUp_5 : decode cX6_giveUp 5 = .ok (.aload_n 0, 1) := dk_42 (dk_at dksX6_giveUp_0 5 rfl rfl)
theorem dX6_giveUp_6 : decode cX6_giveUp 6 = .ok (.iload_n 1, 1) := dk_27 (dk_at dksX6_giveUp_0 6 rfl rfl)
theorem dX6_giveUp_7 : decode cX6_giveUp 7 = .ok (.invokevirtual 113, 3) := dk_182 0 113 (dk_at dksX6_giveUp_0 7 rfl rfl)
theorem dX6_giveUp_10 : decode cX6_giveUp 10 = .ok (.ifCond .ne 9, 3) := dk_154 0 9 (dk_at dksX6_giveUp_0 10 rfl rfl)
theorem dX6_giveUp_13 : decode cX6_giveUp 13 = .ok (.aload_n 0, 1) := dk_42 (dk_at dksX6_giveUp_0 13 rfl rfl)
theorem dX6_giveUp_14 : decode cX6_giveUp 14 = .ok (.iconst 1, 1) := dk_4 (dk_at dksX6_giveUp_0 14 rfl rfl)
theorem dX6_giveUp_15 : decode cX6_giveUp 15 = .ok (.invokevirtual 104, 3) := dk_182 0 104 (dk_at dksX6_giveUp_0 15 rfl rfl)
theorem dX6_giveUp_18 : decode cX6_giveUp 18 = .ok (.ireturn, 1) := dk_172 (dk_at dksX6_giveUp_0 18 rfl rfl)
theorem dX6_giveUp_19 : decode cX6_giveUp 19 = .ok (.aload_n 0, 1) := dk_42 (dk_at dksX6_giveUp_0 19 rfl rfl)
theorem dX6_giveUp_20 : decode cX6_giveUp 20 = .ok (.iload_n 1, 1) := dk_27 (dk_at dksX6_giveUp_0 20 rfl rfl)
theorem dX6_giveUp_21 : decode cX6_giveUp 21 = .ok (.iconst 2, 1) := dk_5 (dk_at dksX6_giveUp_0 21 rfl rfl)
theorem dX6_giveUp_22 : decode cX6_giveUp 22 = .ok (.invokevirtual 36, 3) := dk_182 0 36 (dk_at dksX6_giveUp_1 0 rfl rfl)
theorem dX6_giveUp_25 : decode cX6_giveUp 25 = .ok (.ifCond .eq 9, 3) := dk_153 0 9 (dk_at dksX6_giveUp_1 3 rfl rfl)
theorem dX6_giveUp_28 : decode cX6_giveUp 28 = .ok (.aload_n 0, 1) := dk_42 (dk_at dksX6_giveUp_1 6 rfl rfl)
theorem dX6_giveUp_29 : decode cX6_giveUp 29 = .ok (.iconst 2, 1) := dk_5 (dk_at dksX6_giveUp_1 7 rfl rfl)
theorem dX6_giveUp_30 : decode cX6_giveUp 30 = .ok (.invokevirtual 104, 3) := dk_182 0 104 (dk_at dksX6_giveUp_1 8 rfl rfl)
theorem dX6_giveUp_33 : decode cX6_giveUp 33 = .ok (.ireturn, 1) := dk_172 (dk_at dksX6_giveUp_1 11 rfl rfl)
theorem dX6_giveUp_34 : decode cX6_giveUp 34 = .ok (.aload_n 0, 1) := dk_42 (dk_at dksX6_giveUp_1 12 rfl rfl)
theorem dX6_giveUp_35 : decode cX6_giveUp 35 = .ok (.invokevirtual 107, 3) := dk_182 0 107 (dk_at dksX6_giveUp_1 13 rfl rfl)
theorem dX6_giveUp_38 : decode cX6_giveUp 38 = .ok (.aload_n 0, 1) := dk_42 (dk_at dksX6_giveUp_1 16 rfl rfl)
theorem dX6_giveUp_39 : decode cX6_giveUp 39 = .ok (.iload_n 1, 1) := dk_27 (dk_at dksX6_giveUp_1 17 rfl rfl)
theorem dX6_giveUp_40 : decode cX6_giveUp 40 = .ok (.iconst 4, 1) := dk_7 (dk_at dksX6_giveUp_1 18 rfl rfl)
theorem dX6_giveUp_41 : decode cX6_giveUp 41 = .ok (.aload_n 0, 1) := dk_42 (dk_at dksX6_giveUp_1 19 rfl rfl)
theorem dX6_giveUp_42 : decode cX6_giveUp 42 = .ok (.iload_n 1, 1) := dk_27 (dk_at dksX6_giveUp_1 20 rfl rfl)
theorem dX6_giveUp_43 : decode cX6_giveUp 43 = .ok (.invokevirtual 64, 3) := dk_182 0 64 (dk_at dksX6_giveUp_1 21 rfl rfl)
theorem dX6_giveUp_46 : decode cX6_giveUp 46 = .ok (.invokevirtual 67, 3) := dk_182 0 67 (dk_at dksX6_giveUp_2 0 rfl rfl)
theorem dX6_giveUp_49 : decode cX6_giveUp 49 = .ok (.aload_n 0, 1) := dk_42 (dk_at dksX6_giveUp_2 3 rfl rfl)
theorem dX6_giveUp_50 : decode cX6_giveUp 50 = .ok (.iload_n 1, 1) := dk_27 (dk_at dksX6_giveUp_2 4 rfl rfl)
theorem dX6_giveUp_51 : decode cX6_giveUp 51 = .ok (.iconst 2, 1) := dk_5 (dk_at dksX6_giveUp_2 5 rfl rfl)
theorem dX6_giveUp_52 : decode cX6_giveUp 52 = .ok (.iconst 3, 1) := dk_6 (dk_at dksX6_giveUp_2 6 rfl rfl)
theorem dX6_giveUp_53 : decode cX6_giveUp 53 = .ok (.invokevirtual 67, 3) := dk_182 0 67 (dk_at dksX6_giveUp_2 7 rfl rfl)
theorem dX6_giveUp_56 : decode cX6_giveUp 56 = .ok (.aload_n 0, 1) := dk_42 (dk_at dksX6_giveUp_2 10 rfl rfl)
theorem dX6_giveUp_57 : decode cX6_giveUp 57 = .ok (.iload_n 1, 1) := dk_27 (dk_at dksX6_giveUp_2 11 rfl rfl)
theorem dX6_giveUp_58 : decode cX6_giveUp 58 = .ok (.iconst 4, 1) := dk_7 (dk_at dksX6_giveUp_2 12 rfl rfl)
theorem dX6_giveUp_59 : decode cX6_giveUp 59 = .ok (.invokevirtual 36, 3) := dk_182 0 36 (dk_at dksX6_giveUp_2 13 rfl rfl)
theorem dX6_giveUp_62 : decode cX6_giveUp 62 = .ok (.ireturn, 1) := dk_172 (dk_at dksX6_giveUp_2 16 rfl rfl)
abbrev cX6_isGuest : ByteArray := prog_13_method_5_code
def yX6_isGuest : MethodName := ⟨RX6, "isGuest", "(I)Z"⟩
def dkwX6_isGuest_0 : List UInt8 := [27, 3, 42, 180, 0, 7, 6, 46, 4, 100, 184, 0, 29, 172]
abbrev dktX6_isGuest_0 : List UInt8 := dkwX6_isGuest_0 ++ []
theorem dksX6_isGuest_0 : cX6_isGuest.data.toList.drop 0 = dktX6_isGuest_0 := by decide +kernel
theorem dX6_isGuest_0 : decode cX6_isGuest 0 = .ok (.iload_n 1, 1) := dk_27 (dk_at dksX6_isGuest_0 0 rfl rfl)
theorem dX6_isGuest_1 : decode cX6_isGuest 1 = .ok (.iconst 0, 1) := dk_3 (dk_at dksX6_isGuest_0 1 rfl rfl)
theorem dX6_isGuest_2 : decode cX6_isGuest 2 = .ok (.aload_n 0, 1) := dk_42 (dk_at dksX6_isGuest_0 2 rfl rfl)
theorem dX6_isGuest_3 : decode cX6_isGuest 3 = .ok (.getfield 7, 3) := dk_180 0 7 (dk_at dksX6_isGuest_0 3 rfl rfl)
theorem dX6_isGuest_6 : decode cX6_isGuest 6 = .ok (.iconst 3, 1) := dk_6 (dk_at dksX6_isGuest_0 6 rfl rfl)
theorem dX6_isGuest_7 : decode cX6_isGuest 7 = .ok (.iaload, 1) := dk_46 (dk_at dksX6_isGuest_0 7 rfl rfl)
theorem dX6_isGuest_8 : decode cX6_isGuest 8 = .ok (.iconst 1, 1) := dk_4 (dk_at dksX6_isGuest_0 8 rfl rfl)
theorem dX6_isGuest_9 : decode cX6_isGuest 9 = .ok (.isub, 1) := dk_100 (dk_at dksX6_isGuest_0 9 rfl rfl)
theorem dX6_isGuest_10 : decode cX6_isGuest 10 = .ok (.invokestatic 29, 3) := dk_184 0 29 (dk_at dksX6_isGuest_0 10 rfl rfl)
theorem dX6_isGuest_13 : decode cX6_isGuest 13 = .ok (.ireturn, 1) := dk_172 (dk_at dksX6_isGuest_0 13 rfl rfl)
abbrev cX6_guest : ByteArray := prog_13_method_10_code
def yX6_guest : MethodName := ⟨RX6, "guest", "(II)I"⟩
def dkwX6_guest_0 : List UInt8 := [42, 180, 0, 7, 16, 17, 8, 27, 104, 96, 28, 96, 46, 172]
abbrev dktX6_guest_0 : List UInt8 := dkwX6_guest_0 ++ []
theorem dksX6_guest_0 : cX6_guest.data.toList.drop 0 = dktX6_guest_0 := by decide +kernel
theorem dX6_guest_0 : decode cX6_guest 0 = .ok (.aload_n 0, 1) := dk_42 (dk_at dksX6_guest_0 0 rfl rfl)
theorem dX6_guest_1 : decode cX6_guest 1 = .ok (.getfield 7, 3) := dk_180 0 7 (dk_at dksX6_guest_0 1 rfl rfl)
theorem dX6_guest_4 : decode cX6_guest 4 = .ok (.bipush 17, 2) := dk_16 17 (dk_at dksX6_guest_0 4 rfl rfl)
theorem dX6_guest_6 : decode cX6_guest 6 = .ok (.iconst 5, 1) := dk_8 (dk_at dksX6_guest_0 6 rfl rfl)
theorem dX6_guest_7 : decode cX6_guest 7 = .ok (.iload_n 1, 1) := dk_27 (dk_at dksX6_guest_0 7 rfl rfl)
theorem dX6_guest_8 : decode cX6_guest 8 = .ok (.imul, 1) := dk_104 (dk_at dksX6_guest_0 8 rfl rfl)
theorem dX6_guest_9 : decode cX6_guest 9 = .ok (.iadd, 1) := dk_96 (dk_at dksX6_guest_0 9 rfl rfl)
theorem dX6_guest_10 : decode cX6_guest 10 = .ok (.iload_n 2, 1) := dk_28 (dk_at dksX6_guest_0 10 rfl rfl)
theorem dX6_guest_11 : decode cX6_guest 11 = .ok (.iadd, 1) := dk_96 (dk_at dksX6_guest_0 11 rfl rfl)
theorem dX6_guest_12 : decode cX6_guest 12 = .ok (.iaload, 1) := dk_46 (dk_at dksX6_guest_0 12 rfl rfl)
theorem dX6_guest_13 : decode cX6_guest 13 = .ok (.ireturn, 1) := dk_172 (dk_at dksX6_guest_0 13 rfl rfl)
abbrev cX6_waited : ByteArray := prog_13_method_20_code
def yX6_waited : MethodName := ⟨RX6, "waited", "(I)I"⟩
def dkwX6_waited_1 : List UInt8 := [167, 0, 9, 42, 27, 7, 182, 0, 36, 172]
abbrev dktX6_waited_1 : List UInt8 := dkwX6_waited_1 ++ []
def dkwX6_waited_0 : List UInt8 := [42, 27, 5, 182, 0, 36, 154, 0, 19, 42, 180, 0, 7, 3, 46, 42, 27, 6, 182, 0, 36, 100]
abbrev dktX6_waited_0 : List UInt8 := dkwX6_waited_0 ++ dktX6_waited_1
theorem dksX6_waited_0 : cX6_waited.data.toList.drop 0 = dktX6_waited_0 := by decide +kernel
theorem dksX6_waited_1 : cX6_waited.data.toList.drop 22 = dktX6_waited_1 := dk_seg dksX6_waited_0 22 rfl rfl
theorem dX6_waited_0 : decode cX6_waited 0 = .ok (.aload_n 0, 1) := dk_42 (dk_at dksX6_waited_0 0 rfl rfl)
theorem dX6_waited_1 : decode cX6_waited 1 = .ok (.iload_n 1, 1) := dk_27 (dk_at dksX6_waited_0 1 rfl rfl)
theorem dX6_waited_2 : decode cX6_waited 2 = .ok (.iconst 2, 1) := dk_5 (dk_at dksX6_waited_0 2 rfl rfl)
theorem dX6_waited_3 : decode cX6_waited 3 = .ok (.invokevirtual 36, 3) := dk_182 0 36 (dk_at dksX6_waited_0 3 rfl rfl)
theorem dX6_waited_6 : decode cX6_waited 6 = .ok (.ifCond .ne 19, 3) := dk_154 0 19 (dk_at dksX6_waited_0 6 rfl rfl)
theorem dX6_waited_9 : decode cX6_waited 9 = .ok (.aload_n 0, 1) := dk_42 (dk_at dksX6_waited_0 9 rfl rfl)
theorem dX6_waited_10 : decode cX6_waited 10 = .ok (.getfield 7, 3) := dk_180 0 7 (dk_at dksX6_waited_0 10 rfl rfl)
theorem dX6_waited_13 : decode cX6_waited 13 = .ok (.iconst 0, 1) := dk_3 (dk_at dksX6_waited_0 13 rfl rfl)
theorem dX6_waited_14 : decode cX6_waited 14 = .ok (.iaload, 1) := dk_46 (dk_at dksX6_waited_0 14 rfl rfl)
theorem dX6_waited_15 : decode cX6_waited 15 = .ok (.aload_n 0, 1) := dk_42 (dk_at dksX6_waited_0 15 rfl rfl)
theorem dX6_waited_16 : decode cX6_waited 16 = .ok (.iload_n 1, 1) := dk_27 (dk_at dksX6_waited_0 16 rfl rfl)
theorem dX6_waited_17 : decode cX6_waited 17 = .ok (.iconst 3, 1) := dk_6 (dk_at dksX6_waited_0 17 rfl rfl)
theorem dX6_waited_18 : decode cX6_waited 18 = .ok (.invokevirtual 36, 3) := dk_182 0 36 (dk_at dksX6_waited_0 18 rfl rfl)
theorem dX6_waited_21 : decode cX6_waited 21 = .ok (.isub, 1) := dk_100 (dk_at dksX6_waited_0 21 rfl rfl)
theorem dX6_waited_22 : decode cX6_waited 22 = .ok (.goto 9, 3) := dk_167 0 9 (dk_at dksX6_waited_1 0 rfl rfl)
theorem dX6_waited_25 : decode cX6_waited 25 = .ok (.aload_n 0, 1) := dk_42 (dk_at dksX6_waited_1 3 rfl rfl)
theorem dX6_waited_26 : decode cX6_waited 26 = .ok (.iload_n 1, 1) := dk_27 (dk_at dksX6_waited_1 4 rfl rfl)
theorem dX6_waited_27 : decode cX6_waited 27 = .ok (.iconst 4, 1) := dk_7 (dk_at dksX6_waited_1 5 rfl rfl)
theorem dX6_waited_28 : decode cX6_waited 28 = .ok (.invokevirtual 36, 3) := dk_182 0 36 (dk_at dksX6_waited_1 6 rfl rfl)
theorem dX6_waited_31 : decode cX6_waited 31 = .ok (.ireturn, 1) := dk_172 (dk_at dksX6_waited_1 9 rfl rfl)
abbrev cX6_pass : ByteArray := prog_13_method_38_code
def yX6_pass : MethodName := ⟨RX6, "pass", "(I)I"⟩
def dkwX6_pass_2 : List UInt8 := [27, 182, 0, 117, 172]
abbrev dktX6_pass_2 : List UInt8 := dkwX6_pass_2 ++ []
def dkwX6_pass_1 : List UInt8 := [180, 0, 7, 3, 46, 27, 96, 17, 39, 15, 164, 0, 9, 42, 5, 182, 0, 104, 172, 42, 182, 0, 107, 42]
abbrev dktX6_pass_1 : List UInt8 := dkwX6_pass_1 ++ dktX6_pass_2
def dkwX6_pass_0 : List UInt8 := [42, 3, 181, 0, 25, 27, 4, 16, 99, 184, 0, 29, 154, 0, 9, 42, 4, 182, 0, 104, 172, 42]
abbrev dktX6_pass_0 : List UInt8 := dkwX6_pass_0 ++ dktX6_pass_1
theorem dksX6_pass_0 : cX6_pass.data.toList.drop 0 = dktX6_pass_0 := by decide +kernel
theorem dksX6_pass_1 : cX6_pass.data.toList.drop 22 = dktX6_pass_1 := dk_seg dksX6_pass_0 22 rfl rfl
theorem dksX6_pass_2 : cX6_pass.data.toList.drop 46 = dktX6_pass_2 := dk_seg dksX6_pass_1 24 rfl rfl
theorem dX6_pass_0 : decode cX6_pass 0 = .ok (.aload_n 0, 1) := dk_42 (dk_at dksX6_pass_0 0 rfl rfl)
theorem dX6_pass_1 : decode cX6_pass 1 = .ok (.iconst 0, 1) := dk_3 (dk_at dksX6_pass_0 1 rfl rfl)
theorem dX6_pass_2 : decode cX6_pass 2 = .ok (.putfield 25, 3) := dk_181 0 25 (dk_at dksX6_pass_0 2 rfl rfl)
theorem dX6_pass_5 : decode cX6_pass 5 = .ok (.iload_n 1, 1) := dk_27 (dk_at dksX6_pass_0 5 rfl rfl)
theorem dX6_pass_6 : decode cX6_pass 6 = .ok (.iconst 1, 1) := dk_4 (dk_at dksX6_pass_0 6 rfl rfl)
theorem dX6_pass_7 : decode cX6_pass 7 = .ok (.bipush 99, 2) := dk_16 99 (dk_at dksX6_pass_0 7 rfl rfl)
theorem dX6_pass_9 : decode cX6_pass 9 = .ok (.invokestatic 29, 3) := dk_184 0 29 (dk_at dksX6_pass_0 9 rfl rfl)
theorem dX6_pass_12 : decode cX6_pass 12 = .ok (.ifCond .ne 9, 3) := dk_154 0 9 (dk_at dksX6_pass_0 12 rfl rfl)
theorem dX6_pass_15 : decode cX6_pass 15 = .ok (.aload_n 0, 1) := dk_42 (dk_at dksX6_pass_0 15 rfl rfl)
theorem dX6_pass_16 : decode cX6_pass 16 = .ok (.iconst 1, 1) := dk_4 (dk_at dksX6_pass_0 16 rfl rfl)
theorem dX6_pass_17 : decode cX6_pass 17 = .ok (.invokevirtual 104, 3) := dk_182 0 104 (dk_at dksX6_pass_0 17 rfl rfl)
theorem dX6_pass_20 : decode cX6_pass 20 = .ok (.ireturn, 1) := dk_172 (dk_at dksX6_pass_0 20 rfl rfl)
theorem dX6_pass_21 : decode cX6_pass 21 = .ok (.aload_n 0, 1) := dk_42 (dk_at dksX6_pass_0 21 rfl rfl)
theorem dX6_pass_22 : decode cX6_pass 22 = .ok (.getfield 7, 3) := dk_180 0 7 (dk_at dksX6_pass_1 0 rfl rfl)
theorem dX6_pass_25 : decode cX6_pass 25 = .ok (.iconst 0, 1) := dk_3 (dk_at dksX6_pass_1 3 rfl rfl)
theorem dX6_pass_26 : decode cX6_pass 26 = .ok (.iaload, 1) := dk_46 (dk_at dksX6_pass_1 4 rfl rfl)
theorem dX6_pass_27 : decode cX6_pass 27 = .ok (.iload_n 1, 1) := dk_27 (dk_at dksX6_pass_1 5 rfl rfl)
theorem dX6_pass_28 : decode cX6_pass 28 = .ok (.iadd, 1) := dk_96 (dk_at dksX6_pass_1 6 rfl rfl)
theorem dX6_pass_29 : decode cX6_pass 29 = .ok (.sipush 9999, 3) := dk_17 39 15 (dk_at dksX6_pass_1 7 rfl rfl)
theorem dX6_pass_32 : decode cX6_pass 32 = .ok (.if_icmp .le 9, 3) := dk_164 0 9 (dk_at dksX6_pass_1 10 rfl rfl)
theorem dX6_pass_35 : decode cX6_pass 35 = .ok (.aload_n 0, 1) := dk_42 (dk_at dksX6_pass_1 13 rfl rfl)
theorem dX6_pass_36 : decode cX6_pass 36 = .ok (.iconst 2, 1) := dk_5 (dk_at dksX6_pass_1 14 rfl rfl)
theorem dX6_pass_37 : decode cX6_pass 37 = .ok (.invokevirtual 104, 3) := dk_182 0 104 (dk_at dksX6_pass_1 15 rfl rfl)
theorem dX6_pass_40 : decode cX6_pass 40 = .ok (.ireturn, 1) := dk_172 (dk_at dksX6_pass_1 18 rfl rfl)
theorem dX6_pass_41 : decode cX6_pass 41 = .ok (.aload_n 0, 1) := dk_42 (dk_at dksX6_pass_1 19 rfl rfl)
theorem dX6_pass_42 : decode cX6_pass 42 = .ok (.invokevirtual 107, 3) := dk_182 0 107 (dk_at dksX6_pass_1 20 rfl rfl)
theorem dX6_pass_45 : decode cX6_pass 45 = .ok (.aload_n 0, 1) := dk_42 (dk_at dksX6_pass_1 23 rfl rfl)
theorem dX6_pass_46 : decode cX6_pass 46 = .ok (.iload_n 1, 1) := dk_27 (dk_at dksX6_pass_2 0 rfl rfl)
theorem dX6_pass_47 : decode cX6_pass 47 = .ok (.invokevirtual 117, 3) := dk_182 0 117 (dk_at dksX6_pass_2 1 rfl rfl)
theorem dX6_pass_50 : decode cX6_pass 50 = .ok (.ireturn, 1) := dk_172 (dk_at dksX6_pass_2 4 rfl rfl)
abbrev cX6_passesAll : ByteArray := prog_13_method_31_code
def yX6_passesAll : MethodName := ⟨RX6, "passesAll", "(I)I"⟩
def dkwX6_passesAll_0 : List UInt8 := [3, 61, 3, 62, 29, 27, 162, 0, 16, 28, 42, 182, 0, 101, 96, 61, 132, 3, 1, 167, 255, 241, 28, 172]
abbrev dktX6_passesAll_0 : List UInt8 := dkwX6_passesAll_0 ++ []
theorem dksX6_passesAll_0 : cX6_passesAll.data.toList.drop 0 = dktX6_passesAll_0 := by decide +kernel
theorem dX6_passesAll_0 : decode cX6_passesAll 0 = .ok (.iconst 0, 1) := dk_3 (dk_at dksX6_passesAll_0 0 rfl rfl)
theorem dX6_passesAll_1 : decode cX6_passesAll 1 = .ok (.istore_n 2, 1) := dk_61 (dk_at dksX6_passesAll_0 1 rfl rfl)
theorem dX6_passesAll_2 : decode cX6_passesAll 2 = .ok (.iconst 0, 1) := dk_3 (dk_at dksX6_passesAll_0 2 rfl rfl)
theorem dX6_passesAll_3 : decode cX6_passesAll 3 = .ok (.istore_n 3, 1) := dk_62 (dk_at dksX6_passesAll_0 3 rfl rfl)
theorem dX6_passesAll_4 : decode cX6_passesAll 4 = .ok (.iload_n 3, 1) := dk_29 (dk_at dksX6_passesAll_0 4 rfl rfl)
theorem dX6_passesAll_5 : decode cX6_passesAll 5 = .ok (.iload_n 1, 1) := dk_27 (dk_at dksX6_passesAll_0 5 rfl rfl)
theorem dX6_passesAll_6 : decode cX6_passesAll 6 = .ok (.if_icmp .ge 16, 3) := dk_162 0 16 (dk_at dksX6_passesAll_0 6 rfl rfl)
theorem dX6_passesAll_9 : decode cX6_passesAll 9 = .ok (.iload_n 2, 1) := dk_28 (dk_at dksX6_passesAll_0 9 rfl rfl)
theorem dX6_passesAll_10 : decode cX6_passesAll 10 = .ok (.aload_n 0, 1) := dk_42 (dk_at dksX6_passesAll_0 10 rfl rfl)
theorem dX6_passesAll_11 : decode cX6_passesAll 11 = .ok (.invokevirtual 101, 3) := dk_182 0 101 (dk_at dksX6_passesAll_0 11 rfl rfl)
theorem dX6_passesAll_14 : decode cX6_passesAll 14 = .ok (.iadd, 1) := dk_96 (dk_at dksX6_passesAll_0 14 rfl rfl)
theorem dX6_passesAll_15 : decode cX6_passesAll 15 = .ok (.istore_n 2, 1) := dk_61 (dk_at dksX6_passesAll_0 15 rfl rfl)
theorem dX6_passesAll_16 : decode cX6_passesAll 16 = .ok (.iinc 3 1, 3) := dk_132 3 1 (dk_at dksX6_passesAll_0 16 rfl rfl)
theorem dX6_passesAll_19 : decode cX6_passesAll 19 = .ok (.goto (-15), 3) := dk_167 255 241 (dk_at dksX6_passesAll_0 19 rfl rfl)
theorem dX6_passesAll_22 : decode cX6_passesAll 22 = .ok (.iload_n 2, 1) := dk_28 (dk_at dksX6_passesAll_0 22 rfl rfl)
theorem dX6_passesAll_23 : decode cX6_passesAll 23 = .ok (.ireturn, 1) := dk_172 (dk_at dksX6_passesAll_0 23 rfl rfl)
abbrev cX6_passes : ByteArray := prog_13_method_30_code
def yX6_passes : MethodName := ⟨RX6, "passes", "()I"⟩
def dkwX6_passes_4 : List UInt8 := [167, 255, 233, 3, 60, 42, 182, 0, 95, 154, 0, 13, 42, 182, 0, 98, 132, 1, 1, 167, 255, 242, 27, 172]
abbrev dktX6_passes_4 : List UInt8 := dkwX6_passes_4 ++ []
def dkwX6_passes_3 : List UInt8 := [27, 6, 162, 0, 24, 42, 27, 3, 182, 0, 47, 4, 160, 0, 8, 42, 27, 182, 0, 92, 132, 1, 1]
abbrev dktX6_passes_3 : List UInt8 := dkwX6_passes_3 ++ dktX6_passes_4
def dkwX6_passes_2 : List UInt8 := [167, 0, 9, 42, 27, 4, 182, 0, 44, 182, 0, 73, 132, 1, 1, 167, 255, 207, 42, 182, 0, 89, 3, 60]
abbrev dktX6_passes_2 : List UInt8 := dkwX6_passes_2 ++ dktX6_passes_3
def dkwX6_passes_1 : List UInt8 := [182, 0, 44, 154, 0, 23, 42, 27, 4, 182, 0, 44, 158, 0, 14, 42, 27, 4, 182, 0, 44, 4, 100]
abbrev dktX6_passes_1 : List UInt8 := dkwX6_passes_1 ++ dktX6_passes_2
def dkwX6_passes_0 : List UInt8 := [42, 180, 0, 7, 3, 92, 46, 4, 96, 79, 3, 60, 27, 8, 162, 0, 50, 42, 27, 4, 42, 27, 3]
abbrev dktX6_passes_0 : List UInt8 := dkwX6_passes_0 ++ dktX6_passes_1
theorem dksX6_passes_0 : cX6_passes.data.toList.drop 0 = dktX6_passes_0 := by decide +kernel
theorem dksX6_passes_1 : cX6_passes.data.toList.drop 23 = dktX6_passes_1 := dk_seg dksX6_passes_0 23 rfl rfl
theorem dksX6_passes_2 : cX6_passes.data.toList.drop 46 = dktX6_passes_2 := dk_seg dksX6_passes_1 23 rfl rfl
theorem dksX6_passes_3 : cX6_passes.data.toList.drop 70 = dktX6_passes_3 := dk_seg dksX6_passes_2 24 rfl rfl
theorem dksX6_passes_4 : cX6_passes.data.toList.drop 93 = dktX6_passes_4 := dk_seg dksX6_passes_3 23 rfl rfl
theorem dX6_passes_0 : decode cX6_passes 0 = .ok (.aload_n 0, 1) := dk_42 (dk_at dksX6_passes_0 0 rfl rfl)
theorem dX6_passes_1 : decode cX6_passes 1 = .ok (.getfield 7, 3) := dk_180 0 7 (dk_at dksX6_passes_0 1 rfl rfl)
theorem dX6_passes_4 : decode cX6_passes 4 = .ok (.iconst 0, 1) := dk_3 (dk_at dksX6_passes_0 4 rfl rfl)
theorem dX6_passes_5 : decode cX6_passes 5 = .ok (.dup2, 1) := dk_92 (dk_at dksX6_passes_0 5 rfl rfl)
theorem dX6_passes_6 : decode cX6_passes 6 = .ok (.iaload, 1) := dk_46 (dk_at dksX6_passes_0 6 rfl rfl)
theorem dX6_passes_7 : decode cX6_passes 7 = .ok (.iconst 1, 1) := dk_4 (dk_at dksX6_passes_0 7 rfl rfl)
theorem dX6_passes_8 : decode cX6_passes 8 = .ok (.iadd, 1) := dk_96 (dk_at dksX6_passes_0 8 rfl rfl)
theorem dX6_passes_9 : decode cX6_passes 9 = .ok (.iastore, 1) := dk_79 (dk_at dksX6_passes_0 9 rfl rfl)
theorem dX6_passes_10 : decode cX6_passes 10 = .ok (.iconst 0, 1) := dk_3 (dk_at dksX6_passes_0 10 rfl rfl)
theorem dX6_passes_11 : decode cX6_passes 11 = .ok (.istore_n 1, 1) := dk_60 (dk_at dksX6_passes_0 11 rfl rfl)
theorem dX6_passes_12 : decode cX6_passes 12 = .ok (.iload_n 1, 1) := dk_27 (dk_at dksX6_passes_0 12 rfl rfl)
theorem dX6_passes_13 : decode cX6_passes 13 = .ok (.iconst 5, 1) := dk_8 (dk_at dksX6_passes_0 13 rfl rfl)
theorem dX6_passes_14 : decode cX6_passes 14 = .ok (.if_icmp .ge 50, 3) := dk_162 0 50 (dk_at dksX6_passes_0 14 rfl rfl)
theorem dX6_passes_17 : decode cX6_passes 17 = .ok (.aload_n 0, 1) := dk_42 (dk_at dksX6_passes_0 17 rfl rfl)
theorem dX6_passes_18 : decode cX6_passes 18 = .ok (.iload_n 1, 1) := dk_27 (dk_at dksX6_passes_0 18 rfl rfl)
theorem dX6_passes_19 : decode cX6_passes 19 = .ok (.iconst 1, 1) := dk_4 (dk_at dksX6_passes_0 19 rfl rfl)
theorem dX6_passes_20 : decode cX6_passes 20 = .ok (.aload_n 0, 1) := dk_42 (dk_at dksX6_passes_0 20 rfl rfl)
theorem dX6_passes_21 : decode cX6_passes 21 = .ok (.iload_n 1, 1) := dk_27 (dk_at dksX6_passes_0 21 rfl rfl)
theorem dX6_passes_22 : decode cX6_passes 22 = .ok (.iconst 0, 1) := dk_3 (dk_at dksX6_passes_0 22 rfl rfl)
theorem dX6_passes_23 : decode cX6_passes 23 = .ok (.invokevirtual 44, 3) := dk_182 0 44 (dk_at dksX6_passes_1 0 rfl rfl)
theorem dX6_passes_26 : decode cX6_passes 26 = .ok (.ifCond .ne 23, 3) := dk_154 0 23 (dk_at dksX6_passes_1 3 rfl rfl)
theorem dX6_passes_29 : decode cX6_passes 29 = .ok (.aload_n 0, 1) := dk_42 (dk_at dksX6_passes_1 6 rfl rfl)
theorem dX6_passes_30 : decode cX6_passes 30 = .ok (.iload_n 1, 1) := dk_27 (dk_at dksX6_passes_1 7 rfl rfl)
theorem dX6_passes_31 : decode cX6_passes 31 = .ok (.iconst 1, 1) := dk_4 (dk_at dksX6_passes_1 8 rfl rfl)
theorem dX6_passes_32 : decode cX6_passes 32 = .ok (.invokevirtual 44, 3) := dk_182 0 44 (dk_at dksX6_passes_1 9 rfl rfl)
theorem dX6_passes_35 : decode cX6_passes 35 = .ok (.ifCond .le 14, 3) := dk_158 0 14 (dk_at dksX6_passes_1 12 rfl rfl)
theorem dX6_passes_38 : decode cX6_passes 38 = .ok (.aload_n 0, 1) := dk_42 (dk_at dksX6_passes_1 15 rfl rfl)
theorem dX6_passes_39 : decode cX6_passes 39 = .ok (.iload_n 1, 1) := dk_27 (dk_at dksX6_passes_1 16 rfl rfl)
theorem dX6_passes_40 : decode cX6_passes 40 = .ok (.iconst 1, 1) := dk_4 (dk_at dksX6_passes_1 17 rfl rfl)
theorem dX6_passes_41 : decode cX6_passes 41 = .ok (.invokevirtual 44, 3) := dk_182 0 44 (dk_at dksX6_passes_1 18 rfl rfl)
theorem dX6_passes_44 : decode cX6_passes 44 = .ok (.iconst 1, 1) := dk_4 (dk_at dksX6_passes_1 21 rfl rfl)
theorem dX6_passes_45 : decode cX6_passes 45 = .ok (.isub, 1) := dk_100 (dk_at dksX6_passes_1 22 rfl rfl)
theorem dX6_passes_46 : decode cX6_passes 46 = .ok (.goto 9, 3) := dk_167 0 9 (dk_at dksX6_passes_2 0 rfl rfl)
theorem dX6_passes_49 : decode cX6_passes 49 = .ok (.aload_n 0, 1) := dk_42 (dk_at dksX6_passes_2 3 rfl rfl)
theorem dX6_passes_50 : decode cX6_passes 50 = .ok (.iload_n 1, 1) := dk_27 (dk_at dksX6_passes_2 4 rfl rfl)
theorem dX6_passes_51 : decode cX6_passes 51 = .ok (.iconst 1, 1) := dk_4 (dk_at dksX6_passes_2 5 rfl rfl)
theorem dX6_passes_52 : decode cX6_passes 52 = .ok (.invokevirtual 44, 3) := dk_182 0 44 (dk_at dksX6_passes_2 6 rfl rfl)
theorem dX6_passes_55 : decode cX6_passes 55 = .ok (.invokevirtual 73, 3) := dk_182 0 73 (dk_at dksX6_passes_2 9 rfl rfl)
theorem dX6_passes_58 : decode cX6_passes 58 = .ok (.iinc 1 1, 3) := dk_132 1 1 (dk_at dksX6_passes_2 12 rfl rfl)
theorem dX6_passes_61 : decode cX6_passes 61 = .ok (.goto (-49), 3) := dk_167 255 207 (dk_at dksX6_passes_2 15 rfl rfl)
theorem dX6_passes_64 : decode cX6_passes 64 = .ok (.aload_n 0, 1) := dk_42 (dk_at dksX6_passes_2 18 rfl rfl)
theorem dX6_passes_65 : decode cX6_passes 65 = .ok (.invokevirtual 89, 3) := dk_182 0 89 (dk_at dksX6_passes_2 19 rfl rfl)
theorem dX6_passes_68 : decode cX6_passes 68 = .ok (.iconst 0, 1) := dk_3 (dk_at dksX6_passes_2 22 rfl rfl)
theorem dX6_passes_69 : decode cX6_passes 69 = .ok (.istore_n 1, 1) := dk_60 (dk_at dksX6_passes_2 23 rfl rfl)
theorem dX6_passes_70 : decode cX6_passes 70 = .ok (.iload_n 1, 1) := dk_27 (dk_at dksX6_passes_3 0 rfl rfl)
theorem dX6_passes_71 : decode cX6_passes 71 = .ok (.iconst 3, 1) := dk_6 (dk_at dksX6_passes_3 1 rfl rfl)
theorem dX6_passes_72 : decode cX6_passes 72 = .ok (.if_icmp .ge 24, 3) := dk_162 0 24 (dk_at dksX6_passes_3 2 rfl rfl)
theorem dX6_passes_75 : decode cX6_passes 75 = .ok (.aload_n 0, 1) := dk_42 (dk_at dksX6_passes_3 5 rfl rfl)
theorem dX6_passes_76 : decode cX6_passes 76 = .ok (.iload_n 1, 1) := dk_27 (dk_at dksX6_passes_3 6 rfl rfl)
theorem dX6_passes_77 : decode cX6_passes 77 = .ok (.iconst 0, 1) := dk_3 (dk_at dksX6_passes_3 7 rfl rfl)
theorem dX6_passes_78 : decode cX6_passes 78 = .ok (.invokevirtual 47, 3) := dk_182 0 47 (dk_at dksX6_passes_3 8 rfl rfl)
theorem dX6_passes_81 : decode cX6_passes 81 = .ok (.iconst 1, 1) := dk_4 (dk_at dksX6_passes_3 11 rfl rfl)
theorem dX6_passes_82 : decode cX6_passes 82 = .ok (.if_icmp .ne 8, 3) := dk_160 0 8 (dk_at dksX6_passes_3 12 rfl rfl)
theorem dX6_passes_85 : decode cX6_passes 85 = .ok (.aload_n 0, 1) := dk_42 (dk_at dksX6_passes_3 15 rfl rfl)
theorem dX6_passes_86 : decode cX6_passes 86 = .ok (.iload_n 1, 1) := dk_27 (dk_at dksX6_passes_3 16 rfl rfl)
theorem dX6_passes_87 : decode cX6_passes 87 = .ok (.invokevirtual 92, 3) := dk_182 0 92 (dk_at dksX6_passes_3 17 rfl rfl)
theorem dX6_passes_90 : decode cX6_passes 90 = .ok (.iinc 1 1, 3) := dk_132 1 1 (dk_at dksX6_passes_3 20 rfl rfl)
theorem dX6_passes_93 : decode cX6_passes 93 = .ok (.goto (-23), 3) := dk_167 255 233 (dk_at dksX6_passes_4 0 rfl rfl)
theorem dX6_passes_96 : decode cX6_passes 96 = .ok (.iconst 0, 1) := dk_3 (dk_at dksX6_passes_4 3 rfl rfl)
theorem dX6_passes_97 : decode cX6_passes 97 = .ok (.istore_n 1, 1) := dk_60 (dk_at dksX6_passes_4 4 rfl rfl)
theorem dX6_passes_98 : decode cX6_passes 98 = .ok (.aload_n 0, 1) := dk_42 (dk_at dksX6_passes_4 5 rfl rfl)
theorem dX6_passes_99 : decode cX6_passes 99 = .ok (.invokevirtual 95, 3) := dk_182 0 95 (dk_at dksX6_passes_4 6 rfl rfl)
theorem dX6_passes_102 : decode cX6_passes 102 = .ok (.ifCond .ne 13, 3) := dk_154 0 13 (dk_at dksX6_passes_4 9 rfl rfl)
theorem dX6_passes_105 : decode cX6_passes 105 = .ok (.aload_n 0, 1) := dk_42 (dk_at dksX6_passes_4 12 rfl rfl)
theorem dX6_passes_106 : decode cX6_passes 106 = .ok (.invokevirtual 98, 3) := dk_182 0 98 (dk_at dksX6_passes_4 13 rfl rfl)
theorem dX6_passes_109 : decode cX6_passes 109 = .ok (.iinc 1 1, 3) := dk_132 1 1 (dk_at dksX6_passes_4 16 rfl rfl)
theorem dX6_passes_112 : decode cX6_passes 112 = .ok (.goto (-14), 3) := dk_167 255 242 (dk_at dksX6_passes_4 19 rfl rfl)
theorem dX6_passes_115 : decode cX6_passes 115 = .ok (.iload_n 1, 1) := dk_27 (dk_at dksX6_passes_4 22 rfl rfl)
theorem dX6_passes_116 : decode cX6_passes 116 = .ok (.ireturn, 1) := dk_172 (dk_at dksX6_passes_4 23 rfl rfl)
abbrev cX6_pair : ByteArray := prog_13_method_12_code
def yX6_pair : MethodName := ⟨RX6, "pair", "(II)I"⟩
def dkwX6_pair_0 : List UInt8 := [42, 180, 0, 7, 17, 0, 217, 6, 27, 104, 96, 28, 96, 46, 172]
abbrev dktX6_pair_0 : List UInt8 := dkwX6_pair_0 ++ []
theorem dksX6_pair_0 : cX6_pair.data.toList.drop 0 = dktX6_pair_0 := by decide +kernel
theorem dX6_pair_0 : decode cX6_pair 0 = .ok (.aload_n 0, 1) := dk_42 (dk_at dksX6_pair_0 0 rfl rfl)
theorem dX6_pair_1 : decode cX6_pair 1 = .ok (.getfield 7, 3) := dk_180 0 7 (dk_at dksX6_pair_0 1 rfl rfl)
theorem dX6_pair_4 : decode cX6_pair 4 = .ok (.sipush 217, 3) := dk_17 0 217 (dk_at dksX6_pair_0 4 rfl rfl)
theorem dX6_pair_7 : decode cX6_pair 7 = .ok (.iconst 3, 1) := dk_6 (dk_at dksX6_pair_0 7 rfl rfl)
theorem dX6_pair_8 : decode cX6_pair 8 = .ok (.iload_n 1, 1) := dk_27 (dk_at dksX6_pair_0 8 rfl rfl)
theorem dX6_pair_9 : decode cX6_pair 9 = .ok (.imul, 1) := dk_104 (dk_at dksX6_pair_0 9 rfl rfl)
theorem dX6_pair_10 : decode cX6_pair 10 = .ok (.iadd, 1) := dk_96 (dk_at dksX6_pair_0 10 rfl rfl)
theorem dX6_pair_11 : decode cX6_pair 11 = .ok (.iload_n 2, 1) := dk_28 (dk_at dksX6_pair_0 11 rfl rfl)
theorem dX6_pair_12 : decode cX6_pair 12 = .ok (.iadd, 1) := dk_96 (dk_at dksX6_pair_0 12 rfl rfl)
theorem dX6_pair_13 : decode cX6_pair 13 = .ok (.iaload, 1) := dk_46 (dk_at dksX6_pair_0 13 rfl rfl)
theorem dX6_pair_14 : decode cX6_pair 14 = .ok (.ireturn, 1) := dk_172 (dk_at dksX6_pair_0 14 rfl rfl)
abbrev cX6_layPair : ByteArray := prog_13_method_13_code
def yX6_layPair : MethodName := ⟨RX6, "layPair", "(III)V"⟩
def dkwX6_layPair_0 : List UInt8 := [42, 180, 0, 7, 17, 0, 217, 6, 27, 104, 96, 28, 96, 29, 79, 177]
abbrev dktX6_layPair_0 : List UInt8 := dkwX6_layPair_0 ++ []
theorem dksX6_layPair_0 : cX6_layPair.data.toList.drop 0 = dktX6_layPair_0 := by decide +kernel
theorem dX6_layPair_0 : decode cX6_layPair 0 = .ok (.aload_n 0, 1) := dk_42 (dk_at dksX6_layPair_0 0 rfl rfl)
theorem dX6_layPair_1 : decode cX6_layPair 1 = .ok (.getfield 7, 3) := dk_180 0 7 (dk_at dksX6_layPair_0 1 rfl rfl)
theorem dX6_layPair_4 : decode cX6_layPair 4 = .ok (.sipush 217, 3) := dk_17 0 217 (dk_at dksX6_layPair_0 4 rfl rfl)
theorem dX6_layPair_7 : decode cX6_layPair 7 = .ok (.iconst 3, 1) := dk_6 (dk_at dksX6_layPair_0 7 rfl rfl)
theorem dX6_layPair_8 : decode cX6_layPair 8 = .ok (.iload_n 1, 1) := dk_27 (dk_at dksX6_layPair_0 8 rfl rfl)
theorem dX6_layPair_9 : decode cX6_layPair 9 = .ok (.imul, 1) := dk_104 (dk_at dksX6_layPair_0 9 rfl rfl)
theorem dX6_layPair_10 : decode cX6_layPair 10 = .ok (.iadd, 1) := dk_96 (dk_at dksX6_layPair_0 10 rfl rfl)
theorem dX6_layPair_11 : decode cX6_layPair 11 = .ok (.iload_n 2, 1) := dk_28 (dk_at dksX6_layPair_0 11 rfl rfl)
theorem dX6_layPair_12 : decode cX6_layPair 12 = .ok (.iadd, 1) := dk_96 (dk_at dksX6_layPair_0 12 rfl rfl)
theorem dX6_layPair_13 : decode cX6_layPair 13 = .ok (.iload_n 3, 1) := dk_29 (dk_at dksX6_layPair_0 13 rfl rfl)
theorem dX6_layPair_14 : decode cX6_layPair 14 = .ok (.iastore, 1) := dk_79 (dk_at dksX6_layPair_0 14 rfl rfl)
theorem dX6_layPair_15 : decode cX6_layPair 15 = .ok (.return_, 1) := dk_177 (dk_at dksX6_layPair_0 15 rfl rfl)
abbrev cX6_repairs : ByteArray := prog_13_method_29_code
def yX6_repairs : MethodName := ⟨RX6, "repairs", "()V"⟩
def dkwX6_repairs_6 : List UInt8 := [2, 79, 177]
abbrev dktX6_repairs_6 : List UInt8 := dkwX6_repairs_6 ++ []
def dkwX6_repairs_5 : List UInt8 := [5, 3, 182, 0, 82, 42, 42, 180, 0, 7, 16, 9, 46, 4, 3, 182, 0, 82, 42, 180, 0, 7, 16, 9]
abbrev dktX6_repairs_5 : List UInt8 := dkwX6_repairs_5 ++ dktX6_repairs_6
def dkwX6_repairs_4 : List UInt8 := [16, 10, 46, 4, 100, 79, 42, 180, 0, 7, 16, 10, 46, 154, 0, 37, 42, 42, 180, 0, 7, 16, 9, 46]
abbrev dktX6_repairs_4 : List UInt8 := dkwX6_repairs_4 ++ dktX6_repairs_5
def dkwX6_repairs_3 : List UInt8 := [42, 180, 0, 7, 16, 10, 42, 180, 0, 7, 16, 10, 46, 154, 0, 7, 7, 167, 0, 10, 42, 180, 0, 7]
abbrev dktX6_repairs_3 : List UInt8 := dkwX6_repairs_3 ++ dktX6_repairs_4
def dkwX6_repairs_2 : List UInt8 := [180, 0, 7, 16, 9, 46, 79, 132, 1, 255, 167, 255, 202, 42, 180, 0, 7, 16, 9, 46, 2, 159, 0, 77]
abbrev dktX6_repairs_2 : List UInt8 := dkwX6_repairs_2 ++ dktX6_repairs_3
def dkwX6_repairs_1 : List UInt8 := [3, 182, 0, 47, 154, 0, 17, 42, 27, 5, 182, 0, 47, 4, 160, 0, 7, 27, 167, 0, 10, 42]
abbrev dktX6_repairs_1 : List UInt8 := dkwX6_repairs_1 ++ dktX6_repairs_2
def dkwX6_repairs_0 : List UInt8 := [5, 60, 27, 155, 0, 56, 42, 180, 0, 7, 16, 10, 46, 154, 0, 46, 42, 180, 0, 7, 16, 9, 42, 27]
abbrev dktX6_repairs_0 : List UInt8 := dkwX6_repairs_0 ++ dktX6_repairs_1
theorem dksX6_repairs_0 : cX6_repairs.data.toList.drop 0 = dktX6_repairs_0 := by decide +kernel
theorem dksX6_repairs_1 : cX6_repairs.data.toList.drop 24 = dktX6_repairs_1 := dk_seg dksX6_repairs_0 24 rfl rfl
theorem dksX6_repairs_2 : cX6_repairs.data.toList.drop 46 = dktX6_repairs_2 := dk_seg dksX6_repairs_1 22 rfl rfl
theorem dksX6_repairs_3 : cX6_repairs.data.toList.drop 70 = dktX6_repairs_3 := dk_seg dksX6_repairs_2 24 rfl rfl
theorem dksX6_repairs_4 : cX6_repairs.data.toList.drop 94 = dktX6_repairs_4 := dk_seg dksX6_repairs_3 24 rfl rfl
theorem dksX6_repairs_5 : cX6_repairs.data.toList.drop 118 = dktX6_repairs_5 := dk_seg dksX6_repairs_4 24 rfl rfl
theorem dksX6_repairs_6 : cX6_repairs.data.toList.drop 142 = dktX6_repairs_6 := dk_seg dksX6_repairs_5 24 rfl rfl
theorem dX6_repairs_0 : decode cX6_repairs 0 = .ok (.iconst 2, 1) := dk_5 (dk_at dksX6_repairs_0 0 rfl rfl)
theorem dX6_repairs_1 : decode cX6_repairs 1 = .ok (.istore_n 1, 1) := dk_60 (dk_at dksX6_repairs_0 1 rfl rfl)
theorem dX6_repairs_2 : decode cX6_repairs 2 = .ok (.iload_n 1, 1) := dk_27 (dk_at dksX6_repairs_0 2 rfl rfl)
theorem dX6_repairs_3 : decode cX6_repairs 3 = .ok (.ifCond .lt 56, 3) := dk_155 0 56 (dk_at dksX6_repairs_0 3 rfl rfl)
theorem dX6_repairs_6 : decode cX6_repairs 6 = .ok (.aload_n 0, 1) := dk_42 (dk_at dksX6_repairs_0 6 rfl rfl)
theorem dX6_repairs_7 : decode cX6_repairs 7 = .ok (.getfield 7, 3) := dk_180 0 7 (dk_at dksX6_repairs_0 7 rfl rfl)
theorem dX6_repairs_10 : decode cX6_repairs 10 = .ok (.bipush 10, 2) := dk_16 10 (dk_at dksX6_repairs_0 10 rfl rfl)
theorem dX6_repairs_12 : decode cX6_repairs 12 = .ok (.iaload, 1) := dk_46 (dk_at dksX6_repairs_0 12 rfl rfl)
theorem dX6_repairs_13 : decode cX6_repairs 13 = .ok (.ifCond .ne 46, 3) := dk_154 0 46 (dk_at dksX6_repairs_0 13 rfl rfl)
theorem dX6_repairs_16 : decode cX6_repairs 16 = .ok (.aload_n 0, 1) := dk_42 (dk_at dksX6_repairs_0 16 rfl rfl)
theorem dX6_repairs_17 : decode cX6_repairs 17 = .ok (.getfield 7, 3) := dk_180 0 7 (dk_at dksX6_repairs_0 17 rfl rfl)
theorem dX6_repairs_20 : decode cX6_repairs 20 = .ok (.bipush 9, 2) := dk_16 9 (dk_at dksX6_repairs_0 20 rfl rfl)
theorem dX6_repairs_22 : decode cX6_repairs 22 = .ok (.aload_n 0, 1) := dk_42 (dk_at dksX6_repairs_0 22 rfl rfl)
theorem dX6_repairs_23 : decode cX6_repairs 23 = .ok (.iload_n 1, 1) := dk_27 (dk_at dksX6_repairs_0 23 rfl rfl)
theorem dX6_repairs_24 : decode cX6_repairs 24 = .ok (.iconst 0, 1) := dk_3 (dk_at dksX6_repairs_1 0 rfl rfl)
theorem dX6_repairs_25 : decode cX6_repairs 25 = .ok (.invokevirtual 47, 3) := dk_182 0 47 (dk_at dksX6_repairs_1 1 rfl rfl)
theorem dX6_repairs_28 : decode cX6_repairs 28 = .ok (.ifCond .ne 17, 3) := dk_154 0 17 (dk_at dksX6_repairs_1 4 rfl rfl)
theorem dX6_repairs_31 : decode cX6_repairs 31 = .ok (.aload_n 0, 1) := dk_42 (dk_at dksX6_repairs_1 7 rfl rfl)
theorem dX6_repairs_32 : decode cX6_repairs 32 = .ok (.iload_n 1, 1) := dk_27 (dk_at dksX6_repairs_1 8 rfl rfl)
theorem dX6_repairs_33 : decode cX6_repairs 33 = .ok (.iconst 2, 1) := dk_5 (dk_at dksX6_repairs_1 9 rfl rfl)
theorem dX6_repairs_34 : decode cX6_repairs 34 = .ok (.invokevirtual 47, 3) := dk_182 0 47 (dk_at dksX6_repairs_1 10 rfl rfl)
theorem dX6_repairs_37 : decode cX6_repairs 37 = .ok (.iconst 1, 1) := dk_4 (dk_at dksX6_repairs_1 13 rfl rfl)
theorem dX6_repairs_38 : decode cX6_repairs 38 = .ok (.if_icmp .ne 7, 3) := dk_160 0 7 (dk_at dksX6_repairs_1 14 rfl rfl)
theorem dX6_repairs_41 : decode cX6_repairs 41 = .ok (.iload_n 1, 1) := dk_27 (dk_at dksX6_repairs_1 17 rfl rfl)
theorem dX6_repairs_42 : decode cX6_repairs 42 = .ok (.goto 10, 3) := dk_167 0 10 (dk_at dksX6_repairs_1 18 rfl rfl)
theorem dX6_repairs_45 : decode cX6_repairs 45 = .ok (.aload_n 0, 1) := dk_42 (dk_at dksX6_repairs_1 21 rfl rfl)
theorem dX6_repairs_46 : decode cX6_repairs 46 = .ok (.getfield 7, 3) := dk_180 0 7 (dk_at dksX6_repairs_2 0 rfl rfl)
theorem dX6_repairs_49 : decode cX6_repairs 49 = .ok (.bipush 9, 2) := dk_16 9 (dk_at dksX6_repairs_2 3 rfl rfl)
theorem dX6_repairs_51 : decode cX6_repairs 51 = .ok (.iaload, 1) := dk_46 (dk_at dksX6_repairs_2 5 rfl rfl)
theorem dX6_repairs_52 : decode cX6_repairs 52 = .ok (.iastore, 1) := dk_79 (dk_at dksX6_repairs_2 6 rfl rfl)
theorem dX6_repairs_53 : decode cX6_repairs 53 = .ok (.iinc 1 (-1), 3) := dk_132 1 255 (dk_at dksX6_repairs_2 7 rfl rfl)
theorem dX6_repairs_56 : decode cX6_repairs 56 = .ok (.goto (-54), 3) := dk_167 255 202 (dk_at dksX6_repairs_2 10 rfl rfl)
theorem dX6_repairs_59 : decode cX6_repairs 59 = .ok (.aload_n 0, 1) := dk_42 (dk_at dksX6_repairs_2 13 rfl rfl)
theorem dX6_repairs_60 : decode cX6_repairs 60 = .ok (.getfield 7, 3) := dk_180 0 7 (dk_at dksX6_repairs_2 14 rfl rfl)
theorem dX6_repairs_63 : decode cX6_repairs 63 = .ok (.bipush 9, 2) := dk_16 9 (dk_at dksX6_repairs_2 17 rfl rfl)
theorem dX6_repairs_65 : decode cX6_repairs 65 = .ok (.iaload, 1) := dk_46 (dk_at dksX6_repairs_2 19 rfl rfl)
theorem dX6_repairs_66 : decode cX6_repairs 66 = .ok (.iconst (-1), 1) := dk_2 (dk_at dksX6_repairs_2 20 rfl rfl)
theorem dX6_repairs_67 : decode cX6_repairs 67 = .ok (.if_icmp .eq 77, 3) := dk_159 0 77 (dk_at dksX6_repairs_2 21 rfl rfl)
theorem dX6_repairs_70 : decode cX6_repairs 70 = .ok (.aload_n 0, 1) := dk_42 (dk_at dksX6_repairs_3 0 rfl rfl)
theorem dX6_repairs_71 : decode cX6_repairs 71 = .ok (.getfield 7, 3) := dk_180 0 7 (dk_at dksX6_repairs_3 1 rfl rfl)
theorem dX6_repairs_74 : decode cX6_repairs 74 = .ok (.bipush 10, 2) := dk_16 10 (dk_at dksX6_repairs_3 4 rfl rfl)
theorem dX6_repairs_76 : decode cX6_repairs 76 = .ok (.aload_n 0, 1) := dk_42 (dk_at dksX6_repairs_3 6 rfl rfl)
theorem dX6_repairs_77 : decode cX6_repairs 77 = .ok (.getfield 7, 3) := dk_180 0 7 (dk_at dksX6_repairs_3 7 rfl rfl)
theorem dX6_repairs_80 : decode cX6_repairs 80 = .ok (.bipush 10, 2) := dk_16 10 (dk_at dksX6_repairs_3 10 rfl rfl)
theorem dX6_repairs_82 : decode cX6_repairs 82 = .ok (.iaload, 1) := dk_46 (dk_at dksX6_repairs_3 12 rfl rfl)
theorem dX6_repairs_83 : decode cX6_repairs 83 = .ok (.ifCond .ne 7, 3) := dk_154 0 7 (dk_at dksX6_repairs_3 13 rfl rfl)
theorem dX6_repairs_86 : decode cX6_repairs 86 = .ok (.iconst 4, 1) := dk_7 (dk_at dksX6_repairs_3 16 rfl rfl)
theorem dX6_repairs_87 : decode cX6_repairs 87 = .ok (.goto 10, 3) := dk_167 0 10 (dk_at dksX6_repairs_3 17 rfl rfl)
theorem dX6_repairs_90 : decode cX6_repairs 90 = .ok (.aload_n 0, 1) := dk_42 (dk_at dksX6_repairs_3 20 rfl rfl)
theorem dX6_repairs_91 : decode cX6_repairs 91 = .ok (.getfield 7, 3) := dk_180 0 7 (dk_at dksX6_repairs_3 21 rfl rfl)
theorem dX6_repairs_94 : decode cX6_repairs 94 = .ok (.bipush 10, 2) := dk_16 10 (dk_at dksX6_repairs_4 0 rfl rfl)
theorem dX6_repairs_96 : decode cX6_repairs 96 = .ok (.iaload, 1) := dk_46 (dk_at dksX6_repairs_4 2 rfl rfl)
theorem dX6_repairs_97 : decode cX6_repairs 97 = .ok (.iconst 1, 1) := dk_4 (dk_at dksX6_repairs_4 3 rfl rfl)
theorem dX6_repairs_98 : decode cX6_repairs 98 = .ok (.isub, 1) := dk_100 (dk_at dksX6_repairs_4 4 rfl rfl)
theorem dX6_repairs_99 : decode cX6_repairs 99 = .ok (.iastore, 1) := dk_79 (dk_at dksX6_repairs_4 5 rfl rfl)
theorem dX6_repairs_100 : decode cX6_repairs 100 = .ok (.aload_n 0, 1) := dk_42 (dk_at dksX6_repairs_4 6 rfl rfl)
theorem dX6_repairs_101 : decode cX6_repairs 101 = .ok (.getfield 7, 3) := dk_180 0 7 (dk_at dksX6_repairs_4 7 rfl rfl)
theorem dX6_repairs_104 : decode cX6_repairs 104 = .ok (.bipush 10, 2) := dk_16 10 (dk_at dksX6_repairs_4 10 rfl rfl)
theorem dX6_repairs_106 : decode cX6_repairs 106 = .ok (.iaload, 1) := dk_46 (dk_at dksX6_repairs_4 12 rfl rfl)
theorem dX6_repairs_107 : decode cX6_repairs 107 = .ok (.ifCond .ne 37, 3) := dk_154 0 37 (dk_at dksX6_repairs_4 13 rfl rfl)
theorem dX6_repairs_110 : decode cX6_repairs 110 = .ok (.aload_n 0, 1) := dk_42 (dk_at dksX6_repairs_4 16 rfl rfl)
theorem dX6_repairs_111 : decode cX6_repairs 111 = .ok (.aload_n 0, 1) := dk_42 (dk_at dksX6_repairs_4 17 rfl rfl)
theorem dX6_repairs_112 : decode cX6_repairs 112 = .ok (.getfield 7, 3) := dk_180 0 7 (dk_at dksX6_repairs_4 18 rfl rfl)
theorem dX6_repairs_115 : decode cX6_repairs 115 = .ok (.bipush 9, 2) := dk_16 9 (dk_at dksX6_repairs_4 21 rfl rfl)
theorem dX6_repairs_117 : decode cX6_repairs 117 = .ok (.iaload, 1) := dk_46 (dk_at dksX6_repairs_4 23 rfl rfl)
theorem dX6_repairs_118 : decode cX6_repairs 118 = .ok (.iconst 2, 1) := dk_5 (dk_at dksX6_repairs_5 0 rfl rfl)
theorem dX6_repairs_119 : decode cX6_repairs 119 = .ok (.iconst 0, 1) := dk_3 (dk_at dksX6_repairs_5 1 rfl rfl)
theorem dX6_repairs_120 : decode cX6_repairs 120 = .ok (.invokevirtual 82, 3) := dk_182 0 82 (dk_at dksX6_repairs_5 2 rfl rfl)
theorem dX6_repairs_123 : decode cX6_repairs 123 = .ok (.aload_n 0, 1) := dk_42 (dk_at dksX6_repairs_5 5 rfl rfl)
theorem dX6_repairs_124 : decode cX6_repairs 124 = .ok (.aload_n 0, 1) := dk_42 (dk_at dksX6_repairs_5 6 rfl rfl)
theorem dX6_repairs_125 : decode cX6_repairs 125 = .ok (.getfield 7, 3) := dk_180 0 7 (dk_at dksX6_repairs_5 7 rfl rfl)
theorem dX6_repairs_128 : decode cX6_repairs 128 = .ok (.bipush 9, 2) := dk_16 9 (dk_at dksX6_repairs_5 10 rfl rfl)
theorem dX6_repairs_130 : decode cX6_repairs 130 = .ok (.iaload, 1) := dk_46 (dk_at dksX6_repairs_5 12 rfl rfl)
theorem dX6_repairs_131 : decode cX6_repairs 131 = .ok (.iconst 1, 1) := dk_4 (dk_at dksX6_repairs_5 13 rfl rfl)
theorem dX6_repairs_132 : decode cX6_repairs 132 = .ok (.iconst 0, 1) := dk_3 (dk_at dksX6_repairs_5 14 rfl rfl)
theorem dX6_repairs_133 : decode cX6_repairs 133 = .ok (.invokevirtual 82, 3) := dk_182 0 82 (dk_at dksX6_repairs_5 15 rfl rfl)
theorem dX6_repairs_136 : decode cX6_repairs 136 = .ok (.aload_n 0, 1) := dk_42 (dk_at dksX6_repairs_5 18 rfl rfl)
theorem dX6_repairs_137 : decode cX6_repairs 137 = .ok (.getfield 7, 3) := dk_180 0 7 (dk_at dksX6_repairs_5 19 rfl rfl)
theorem dX6_repairs_140 : decode cX6_repairs 140 = .ok (.bipush 9, 2) := dk_16 9 (dk_at dksX6_repairs_5 22 rfl rfl)
theorem dX6_repairs_142 : decode cX6_repairs 142 = .ok (.iconst (-1), 1) := dk_2 (dk_at dksX6_repairs_6 0 rfl rfl)
theorem dX6_repairs_143 : decode cX6_repairs 143 = .ok (.iastore, 1) := dk_79 (dk_at dksX6_repairs_6 1 rfl rfl)
theorem dX6_repairs_144 : decode cX6_repairs 144 = .ok (.return_, 1) := dk_177 (dk_at dksX6_repairs_6 2 rfl rfl)
abbrev cX6_chaise : ByteArray := prog_13_method_16_code
def yX6_chaise : MethodName := ⟨RX6, "chaise", "(II)I"⟩
def dkwX6_chaise_0 : List UInt8 := [42, 180, 0, 7, 17, 0, 240, 16, 10, 27, 104, 96, 28, 96, 46, 172]
abbrev dktX6_chaise_0 : List UInt8 := dkwX6_chaise_0 ++ []
theorem dksX6_chaise_0 : cX6_chaise.data.toList.drop 0 = dktX6_chaise_0 := by decide +kernel
theorem dX6_chaise_0 : decode cX6_chaise 0 = .ok (.aload_n 0, 1) := dk_42 (dk_at dksX6_chaise_0 0 rfl rfl)
theorem dX6_chaise_1 : decode cX6_chaise 1 = .ok (.getfield 7, 3) := dk_180 0 7 (dk_at dksX6_chaise_0 1 rfl rfl)
theorem dX6_chaise_4 : decode cX6_chaise 4 = .ok (.sipush 240, 3) := dk_17 0 240 (dk_at dksX6_chaise_0 4 rfl rfl)
theorem dX6_chaise_7 : decode cX6_chaise 7 = .ok (.bipush 10, 2) := dk_16 10 (dk_at dksX6_chaise_0 7 rfl rfl)
theorem dX6_chaise_9 : decode cX6_chaise 9 = .ok (.iload_n 1, 1) := dk_27 (dk_at dksX6_chaise_0 9 rfl rfl)
theorem dX6_chaise_10 : decode cX6_chaise 10 = .ok (.imul, 1) := dk_104 (dk_at dksX6_chaise_0 10 rfl rfl)
theorem dX6_chaise_11 : decode cX6_chaise 11 = .ok (.iadd, 1) := dk_96 (dk_at dksX6_chaise_0 11 rfl rfl)
theorem dX6_chaise_12 : decode cX6_chaise 12 = .ok (.iload_n 2, 1) := dk_28 (dk_at dksX6_chaise_0 12 rfl rfl)
theorem dX6_chaise_13 : decode cX6_chaise 13 = .ok (.iadd, 1) := dk_96 (dk_at dksX6_chaise_0 13 rfl rfl)
theorem dX6_chaise_14 : decode cX6_chaise 14 = .ok (.iaload, 1) := dk_46 (dk_at dksX6_chaise_0 14 rfl rfl)
theorem dX6_chaise_15 : decode cX6_chaise 15 = .ok (.ireturn, 1) := dk_172 (dk_at dksX6_chaise_0 15 rfl rfl)
abbrev cX6_layChaise : ByteArray := prog_13_method_17_code
def yX6_layChaise : MethodName := ⟨RX6, "layChaise", "(III)V"⟩
def dkwX6_layChaise_0 : List UInt8 := [42, 180, 0, 7, 17, 0, 240, 16, 10, 27, 104, 96, 28, 96, 29, 79, 177]
abbrev dktX6_layChaise_0 : List UInt8 := dkwX6_layChaise_0 ++ []
theorem dksX6_layChaise_0 : cX6_layChaise.data.toList.drop 0 = dktX6_layChaise_0 := by decide +kernel
theorem dX6_layChaise_0 : decode cX6_layChaise 0 = .ok (.aload_n 0, 1) := dk_42 (dk_at dksX6_layChaise_0 0 rfl rfl)
theorem dX6_layChaise_1 : decode cX6_layChaise 1 = .ok (.getfield 7, 3) := dk_180 0 7 (dk_at dksX6_layChaise_0 1 rfl rfl)
theorem dX6_layChaise_4 : decode cX6_layChaise 4 = .ok (.sipush 240, 3) := dk_17 0 240 (dk_at dksX6_layChaise_0 4 rfl rfl)
theorem dX6_layChaise_7 : decode cX6_layChaise 7 = .ok (.bipush 10, 2) := dk_16 10 (dk_at dksX6_layChaise_0 7 rfl rfl)
theorem dX6_layChaise_9 : decode cX6_layChaise 9 = .ok (.iload_n 1, 1) := dk_27 (dk_at dksX6_layChaise_0 9 rfl rfl)
theorem dX6_layChaise_10 : decode cX6_layChaise 10 = .ok (.imul, 1) := dk_104 (dk_at dksX6_layChaise_0 10 rfl rfl)
theorem dX6_layChaise_11 : decode cX6_layChaise 11 = .ok (.iadd, 1) := dk_96 (dk_at dksX6_layChaise_0 11 rfl rfl)
theorem dX6_layChaise_12 : decode cX6_layChaise 12 = .ok (.iload_n 2, 1) := dk_28 (dk_at dksX6_layChaise_0 12 rfl rfl)
theorem dX6_layChaise_13 : decode cX6_layChaise 13 = .ok (.iadd, 1) := dk_96 (dk_at dksX6_layChaise_0 13 rfl rfl)
theorem dX6_layChaise_14 : decode cX6_layChaise 14 = .ok (.iload_n 3, 1) := dk_29 (dk_at dksX6_layChaise_0 14 rfl rfl)
theorem dX6_layChaise_15 : decode cX6_layChaise 15 = .ok (.iastore, 1) := dk_79 (dk_at dksX6_layChaise_0 15 rfl rfl)
theorem dX6_layChaise_16 : decode cX6_layChaise 16 = .ok (.return_, 1) := dk_177 (dk_at dksX6_layChaise_0 16 rfl rfl)
abbrev cX6_rides : ByteArray := prog_13_method_28_code
def yX6_rides : MethodName := ⟨RX6, "rides", "(I)V"⟩
def dkwX6_rides_8 : List UInt8 := [16, 16, 92, 46, 4, 96, 79, 177]
abbrev dktX6_rides_8 : List UInt8 := dkwX6_rides_8 ++ []
def dkwX6_rides_7 : List UInt8 := [182, 0, 47, 42, 180, 0, 7, 5, 46, 161, 0, 21, 42, 27, 5, 4, 182, 0, 82, 42, 180, 0, 7]
abbrev dktX6_rides_7 : List UInt8 := dkwX6_rides_7 ++ dktX6_rides_8
def dkwX6_rides_6 : List UInt8 := [27, 16, 8, 182, 0, 47, 182, 0, 73, 42, 42, 27, 16, 6, 182, 0, 47, 182, 0, 85, 42, 27, 4]
abbrev dktX6_rides_6 : List UInt8 := dkwX6_rides_6 ++ dktX6_rides_7
def dkwX6_rides_5 : List UInt8 := [182, 0, 73, 42, 21, 4, 5, 42, 21, 4, 5, 182, 0, 44, 29, 96, 182, 0, 73, 42, 21, 4, 4, 42]
abbrev dktX6_rides_5 : List UInt8 := dkwX6_rides_5 ++ dktX6_rides_6
def dkwX6_rides_4 : List UInt8 := [182, 0, 82, 42, 27, 4, 42, 27, 4, 182, 0, 47, 29, 96, 182, 0, 82, 42, 21, 4, 3, 3]
abbrev dktX6_rides_4 : List UInt8 := dkwX6_rides_4 ++ dktX6_rides_5
def dkwX6_rides_3 : List UInt8 := [182, 0, 47, 54, 4, 42, 27, 3, 3, 182, 0, 82, 42, 27, 6, 42, 27, 6, 182, 0, 47, 29, 96]
abbrev dktX6_rides_3 : List UInt8 := dkwX6_rides_3 ++ dktX6_rides_4
def dkwX6_rides_2 : List UInt8 := [27, 16, 7, 182, 0, 47, 154, 0, 140, 5, 42, 28, 4, 182, 0, 36, 184, 0, 40, 104, 62, 42, 27, 8]
abbrev dktX6_rides_2 : List UInt8 := dkwX6_rides_2 ++ dktX6_rides_3
def dkwX6_rides_1 : List UInt8 := [27, 16, 7, 182, 0, 47, 42, 27, 16, 9, 182, 0, 47, 160, 0, 10, 42, 28, 5, 5, 182, 0, 67, 42]
abbrev dktX6_rides_1 : List UInt8 := dkwX6_rides_1 ++ dktX6_rides_2
def dkwX6_rides_0 : List UInt8 := [42, 27, 16, 7, 42, 27, 16, 7, 182, 0, 47, 4, 100, 182, 0, 82, 42, 27, 7, 182, 0, 47, 61, 42]
abbrev dktX6_rides_0 : List UInt8 := dkwX6_rides_0 ++ dktX6_rides_1
theorem dksX6_rides_0 : cX6_rides.data.toList.drop 0 = dktX6_rides_0 := by decide +kernel
theorem dksX6_rides_1 : cX6_rides.data.toList.drop 24 = dktX6_rides_1 := dk_seg dksX6_rides_0 24 rfl rfl
theorem dksX6_rides_2 : cX6_rides.data.toList.drop 48 = dktX6_rides_2 := dk_seg dksX6_rides_1 24 rfl rfl
theorem dksX6_rides_3 : cX6_rides.data.toList.drop 72 = dktX6_rides_3 := dk_seg dksX6_rides_2 24 rfl rfl
theorem dksX6_rides_4 : cX6_rides.data.toList.drop 95 = dktX6_rides_4 := dk_seg dksX6_rides_3 23 rfl rfl
theorem dksX6_rides_5 : cX6_rides.data.toList.drop 117 = dktX6_rides_5 := dk_seg dksX6_rides_4 22 rfl rfl
theorem dksX6_rides_6 : cX6_rides.data.toList.drop 141 = dktX6_rides_6 := dk_seg dksX6_rides_5 24 rfl rfl
theorem dksX6_rides_7 : cX6_rides.data.toList.drop 164 = dktX6_rides_7 := dk_seg dksX6_rides_6 23 rfl rfl
theorem dksX6_rides_8 : cX6_rides.data.toList.drop 187 = dktX6_rides_8 := dk_seg dksX6_rides_7 23 rfl rfl
theorem dX6_rides_0 : decode cX6_rides 0 = .ok (.aload_n 0, 1) := dk_42 (dk_at dksX6_rides_0 0 rfl rfl)
theorem dX6_rides_1 : decode cX6_rides 1 = .ok (.iload_n 1, 1) := dk_27 (dk_at dksX6_rides_0 1 rfl rfl)
theorem dX6_rides_2 : decode cX6_rides 2 = .ok (.bipush 7, 2) := dk_16 7 (dk_at dksX6_rides_0 2 rfl rfl)
theorem dX6_rides_4 : decode cX6_rides 4 = .ok (.aload_n 0, 1) := dk_42 (dk_at dksX6_rides_0 4 rfl rfl)
theorem dX6_rides_5 : decode cX6_rides 5 = .ok (.iload_n 1, 1) := dk_27 (dk_at dksX6_rides_0 5 rfl rfl)
theorem dX6_rides_6 : decode cX6_rides 6 = .ok (.bipush 7, 2) := dk_16 7 (dk_at dksX6_rides_0 6 rfl rfl)
theorem dX6_rides_8 : decode cX6_rides 8 = .ok (.invokevirtual 47, 3) := dk_182 0 47 (dk_at dksX6_rides_0 8 rfl rfl)
theorem dX6_rides_11 : decode cX6_rides 11 = .ok (.iconst 1, 1) := dk_4 (dk_at dksX6_rides_0 11 rfl rfl)
theorem dX6_rides_12 : decode cX6_rides 12 = .ok (.isub, 1) := dk_100 (dk_at dksX6_rides_0 12 rfl rfl)
theorem dX6_rides_13 : decode cX6_rides 13 = .ok (.invokevirtual 82, 3) := dk_182 0 82 (dk_at dksX6_rides_0 13 rfl rfl)
theorem dX6_rides_16 : decode cX6_rides 16 = .ok (.aload_n 0, 1) := dk_42 (dk_at dksX6_rides_0 16 rfl rfl)
theorem dX6_rides_17 : decode cX6_rides 17 = .ok (.iload_n 1, 1) := dk_27 (dk_at dksX6_rides_0 17 rfl rfl)
theorem dX6_rides_18 : decode cX6_rides 18 = .ok (.iconst 4, 1) := dk_7 (dk_at dksX6_rides_0 18 rfl rfl)
theorem dX6_rides_19 : decode cX6_rides 19 = .ok (.invokevirtual 47, 3) := dk_182 0 47 (dk_at dksX6_rides_0 19 rfl rfl)
theorem dX6_rides_22 : decode cX6_rides 22 = .ok (.istore_n 2, 1) := dk_61 (dk_at dksX6_rides_0 22 rfl rfl)
theorem dX6_rides_23 : decode cX6_rides 23 = .ok (.aload_n 0, 1) := dk_42 (dk_at dksX6_rides_0 23 rfl rfl)
theorem dX6_rides_24 : decode cX6_rides 24 = .ok (.iload_n 1, 1) := dk_27 (dk_at dksX6_rides_1 0 rfl rfl)
theorem dX6_rides_25 : decode cX6_rides 25 = .ok (.bipush 7, 2) := dk_16 7 (dk_at dksX6_rides_1 1 rfl rfl)
theorem dX6_rides_27 : decode cX6_rides 27 = .ok (.invokevirtual 47, 3) := dk_182 0 47 (dk_at dksX6_rides_1 3 rfl rfl)
theorem dX6_rides_30 : decode cX6_rides 30 = .ok (.aload_n 0, 1) := dk_42 (dk_at dksX6_rides_1 6 rfl rfl)
theorem dX6_rides_31 : decode cX6_rides 31 = .ok (.iload_n 1, 1) := dk_27 (dk_at dksX6_rides_1 7 rfl rfl)
theorem dX6_rides_32 : decode cX6_rides 32 = .ok (.bipush 9, 2) := dk_16 9 (dk_at dksX6_rides_1 8 rfl rfl)
theorem dX6_rides_34 : decode cX6_rides 34 = .ok (.invokevirtual 47, 3) := dk_182 0 47 (dk_at dksX6_rides_1 10 rfl rfl)
theorem dX6_rides_37 : decode cX6_rides 37 = .ok (.if_icmp .ne 10, 3) := dk_160 0 10 (dk_at dksX6_rides_1 13 rfl rfl)
theorem dX6_rides_40 : decode cX6_rides 40 = .ok (.aload_n 0, 1) := dk_42 (dk_at dksX6_rides_1 16 rfl rfl)
theorem dX6_rides_41 : decode cX6_rides 41 = .ok (.iload_n 2, 1) := dk_28 (dk_at dksX6_rides_1 17 rfl rfl)
theorem dX6_rides_42 : decode cX6_rides 42 = .ok (.iconst 2, 1) := dk_5 (dk_at dksX6_rides_1 18 rfl rfl)
theorem dX6_rides_43 : decode cX6_rides 43 = .ok (.iconst 2, 1) := dk_5 (dk_at dksX6_rides_1 19 rfl rfl)
theorem dX6_rides_44 : decode cX6_rides 44 = .ok (.invokevirtual 67, 3) := dk_182 0 67 (dk_at dksX6_rides_1 20 rfl rfl)
theorem dX6_rides_47 : decode cX6_rides 47 = .ok (.aload_n 0, 1) := dk_42 (dk_at dksX6_rides_1 23 rfl rfl)
theorem dX6_rides_48 : decode cX6_rides 48 = .ok (.iload_n 1, 1) := dk_27 (dk_at dksX6_rides_2 0 rfl rfl)
theorem dX6_rides_49 : decode cX6_rides 49 = .ok (.bipush 7, 2) := dk_16 7 (dk_at dksX6_rides_2 1 rfl rfl)
theorem dX6_rides_51 : decode cX6_rides 51 = .ok (.invokevirtual 47, 3) := dk_182 0 47 (dk_at dksX6_rides_2 3 rfl rfl)
theorem dX6_rides_54 : decode cX6_rides 54 = .ok (.ifCond .ne 140, 3) := dk_154 0 140 (dk_at dksX6_rides_2 6 rfl rfl)
theorem dX6_rides_57 : decode cX6_rides 57 = .ok (.iconst 2, 1) := dk_5 (dk_at dksX6_rides_2 9 rfl rfl)
theorem dX6_rides_58 : decode cX6_rides 58 = .ok (.aload_n 0, 1) := dk_42 (dk_at dksX6_rides_2 10 rfl rfl)
theorem dX6_rides_59 : decode cX6_rides 59 = .ok (.iload_n 2, 1) := dk_28 (dk_at dksX6_rides_2 11 rfl rfl)
theorem dX6_rides_60 : decode cX6_rides 60 = .ok (.iconst 1, 1) := dk_4 (dk_at dksX6_rides_2 12 rfl rfl)
theorem dX6_rides_61 : decode cX6_rides 61 = .ok (.invokevirtual 36, 3) := dk_182 0 36 (dk_at dksX6_rides_2 13 rfl rfl)
theorem dX6_rides_64 : decode cX6_rides 64 = .ok (.invokestatic 40, 3) := dk_184 0 40 (dk_at dksX6_rides_2 16 rfl rfl)
theorem dX6_rides_67 : decode cX6_rides 67 = .ok (.imul, 1) := dk_104 (dk_at dksX6_rides_2 19 rfl rfl)
theorem dX6_rides_68 : decode cX6_rides 68 = .ok (.istore_n 3, 1) := dk_62 (dk_at dksX6_rides_2 20 rfl rfl)
theorem dX6_rides_69 : decode cX6_rides 69 = .ok (.aload_n 0, 1) := dk_42 (dk_at dksX6_rides_2 21 rfl rfl)
theorem dX6_rides_70 : decode cX6_rides 70 = .ok (.iload_n 1, 1) := dk_27 (dk_at dksX6_rides_2 22 rfl rfl)
theorem dX6_rides_71 : decode cX6_rides 71 = .ok (.iconst 5, 1) := dk_8 (dk_at dksX6_rides_2 23 rfl rfl)
theorem dX6_rides_72 : decode cX6_rides 72 = .ok (.invokevirtual 47, 3) := dk_182 0 47 (dk_at dksX6_rides_3 0 rfl rfl)
theorem dX6_rides_75 : decode cX6_rides 75 = .ok (.istore 4, 2) := dk_54 4 (dk_at dksX6_rides_3 3 rfl rfl)
theorem dX6_rides_77 : decode cX6_rides 77 = .ok (.aload_n 0, 1) := dk_42 (dk_at dksX6_rides_3 5 rfl rfl)
theorem dX6_rides_78 : decode cX6_rides 78 = .ok (.iload_n 1, 1) := dk_27 (dk_at dksX6_rides_3 6 rfl rfl)
theorem dX6_rides_79 : decode cX6_rides 79 = .ok (.iconst 0, 1) := dk_3 (dk_at dksX6_rides_3 7 rfl rfl)
theorem dX6_rides_80 : decode cX6_rides 80 = .ok (.iconst 0, 1) := dk_3 (dk_at dksX6_rides_3 8 rfl rfl)
theorem dX6_rides_81 : decode cX6_rides 81 = .ok (.invokevirtual 82, 3) := dk_182 0 82 (dk_at dksX6_rides_3 9 rfl rfl)
theorem dX6_rides_84 : decode cX6_rides 84 = .ok (.aload_n 0, 1) := dk_42 (dk_at dksX6_rides_3 12 rfl rfl)
theorem dX6_rides_85 : decode cX6_rides 85 = .ok (.iload_n 1, 1) := dk_27 (dk_at dksX6_rides_3 13 rfl rfl)
theorem dX6_rides_86 : decode cX6_rides 86 = .ok (.iconst 3, 1) := dk_6 (dk_at dksX6_rides_3 14 rfl rfl)
theorem dX6_rides_87 : decode cX6_rides 87 = .ok (.aload_n 0, 1) := dk_42 (dk_at dksX6_rides_3 15 rfl rfl)
theorem dX6_rides_88 : decode cX6_rides 88 = .ok (.iload_n 1, 1) := dk_27 (dk_at dksX6_rides_3 16 rfl rfl)
theorem dX6_rides_89 : decode cX6_rides 89 = .ok (.iconst 3, 1) := dk_6 (dk_at dksX6_rides_3 17 rfl rfl)
theorem dX6_rides_90 : decode cX6_rides 90 = .ok (.invokevirtual 47, 3) := dk_182 0 47 (dk_at dksX6_rides_3 18 rfl rfl)
theorem dX6_rides_93 : decode cX6_rides 93 = .ok (.iload_n 3, 1) := dk_29 (dk_at dksX6_rides_3 21 rfl rfl)
theorem dX6_rides_94 : decode cX6_rides 94 = .ok (.iadd, 1) := dk_96 (dk_at dksX6_rides_3 22 rfl rfl)
theorem dX6_rides_95 : decode cX6_rides 95 = .ok (.invokevirtual 82, 3) := dk_182 0 82 (dk_at dksX6_rides_4 0 rfl rfl)
theorem dX6_rides_98 : decode cX6_rides 98 = .ok (.aload_n 0, 1) := dk_42 (dk_at dksX6_rides_4 3 rfl rfl)
theorem dX6_rides_99 : decode cX6_rides 99 = .ok (.iload_n 1, 1) := dk_27 (dk_at dksX6_rides_4 4 rfl rfl)
theorem dX6_rides_100 : decode cX6_rides 100 = .ok (.iconst 1, 1) := dk_4 (dk_at dksX6_rides_4 5 rfl rfl)
theorem dX6_rides_101 : decode cX6_rides 101 = .ok (.aload_n 0, 1) := dk_42 (dk_at dksX6_rides_4 6 rfl rfl)
theorem dX6_rides_102 : decode cX6_rides 102 = .ok (.iload_n 1, 1) := dk_27 (dk_at dksX6_rides_4 7 rfl rfl)
theorem dX6_rides_103 : decode cX6_rides 103 = .ok (.iconst 1, 1) := dk_4 (dk_at dksX6_rides_4 8 rfl rfl)
theorem dX6_rides_104 : decode cX6_rides 104 = .ok (.invokevirtual 47, 3) := dk_182 0 47 (dk_at dksX6_rides_4 9 rfl rfl)
theorem dX6_rides_107 : decode cX6_rides 107 = .ok (.iload_n 3, 1) := dk_29 (dk_at dksX6_rides_4 12 rfl rfl)
theorem dX6_rides_108 : decode cX6_rides 108 = .ok (.iadd, 1) := dk_96 (dk_at dksX6_rides_4 13 rfl rfl)
theorem dX6_rides_109 : decode cX6_rides 109 = .ok (.invokevirtual 82, 3) := dk_182 0 82 (dk_at dksX6_rides_4 14 rfl rfl)
theorem dX6_rides_112 : decode cX6_rides 112 = .ok (.aload_n 0, 1) := dk_42 (dk_at dksX6_rides_4 17 rfl rfl)
theorem dX6_rides_113 : decode cX6_rides 113 = .ok (.iload 4, 2) := dk_21 4 (dk_at dksX6_rides_4 18 rfl rfl)
theorem dX6_rides_115 : decode cX6_rides 115 = .ok (.iconst 0, 1) := dk_3 (dk_at dksX6_rides_4 20 rfl rfl)
theorem dX6_rides_116 : decode cX6_rides 116 = .ok (.iconst 0, 1) := dk_3 (dk_at dksX6_rides_4 21 rfl rfl)
theorem dX6_rides_117 : decode cX6_rides 117 = .ok (.invokevirtual 73, 3) := dk_182 0 73 (dk_at dksX6_rides_5 0 rfl rfl)
theorem dX6_rides_120 : decode cX6_rides 120 = .ok (.aload_n 0, 1) := dk_42 (dk_at dksX6_rides_5 3 rfl rfl)
theorem dX6_rides_121 : decode cX6_rides 121 = .ok (.iload 4, 2) := dk_21 4 (dk_at dksX6_rides_5 4 rfl rfl)
theorem dX6_rides_123 : decode cX6_rides 123 = .ok (.iconst 2, 1) := dk_5 (dk_at dksX6_rides_5 6 rfl rfl)
theorem dX6_rides_124 : decode cX6_rides 124 = .ok (.aload_n 0, 1) := dk_42 (dk_at dksX6_rides_5 7 rfl rfl)
theorem dX6_rides_125 : decode cX6_rides 125 = .ok (.iload 4, 2) := dk_21 4 (dk_at dksX6_rides_5 8 rfl rfl)
theorem dX6_rides_127 : decode cX6_rides 127 = .ok (.iconst 2, 1) := dk_5 (dk_at dksX6_rides_5 10 rfl rfl)
theorem dX6_rides_128 : decode cX6_rides 128 = .ok (.invokevirtual 44, 3) := dk_182 0 44 (dk_at dksX6_rides_5 11 rfl rfl)
theorem dX6_rides_131 : decode cX6_rides 131 = .ok (.iload_n 3, 1) := dk_29 (dk_at dksX6_rides_5 14 rfl rfl)
theorem dX6_rides_132 : decode cX6_rides 132 = .ok (.iadd, 1) := dk_96 (dk_at dksX6_rides_5 15 rfl rfl)
theorem dX6_rides_133 : decode cX6_rides 133 = .ok (.invokevirtual 73, 3) := dk_182 0 73 (dk_at dksX6_rides_5 16 rfl rfl)
theorem dX6_rides_136 : decode cX6_rides 136 = .ok (.aload_n 0, 1) := dk_42 (dk_at dksX6_rides_5 19 rfl rfl)
theorem dX6_rides_137 : decode cX6_rides 137 = .ok (.iload 4, 2) := dk_21 4 (dk_at dksX6_rides_5 20 rfl rfl)
theorem dX6_rides_139 : decode cX6_rides 139 = .ok (.iconst 1, 1) := dk_4 (dk_at dksX6_rides_5 22 rfl rfl)
theorem dX6_rides_140 : decode cX6_rides 140 = .ok (.aload_n 0, 1) := dk_42 (dk_at dksX6_rides_5 23 rfl rfl)
theorem dX6_rides_141 : decode cX6_rides 141 = .ok (.iload_n 1, 1) := dk_27 (dk_at dksX6_rides_6 0 rfl rfl)
theorem dX6_rides_142 : decode cX6_rides 142 = .ok (.bipush 8, 2) := dk_16 8 (dk_at dksX6_rides_6 1 rfl rfl)
theorem dX6_rides_144 : decode cX6_rides 144 = .ok (.invokevirtual 47, 3) := dk_182 0 47 (dk_at dksX6_rides_6 3 rfl rfl)
theorem dX6_rides_147 : decode cX6_rides 147 = .ok (.invokevirtual 73, 3) := dk_182 0 73 (dk_at dksX6_rides_6 6 rfl rfl)
theorem dX6_rides_150 : decode cX6_rides 150 = .ok (.aload_n 0, 1) := dk_42 (dk_at dksX6_rides_6 9 rfl rfl)
theorem dX6_rides_151 : decode cX6_rides 151 = .ok (.aload_n 0, 1) := dk_42 (dk_at dksX6_rides_6 10 rfl rfl)
theorem dX6_rides_152 : decode cX6_rides 152 = .ok (.iload_n 1, 1) := dk_27 (dk_at dksX6_rides_6 11 rfl rfl)
theorem dX6_rides_153 : decode cX6_rides 153 = .ok (.bipush 6, 2) := dk_16 6 (dk_at dksX6_rides_6 12 rfl rfl)
theorem dX6_rides_155 : decode cX6_rides 155 = .ok (.invokevirtual 47, 3) := dk_182 0 47 (dk_at dksX6_rides_6 14 rfl rfl)
theorem dX6_rides_158 : decode cX6_rides 158 = .ok (.invokevirtual 85, 3) := dk_182 0 85 (dk_at dksX6_rides_6 17 rfl rfl)
theorem dX6_rides_161 : decode cX6_rides 161 = .ok (.aload_n 0, 1) := dk_42 (dk_at dksX6_rides_6 20 rfl rfl)
theorem dX6_rides_162 : decode cX6_rides 162 = .ok (.iload_n 1, 1) := dk_27 (dk_at dksX6_rides_6 21 rfl rfl)
theorem dX6_rides_163 : decode cX6_rides 163 = .ok (.iconst 1, 1) := dk_4 (dk_at dksX6_rides_6 22 rfl rfl)
theorem dX6_rides_164 : decode cX6_rides 164 = .ok (.invokevirtual 47, 3) := dk_182 0 47 (dk_at dksX6_rides_7 0 rfl rfl)
theorem dX6_rides_167 : decode cX6_rides 167 = .ok (.aload_n 0, 1) := dk_42 (dk_at dksX6_rides_7 3 rfl rfl)
theorem dX6_rides_168 : decode cX6_rides 168 = .ok (.getfield 7, 3) := dk_180 0 7 (dk_at dksX6_rides_7 4 rfl rfl)
theorem dX6_rides_171 : decode cX6_rides 171 = .ok (.iconst 2, 1) := dk_5 (dk_at dksX6_rides_7 7 rfl rfl)
theorem dX6_rides_172 : decode cX6_rides 172 = .ok (.iaload, 1) := dk_46 (dk_at dksX6_rides_7 8 rfl rfl)
theorem dX6_rides_173 : decode cX6_rides 173 = .ok (.if_icmp .lt 21, 3) := dk_161 0 21 (dk_at dksX6_rides_7 9 rfl rfl)
theorem dX6_rides_176 : decode cX6_rides 176 = .ok (.aload_n 0, 1) := dk_42 (dk_at dksX6_rides_7 12 rfl rfl)
theorem dX6_rides_177 : decode cX6_rides 177 = .ok (.iload_n 1, 1) := dk_27 (dk_at dksX6_rides_7 13 rfl rfl)
theorem dX6_rides_178 : decode cX6_rides 178 = .ok (.iconst 2, 1) := dk_5 (dk_at dksX6_rides_7 14 rfl rfl)
theorem dX6_rides_179 : decode cX6_rides 179 = .ok (.iconst 1, 1) := dk_4 (dk_at dksX6_rides_7 15 rfl rfl)
theorem dX6_rides_180 : decode cX6_rides 180 = .ok (.invokevirtual 82, 3) := dk_182 0 82 (dk_at dksX6_rides_7 16 rfl rfl)
theorem dX6_rides_183 : decode cX6_rides 183 = .ok (.aload_n 0, 1) := dk_42 (dk_at dksX6_rides_7 19 rfl rfl)
theorem dX6_rides_184 : decode cX6_rides 184 = .ok (.getfield 7, 3) := dk_180 0 7 (dk_at dksX6_rides_7 20 rfl rfl)
theorem dX6_rides_187 : decode cX6_rides 187 = .ok (.bipush 16, 2) := dk_16 16 (dk_at dksX6_rides_8 0 rfl rfl)
theorem dX6_rides_189 : decode cX6_rides 189 = .ok (.dup2, 1) := dk_92 (dk_at dksX6_rides_8 2 rfl rfl)
theorem dX6_rides_190 : decode cX6_rides 190 = .ok (.iaload, 1) := dk_46 (dk_at dksX6_rides_8 3 rfl rfl)
theorem dX6_rides_191 : decode cX6_rides 191 = .ok (.iconst 1, 1) := dk_4 (dk_at dksX6_rides_8 4 rfl rfl)
theorem dX6_rides_192 : decode cX6_rides 192 = .ok (.iadd, 1) := dk_96 (dk_at dksX6_rides_8 5 rfl rfl)
theorem dX6_rides_193 : decode cX6_rides 193 = .ok (.iastore, 1) := dk_79 (dk_at dksX6_rides_8 6 rfl rfl)
theorem dX6_rides_194 : decode cX6_rides 194 = .ok (.return_, 1) := dk_177 (dk_at dksX6_rides_8 7 rfl rfl)
abbrev cX6_milesOf : ByteArray := prog_13_method_18_code
def yX6_milesOf : MethodName := ⟨RX6, "milesOf", "(I)I"⟩
def dkwX6_milesOf_1 : List UInt8 := [16, 12, 167, 0, 5, 16, 16, 172]
abbrev dktX6_milesOf_1 : List UInt8 := dkwX6_milesOf_1 ++ []
def dkwX6_milesOf_0 : List UInt8 := [26, 154, 0, 8, 16, 6, 167, 0, 25, 26, 4, 160, 0, 8, 16, 9, 167, 0, 15, 26, 5, 160, 0, 8]
abbrev dktX6_milesOf_0 : List UInt8 := dkwX6_milesOf_0 ++ dktX6_milesOf_1
theorem dksX6_milesOf_0 : cX6_milesOf.data.toList.drop 0 = dktX6_milesOf_0 := by decide +kernel
theorem dksX6_milesOf_1 : cX6_milesOf.data.toList.drop 24 = dktX6_milesOf_1 := dk_seg dksX6_milesOf_0 24 rfl rfl
theorem dX6_milesOf_0 : decode cX6_milesOf 0 = .ok (.iload_n 0, 1) := dk_26 (dk_at dksX6_milesOf_0 0 rfl rfl)
theorem dX6_milesOf_1 : decode cX6_milesOf 1 = .ok (.ifCond .ne 8, 3) := dk_154 0 8 (dk_at dksX6_milesOf_0 1 rfl rfl)
theorem dX6_milesOf_4 : decode cX6_milesOf 4 = .ok (.bipush 6, 2) := dk_16 6 (dk_at dksX6_milesOf_0 4 rfl rfl)
theorem dX6_milesOf_6 : decode cX6_milesOf 6 = .ok (.goto 25, 3) := dk_167 0 25 (dk_at dksX6_milesOf_0 6 rfl rfl)
theorem dX6_milesOf_9 : decode cX6_milesOf 9 = .ok (.iload_n 0, 1) := dk_26 (dk_at dksX6_milesOf_0 9 rfl rfl)
theorem dX6_milesOf_10 : decode cX6_milesOf 10 = .ok (.iconst 1, 1) := dk_4 (dk_at dksX6_milesOf_0 10 rfl rfl)
theorem dX6_milesOf_11 : decode cX6_milesOf 11 = .ok (.if_icmp .ne 8, 3) := dk_160 0 8 (dk_at dksX6_milesOf_0 11 rfl rfl)
theorem dX6_milesOf_14 : decode cX6_milesOf 14 = .ok (.bipush 9, 2) := dk_16 9 (dk_at dksX6_milesOf_0 14 rfl rfl)
theorem dX6_milesOf_16 : decode cX6_milesOf 16 = .ok (.goto 15, 3) := dk_167 0 15 (dk_at dksX6_milesOf_0 16 rfl rfl)
theorem dX6_milesOf_19 : decode cX6_milesOf 19 = .ok (.iload_n 0, 1) := dk_26 (dk_at dksX6_milesOf_0 19 rfl rfl)
theorem dX6_milesOf_20 : decode cX6_milesOf 20 = .ok (.iconst 2, 1) := dk_5 (dk_at dksX6_milesOf_0 20 rfl rfl)
theorem dX6_milesOf_21 : decode cX6_milesOf 21 = .ok (.if_icmp .ne 8, 3) := dk_160 0 8 (dk_at dksX6_milesOf_0 21 rfl rfl)
theorem dX6_milesOf_24 : decode cX6_milesOf 24 = .ok (.bipush 12, 2) := dk_16 12 (dk_at dksX6_milesOf_1 0 rfl rfl)
theorem dX6_milesOf_26 : decode cX6_milesOf 26 = .ok (.goto 5, 3) := dk_167 0 5 (dk_at dksX6_milesOf_1 2 rfl rfl)
theorem dX6_milesOf_29 : decode cX6_milesOf 29 = .ok (.bipush 16, 2) := dk_16 16 (dk_at dksX6_milesOf_1 5 rfl rfl)
theorem dX6_milesOf_31 : decode cX6_milesOf 31 = .ok (.ireturn, 1) := dk_172 (dk_at dksX6_milesOf_1 7 rfl rfl)
abbrev cX6_stands : ByteArray := prog_13_method_26_code
def yX6_stands : MethodName := ⟨RX6, "stands", "(I)V"⟩
def dkwX6_stands_1 : List UInt8 := [42, 27, 3, 3, 182, 0, 60, 177]
abbrev dktX6_stands_1 : List UInt8 := dkwX6_stands_1 ++ []
def dkwX6_stands_0 : List UInt8 := [42, 180, 0, 7, 8, 42, 180, 0, 7, 7, 46, 96, 27, 79, 42, 180, 0, 7, 7, 92, 46, 4, 96, 79]
abbrev dktX6_stands_0 : List UInt8 := dkwX6_stands_0 ++ dktX6_stands_1
theorem dksX6_stands_0 : cX6_stands.data.toList.drop 0 = dktX6_stands_0 := by decide +kernel
theorem dksX6_stands_1 : cX6_stands.data.toList.drop 24 = dktX6_stands_1 := dk_seg dksX6_stands_0 24 rfl rfl
theorem dX6_stands_0 : decode cX6_stands 0 = .ok (.aload_n 0, 1) := dk_42 (dk_at dksX6_stands_0 0 rfl rfl)
theorem dX6_stands_1 : decode cX6_stands 1 = .ok (.getfield 7, 3) := dk_180 0 7 (dk_at dksX6_stands_0 1 rfl rfl)
theorem dX6_stands_4 : decode cX6_stands 4 = .ok (.iconst 5, 1) := dk_8 (dk_at dksX6_stands_0 4 rfl rfl)
theorem dX6_stands_5 : decode cX6_stands 5 = .ok (.aload_n 0, 1) := dk_42 (dk_at dksX6_stands_0 5 rfl rfl)
theorem dX6_stands_6 : decode cX6_stands 6 = .ok (.getfield 7, 3) := dk_180 0 7 (dk_at dksX6_stands_0 6 rfl rfl)
theorem dX6_stands_9 : decode cX6_stands 9 = .ok (.iconst 4, 1) := dk_7 (dk_at dksX6_stands_0 9 rfl rfl)
theorem dX6_stands_10 : decode cX6_stands 10 = .ok (.iaload, 1) := dk_46 (dk_at dksX6_stands_0 10 rfl rfl)
theorem dX6_stands_11 : decode cX6_stands 11 = .ok (.iadd, 1) := dk_96 (dk_at dksX6_stands_0 11 rfl rfl)
theorem dX6_stands_12 : decode cX6_stands 12 = .ok (.iload_n 1, 1) := dk_27 (dk_at dksX6_stands_0 12 rfl rfl)
theorem dX6_stands_13 : decode cX6_stands 13 = .ok (.iastore, 1) := dk_79 (dk_at dksX6_stands_0 13 rfl rfl)
theorem dX6_stands_14 : decode cX6_stands 14 = .ok (.aload_n 0, 1) := dk_42 (dk_at dksX6_stands_0 14 rfl rfl)
theorem dX6_stands_15 : decode cX6_stands 15 = .ok (.getfield 7, 3) := dk_180 0 7 (dk_at dksX6_stands_0 15 rfl rfl)
theorem dX6_stands_18 : decode cX6_stands 18 = .ok (.iconst 4, 1) := dk_7 (dk_at dksX6_stands_0 18 rfl rfl)
theorem dX6_stands_19 : decode cX6_stands 19 = .ok (.dup2, 1) := dk_92 (dk_at dksX6_stands_0 19 rfl rfl)
theorem dX6_stands_20 : decode cX6_stands 20 = .ok (.iaload, 1) := dk_46 (dk_at dksX6_stands_0 20 rfl rfl)
theorem dX6_stands_21 : decode cX6_stands 21 = .ok (.iconst 1, 1) := dk_4 (dk_at dksX6_stands_0 21 rfl rfl)
theorem dX6_stands_22 : decode cX6_stands 22 = .ok (.iadd, 1) := dk_96 (dk_at dksX6_stands_0 22 rfl rfl)
theorem dX6_stands_23 : decode cX6_stands 23 = .ok (.iastore, 1) := dk_79 (dk_at dksX6_stands_0 23 rfl rfl)
theorem dX6_stands_24 : decode cX6_stands 24 = .ok (.aload_n 0, 1) := dk_42 (dk_at dksX6_stands_1 0 rfl rfl)
theorem dX6_stands_25 : decode cX6_stands 25 = .ok (.iload_n 1, 1) := dk_27 (dk_at dksX6_stands_1 1 rfl rfl)
theorem dX6_stands_26 : decode cX6_stands 26 = .ok (.iconst 0, 1) := dk_3 (dk_at dksX6_stands_1 2 rfl rfl)
theorem dX6_stands_27 : decode cX6_stands 27 = .ok (.iconst 0, 1) := dk_3 (dk_at dksX6_stands_1 3 rfl rfl)
theorem dX6_stands_28 : decode cX6_stands 28 = .ok (.invokevirtual 60, 3) := dk_182 0 60 (dk_at dksX6_stands_1 4 rfl rfl)
theorem dX6_stands_31 : decode cX6_stands 31 = .ok (.return_, 1) := dk_177 (dk_at dksX6_stands_1 7 rfl rfl)
abbrev cX6_layBoy : ByteArray := prog_13_method_15_code
def yX6_layBoy : MethodName := ⟨RX6, "layBoy", "(III)V"⟩
def dkwX6_layBoy_0 : List UInt8 := [42, 180, 0, 7, 17, 0, 232, 5, 27, 104, 96, 28, 96, 29, 79, 177]
abbrev dktX6_layBoy_0 : List UInt8 := dkwX6_layBoy_0 ++ []
theorem dksX6_layBoy_0 : cX6_layBoy.data.toList.drop 0 = dktX6_layBoy_0 := by decide +kernel
theorem dX6_layBoy_0 : decode cX6_layBoy 0 = .ok (.aload_n 0, 1) := dk_42 (dk_at dksX6_layBoy_0 0 rfl rfl)
theorem dX6_layBoy_1 : decode cX6_layBoy 1 = .ok (.getfield 7, 3) := dk_180 0 7 (dk_at dksX6_layBoy_0 1 rfl rfl)
theorem dX6_layBoy_4 : decode cX6_layBoy 4 = .ok (.sipush 232, 3) := dk_17 0 232 (dk_at dksX6_layBoy_0 4 rfl rfl)
theorem dX6_layBoy_7 : decode cX6_layBoy 7 = .ok (.iconst 2, 1) := dk_5 (dk_at dksX6_layBoy_0 7 rfl rfl)
theorem dX6_layBoy_8 : decode cX6_layBoy 8 = .ok (.iload_n 1, 1) := dk_27 (dk_at dksX6_layBoy_0 8 rfl rfl)
theorem dX6_layBoy_9 : decode cX6_layBoy 9 = .ok (.imul, 1) := dk_104 (dk_at dksX6_layBoy_0 9 rfl rfl)
theorem dX6_layBoy_10 : decode cX6_layBoy 10 = .ok (.iadd, 1) := dk_96 (dk_at dksX6_layBoy_0 10 rfl rfl)
theorem dX6_layBoy_11 : decode cX6_layBoy 11 = .ok (.iload_n 2, 1) := dk_28 (dk_at dksX6_layBoy_0 11 rfl rfl)
theorem dX6_layBoy_12 : decode cX6_layBoy 12 = .ok (.iadd, 1) := dk_96 (dk_at dksX6_layBoy_0 12 rfl rfl)
theorem dX6_layBoy_13 : decode cX6_layBoy 13 = .ok (.iload_n 3, 1) := dk_29 (dk_at dksX6_layBoy_0 13 rfl rfl)
theorem dX6_layBoy_14 : decode cX6_layBoy 14 = .ok (.iastore, 1) := dk_79 (dk_at dksX6_layBoy_0 14 rfl rfl)
theorem dX6_layBoy_15 : decode cX6_layBoy 15 = .ok (.return_, 1) := dk_177 (dk_at dksX6_layBoy_0 15 rfl rfl)
abbrev cX6_why : ByteArray := prog_13_method_24_code
def yX6_why : MethodName := ⟨RX6, "why", "()I"⟩
def dkwX6_why_2 : List UInt8 := [7, 167, 0, 4, 3, 172]
abbrev dktX6_why_2 : List UInt8 := dkwX6_why_2 ++ []
def dkwX6_why_1 : List UInt8 := [167, 0, 29, 42, 180, 0, 7, 7, 46, 154, 0, 7, 6, 167, 0, 16, 42, 182, 0, 57, 2, 160, 0, 7]
abbrev dktX6_why_1 : List UInt8 := dkwX6_why_1 ++ dktX6_why_2
def dkwX6_why_0 : List UInt8 := [42, 3, 182, 0, 50, 2, 160, 0, 7, 4, 167, 0, 41, 42, 182, 0, 53, 2, 160, 0, 7, 5]
abbrev dktX6_why_0 : List UInt8 := dkwX6_why_0 ++ dktX6_why_1
theorem dksX6_why_0 : cX6_why.data.toList.drop 0 = dktX6_why_0 := by decide +kernel
theorem dksX6_why_1 : cX6_why.data.toList.drop 22 = dktX6_why_1 := dk_seg dksX6_why_0 22 rfl rfl
theorem dksX6_why_2 : cX6_why.data.toList.drop 46 = dktX6_why_2 := dk_seg dksX6_why_1 24 rfl rfl
theorem dX6_why_0 : decode cX6_why 0 = .ok (.aload_n 0, 1) := dk_42 (dk_at dksX6_why_0 0 rfl rfl)
theorem dX6_why_1 : decode cX6_why 1 = .ok (.iconst 0, 1) := dk_3 (dk_at dksX6_why_0 1 rfl rfl)
theorem dX6_why_2 : decode cX6_why 2 = .ok (.invokevirtual 50, 3) := dk_182 0 50 (dk_at dksX6_why_0 2 rfl rfl)
theorem dX6_why_5 : decode cX6_why 5 = .ok (.iconst (-1), 1) := dk_2 (dk_at dksX6_why_0 5 rfl rfl)
theorem dX6_why_6 : decode cX6_why 6 = .ok (.if_icmp .ne 7, 3) := dk_160 0 7 (dk_at dksX6_why_0 6 rfl rfl)
theorem dX6_why_9 : decode cX6_why 9 = .ok (.iconst 1, 1) := dk_4 (dk_at dksX6_why_0 9 rfl rfl)
theorem dX6_why_10 : decode cX6_why 10 = .ok (.goto 41, 3) := dk_167 0 41 (dk_at dksX6_why_0 10 rfl rfl)
theorem dX6_why_13 : decode cX6_why 13 = .ok (.aload_n 0, 1) := dk_42 (dk_at dksX6_why_0 13 rfl rfl)
theorem dX6_why_14 : decode cX6_why 14 = .ok (.invokevirtual 53, 3) := dk_182 0 53 (dk_at dksX6_why_0 14 rfl rfl)
theorem dX6_why_17 : decode cX6_why 17 = .ok (.iconst (-1), 1) := dk_2 (dk_at dksX6_why_0 17 rfl rfl)
theorem dX6_why_18 : decode cX6_why 18 = .ok (.if_icmp .ne 7, 3) := dk_160 0 7 (dk_at dksX6_why_0 18 rfl rfl)
theorem dX6_why_21 : decode cX6_why 21 = .ok (.iconst 2, 1) := dk_5 (dk_at dksX6_why_0 21 rfl rfl)
theorem dX6_why_22 : decode cX6_why 22 = .ok (.goto 29, 3) := dk_167 0 29 (dk_at dksX6_why_1 0 rfl rfl)
theorem dX6_why_25 : decode cX6_why 25 = .ok (.aload_n 0, 1) := dk_42 (dk_at dksX6_why_1 3 rfl rfl)
theorem dX6_why_26 : decode cX6_why 26 = .ok (.getfield 7, 3) := dk_180 0 7 (dk_at dksX6_why_1 4 rfl rfl)
theorem dX6_why_29 : decode cX6_why 29 = .ok (.iconst 4, 1) := dk_7 (dk_at dksX6_why_1 7 rfl rfl)
theorem dX6_why_30 : decode cX6_why 30 = .ok (.iaload, 1) := dk_46 (dk_at dksX6_why_1 8 rfl rfl)
theorem dX6_why_31 : decode cX6_why 31 = .ok (.ifCond .ne 7, 3) := dk_154 0 7 (dk_at dksX6_why_1 9 rfl rfl)
theorem dX6_why_34 : decode cX6_why 34 = .ok (.iconst 3, 1) := dk_6 (dk_at dksX6_why_1 12 rfl rfl)
theorem dX6_why_35 : decode cX6_why 35 = .ok (.goto 16, 3) := dk_167 0 16 (dk_at dksX6_why_1 13 rfl rfl)
theorem dX6_why_38 : decode cX6_why 38 = .ok (.aload_n 0, 1) := dk_42 (dk_at dksX6_why_1 16 rfl rfl)
theorem dX6_why_39 : decode cX6_why 39 = .ok (.invokevirtual 57, 3) := dk_182 0 57 (dk_at dksX6_why_1 17 rfl rfl)
theorem dX6_why_42 : decode cX6_why 42 = .ok (.iconst (-1), 1) := dk_2 (dk_at dksX6_why_1 20 rfl rfl)
theorem dX6_why_43 : decode cX6_why 43 = .ok (.if_icmp .ne 7, 3) := dk_160 0 7 (dk_at dksX6_why_1 21 rfl rfl)
theorem dX6_why_46 : decode cX6_why 46 = .ok (.iconst 4, 1) := dk_7 (dk_at dksX6_why_2 0 rfl rfl)
theorem dX6_why_47 : decode cX6_why 47 = .ok (.goto 4, 3) := dk_167 0 4 (dk_at dksX6_why_2 1 rfl rfl)
theorem dX6_why_50 : decode cX6_why 50 = .ok (.iconst 0, 1) := dk_3 (dk_at dksX6_why_2 4 rfl rfl)
theorem dX6_why_51 : decode cX6_why 51 = .ok (.ireturn, 1) := dk_172 (dk_at dksX6_why_2 5 rfl rfl)
abbrev cX6_inLine : ByteArray := prog_13_method_21_code
def yX6_inLine : MethodName := ⟨RX6, "inLine", "(I)I"⟩
def dkwX6_inLine_2 : List UInt8 := [21, 4, 172, 132, 2, 255, 132, 4, 1, 167, 255, 211, 132, 3, 1, 167, 255, 197, 2, 172]
abbrev dktX6_inLine_2 : List UInt8 := dkwX6_inLine_2 ++ []
def dkwX6_inLine_1 : List UInt8 := [21, 4, 5, 182, 0, 36, 154, 0, 24, 42, 21, 4, 3, 182, 0, 36, 29, 160, 0, 13, 28, 154, 0, 6]
abbrev dktX6_inLine_1 : List UInt8 := dkwX6_inLine_1 ++ dktX6_inLine_2
def dkwX6_inLine_0 : List UInt8 := [27, 61, 3, 62, 29, 6, 162, 0, 60, 3, 54, 4, 21, 4, 42, 180, 0, 7, 6, 46, 162, 0, 40, 42]
abbrev dktX6_inLine_0 : List UInt8 := dkwX6_inLine_0 ++ dktX6_inLine_1
theorem dksX6_inLine_0 : cX6_inLine.data.toList.drop 0 = dktX6_inLine_0 := by decide +kernel
theorem dksX6_inLine_1 : cX6_inLine.data.toList.drop 24 = dktX6_inLine_1 := dk_seg dksX6_inLine_0 24 rfl rfl
theorem dksX6_inLine_2 : cX6_inLine.data.toList.drop 48 = dktX6_inLine_2 := dk_seg dksX6_inLine_1 24 rfl rfl
theorem dX6_inLine_0 : decode cX6_inLine 0 = .ok (.iload_n 1, 1) := dk_27 (dk_at dksX6_inLine_0 0 rfl rfl)
theorem dX6_inLine_1 : decode cX6_inLine 1 = .ok (.istore_n 2, 1) := dk_61 (dk_at dksX6_inLine_0 1 rfl rfl)
theorem dX6_inLine_2 : decode cX6_inLine 2 = .ok (.iconst 0, 1) := dk_3 (dk_at dksX6_inLine_0 2 rfl rfl)
theorem dX6_inLine_3 : decode cX6_inLine 3 = .ok (.istore_n 3, 1) := dk_62 (dk_at dksX6_inLine_0 3 rfl rfl)
theorem dX6_inLine_4 : decode cX6_inLine 4 = .ok (.iload_n 3, 1) := dk_29 (dk_at dksX6_inLine_0 4 rfl rfl)
theorem dX6_inLine_5 : decode cX6_inLine 5 = .ok (.iconst 3, 1) := dk_6 (dk_at dksX6_inLine_0 5 rfl rfl)
theorem dX6_inLine_6 : decode cX6_inLine 6 = .ok (.if_icmp .ge 60, 3) := dk_162 0 60 (dk_at dksX6_inLine_0 6 rfl rfl)
theorem dX6_inLine_9 : decode cX6_inLine 9 = .ok (.iconst 0, 1) := dk_3 (dk_at dksX6_inLine_0 9 rfl rfl)
theorem dX6_inLine_10 : decode cX6_inLine 10 = .ok (.istore 4, 2) := dk_54 4 (dk_at dksX6_inLine_0 10 rfl rfl)
theorem dX6_inLine_12 : decode cX6_inLine 12 = .ok (.iload 4, 2) := dk_21 4 (dk_at dksX6_inLine_0 12 rfl rfl)
theorem dX6_inLine_14 : decode cX6_inLine 14 = .ok (.aload_n 0, 1) := dk_42 (dk_at dksX6_inLine_0 14 rfl rfl)
theorem dX6_inLine_15 : decode cX6_inLine 15 = .ok (.getfield 7, 3) := dk_180 0 7 (dk_at dksX6_inLine_0 15 rfl rfl)
theorem dX6_inLine_18 : decode cX6_inLine 18 = .ok (.iconst 3, 1) := dk_6 (dk_at dksX6_inLine_0 18 rfl rfl)
theorem dX6_inLine_19 : decode cX6_inLine 19 = .ok (.iaload, 1) := dk_46 (dk_at dksX6_inLine_0 19 rfl rfl)
theorem dX6_inLine_20 : decode cX6_inLine 20 = .ok (.if_icmp .ge 40, 3) := dk_162 0 40 (dk_at dksX6_inLine_0 20 rfl rfl)
theorem dX6_inLine_23 : decode cX6_inLine 23 = .ok (.aload_n 0, 1) := dk_42 (dk_at dksX6_inLine_0 23 rfl rfl)
theorem dX6_inLine_24 : decode cX6_inLine 24 = .ok (.iload 4, 2) := dk_21 4 (dk_at dksX6_inLine_1 0 rfl rfl)
theorem dX6_inLine_26 : decode cX6_inLine 26 = .ok (.iconst 2, 1) := dk_5 (dk_at dksX6_inLine_1 2 rfl rfl)
theorem dX6_inLine_27 : decode cX6_inLine 27 = .ok (.invokevirtual 36, 3) := dk_182 0 36 (dk_at dksX6_inLine_1 3 rfl rfl)
theorem dX6_inLine_30 : decode cX6_inLine 30 = .ok (.ifCond .ne 24, 3) := dk_154 0 24 (dk_at dksX6_inLine_1 6 rfl rfl)
theorem dX6_inLine_33 : decode cX6_inLine 33 = .ok (.aload_n 0, 1) := dk_42 (dk_at dksX6_inLine_1 9 rfl rfl)
theorem dX6_inLine_34 : decode cX6_inLine 34 = .ok (.iload 4, 2) := dk_21 4 (dk_at dksX6_inLine_1 10 rfl rfl)
theorem dX6_inLine_36 : decode cX6_inLine 36 = .ok (.iconst 0, 1) := dk_3 (dk_at dksX6_inLine_1 12 rfl rfl)
theorem dX6_inLine_37 : decode cX6_inLine 37 = .ok (.invokevirtual 36, 3) := dk_182 0 36 (dk_at dksX6_inLine_1 13 rfl rfl)
theorem dX6_inLine_40 : decode cX6_inLine 40 = .ok (.iload_n 3, 1) := dk_29 (dk_at dksX6_inLine_1 16 rfl rfl)
theorem dX6_inLine_41 : decode cX6_inLine 41 = .ok (.if_icmp .ne 13, 3) := dk_160 0 13 (dk_at dksX6_inLine_1 17 rfl rfl)
theorem dX6_inLine_44 : decode cX6_inLine 44 = .ok (.iload_n 2, 1) := dk_28 (dk_at dksX6_inLine_1 20 rfl rfl)
theorem dX6_inLine_45 : decode cX6_inLine 45 = .ok (.ifCond .ne 6, 3) := dk_154 0 6 (dk_at dksX6_inLine_1 21 rfl rfl)
theorem dX6_inLine_48 : decode cX6_inLine 48 = .ok (.iload 4, 2) := dk_21 4 (dk_at dksX6_inLine_2 0 rfl rfl)
theorem dX6_inLine_50 : decode cX6_inLine 50 = .ok (.ireturn, 1) := dk_172 (dk_at dksX6_inLine_2 2 rfl rfl)
theorem dX6_inLine_51 : decode cX6_inLine 51 = .ok (.iinc 2 (-1), 3) := dk_132 2 255 (dk_at dksX6_inLine_2 3 rfl rfl)
theorem dX6_inLine_54 : decode cX6_inLine 54 = .ok (.iinc 4 1, 3) := dk_132 4 1 (dk_at dksX6_inLine_2 6 rfl rfl)
theorem dX6_inLine_57 : decode cX6_inLine 57 = .ok (.goto (-45), 3) := dk_167 255 211 (dk_at dksX6_inLine_2 9 rfl rfl)
theorem dX6_inLine_60 : decode cX6_inLine 60 = .ok (.iinc 3 1, 3) := dk_132 3 1 (dk_at dksX6_inLine_2 12 rfl rfl)
theorem dX6_inLine_63 : decode cX6_inLine 63 = .ok (.goto (-59), 3) := dk_167 255 197 (dk_at dksX6_inLine_2 15 rfl rfl)
theorem dX6_inLine_66 : decode cX6_inLine 66 = .ok (.iconst (-1), 1) := dk_2 (dk_at dksX6_inLine_2 18 rfl rfl)
theorem dX6_inLine_67 : decode cX6_inLine 67 = .ok (.ireturn, 1) := dk_172 (dk_at dksX6_inLine_2 19 rfl rfl)
abbrev cX6_rested : ByteArray := prog_13_method_22_code
def yX6_rested : MethodName := ⟨RX6, "rested", "()I"⟩
def dkwX6_rested_2 : List UInt8 := [42, 27, 5, 182, 0, 44, 162, 0, 7, 28, 167, 0, 4, 27, 60, 132, 2, 1, 167, 255, 194, 27, 172]
abbrev dktX6_rested_2 : List UInt8 := dkwX6_rested_2 ++ []
def dkwX6_rested_1 : List UInt8 := [154, 0, 7, 4, 167, 0, 4, 3, 62, 29, 153, 0, 27, 27, 2, 159, 0, 18, 42, 28, 5, 182, 0, 44]
abbrev dktX6_rested_1 : List UInt8 := dkwX6_rested_1 ++ dktX6_rested_2
def dkwX6_rested_0 : List UInt8 := [2, 60, 3, 61, 28, 8, 162, 0, 63, 42, 28, 3, 182, 0, 44, 154, 0, 16, 42, 28, 4, 182, 0, 44]
abbrev dktX6_rested_0 : List UInt8 := dkwX6_rested_0 ++ dktX6_rested_1
theorem dksX6_rested_0 : cX6_rested.data.toList.drop 0 = dktX6_rested_0 := by decide +kernel
theorem dksX6_rested_1 : cX6_rested.data.toList.drop 24 = dktX6_rested_1 := dk_seg dksX6_rested_0 24 rfl rfl
theorem dksX6_rested_2 : cX6_rested.data.toList.drop 48 = dktX6_rested_2 := dk_seg dksX6_rested_1 24 rfl rfl
theorem dX6_rested_0 : decode cX6_rested 0 = .ok (.iconst (-1), 1) := dk_2 (dk_at dksX6_rested_0 0 rfl rfl)
theorem dX6_rested_1 : decode cX6_rested 1 = .ok (.istore_n 1, 1) := dk_60 (dk_at dksX6_rested_0 1 rfl rfl)
theorem dX6_rested_2 : decode cX6_rested 2 = .ok (.iconst 0, 1) := dk_3 (dk_at dksX6_rested_0 2 rfl rfl)
theorem dX6_rested_3 : decode cX6_rested 3 = .ok (.istore_n 2, 1) := dk_61 (dk_at dksX6_rested_0 3 rfl rfl)
theorem dX6_rested_4 : decode cX6_rested 4 = .ok (.iload_n 2, 1) := dk_28 (dk_at dksX6_rested_0 4 rfl rfl)
theorem dX6_rested_5 : decode cX6_rested 5 = .ok (.iconst 5, 1) := dk_8 (dk_at dksX6_rested_0 5 rfl rfl)
theorem dX6_rested_6 : decode cX6_rested 6 = .ok (.if_icmp .ge 63, 3) := dk_162 0 63 (dk_at dksX6_rested_0 6 rfl rfl)
theorem dX6_rested_9 : decode cX6_rested 9 = .ok (.aload_n 0, 1) := dk_42 (dk_at dksX6_rested_0 9 rfl rfl)
theorem dX6_rested_10 : decode cX6_rested 10 = .ok (.iload_n 2, 1) := dk_28 (dk_at dksX6_rested_0 10 rfl rfl)
theorem dX6_rested_11 : decode cX6_rested 11 = .ok (.iconst 0, 1) := dk_3 (dk_at dksX6_rested_0 11 rfl rfl)
theorem dX6_rested_12 : decode cX6_rested 12 = .ok (.invokevirtual 44, 3) := dk_182 0 44 (dk_at dksX6_rested_0 12 rfl rfl)
theorem dX6_rested_15 : decode cX6_rested 15 = .ok (.ifCond .ne 16, 3) := dk_154 0 16 (dk_at dksX6_rested_0 15 rfl rfl)
theorem dX6_rested_18 : decode cX6_rested 18 = .ok (.aload_n 0, 1) := dk_42 (dk_at dksX6_rested_0 18 rfl rfl)
theorem dX6_rested_19 : decode cX6_rested 19 = .ok (.iload_n 2, 1) := dk_28 (dk_at dksX6_rested_0 19 rfl rfl)
theorem dX6_rested_20 : decode cX6_rested 20 = .ok (.iconst 1, 1) := dk_4 (dk_at dksX6_rested_0 20 rfl rfl)
theorem dX6_rested_21 : decode cX6_rested 21 = .ok (.invokevirtual 44, 3) := dk_182 0 44 (dk_at dksX6_rested_0 21 rfl rfl)
theorem dX6_rested_24 : decode cX6_rested 24 = .ok (.ifCond .ne 7, 3) := dk_154 0 7 (dk_at dksX6_rested_1 0 rfl rfl)
theorem dX6_rested_27 : decode cX6_rested 27 = .ok (.iconst 1, 1) := dk_4 (dk_at dksX6_rested_1 3 rfl rfl)
theorem dX6_rested_28 : decode cX6_rested 28 = .ok (.goto 4, 3) := dk_167 0 4 (dk_at dksX6_rested_1 4 rfl rfl)
theorem dX6_rested_31 : decode cX6_rested 31 = .ok (.iconst 0, 1) := dk_3 (dk_at dksX6_rested_1 7 rfl rfl)
theorem dX6_rested_32 : decode cX6_rested 32 = .ok (.istore_n 3, 1) := dk_62 (dk_at dksX6_rested_1 8 rfl rfl)
theorem dX6_rested_33 : decode cX6_rested 33 = .ok (.iload_n 3, 1) := dk_29 (dk_at dksX6_rested_1 9 rfl rfl)
theorem dX6_rested_34 : decode cX6_rested 34 = .ok (.ifCond .eq 27, 3) := dk_153 0 27 (dk_at dksX6_rested_1 10 rfl rfl)
theorem dX6_rested_37 : decode cX6_rested 37 = .ok (.iload_n 1, 1) := dk_27 (dk_at dksX6_rested_1 13 rfl rfl)
theorem dX6_rested_38 : decode cX6_rested 38 = .ok (.iconst (-1), 1) := dk_2 (dk_at dksX6_rested_1 14 rfl rfl)
theorem dX6_rested_39 : decode cX6_rested 39 = .ok (.if_icmp .eq 18, 3) := dk_159 0 18 (dk_at dksX6_rested_1 15 rfl rfl)
theorem dX6_rested_42 : decode cX6_rested 42 = .ok (.aload_n 0, 1) := dk_42 (dk_at dksX6_rested_1 18 rfl rfl)
theorem dX6_rested_43 : decode cX6_rested 43 = .ok (.iload_n 2, 1) := dk_28 (dk_at dksX6_rested_1 19 rfl rfl)
theorem dX6_rested_44 : decode cX6_rested 44 = .ok (.iconst 2, 1) := dk_5 (dk_at dksX6_rested_1 20 rfl rfl)
theorem dX6_rested_45 : decode cX6_rested 45 = .ok (.invokevirtual 44, 3) := dk_182 0 44 (dk_at dksX6_rested_1 21 rfl rfl)
theorem dX6_rested_48 : decode cX6_rested 48 = .ok (.aload_n 0, 1) := dk_42 (dk_at dksX6_rested_2 0 rfl rfl)
theorem dX6_rested_49 : decode cX6_rested 49 = .ok (.iload_n 1, 1) := dk_27 (dk_at dksX6_rested_2 1 rfl rfl)
theorem dX6_rested_50 : decode cX6_rested 50 = .ok (.iconst 2, 1) := dk_5 (dk_at dksX6_rested_2 2 rfl rfl)
theorem dX6_rested_51 : decode cX6_rested 51 = .ok (.invokevirtual 44, 3) := dk_182 0 44 (dk_at dksX6_rested_2 3 rfl rfl)
theorem dX6_rested_54 : decode cX6_rested 54 = .ok (.if_icmp .ge 7, 3) := dk_162 0 7 (dk_at dksX6_rested_2 6 rfl rfl)
theorem dX6_rested_57 : decode cX6_rested 57 = .ok (.iload_n 2, 1) := dk_28 (dk_at dksX6_rested_2 9 rfl rfl)
theorem dX6_rested_58 : decode cX6_rested 58 = .ok (.goto 4, 3) := dk_167 0 4 (dk_at dksX6_rested_2 10 rfl rfl)
theorem dX6_rested_61 : decode cX6_rested 61 = .ok (.iload_n 1, 1) := dk_27 (dk_at dksX6_rested_2 13 rfl rfl)
theorem dX6_rested_62 : decode cX6_rested 62 = .ok (.istore_n 1, 1) := dk_60 (dk_at dksX6_rested_2 14 rfl rfl)
theorem dX6_rested_63 : decode cX6_rested 63 = .ok (.iinc 2 1, 3) := dk_132 2 1 (dk_at dksX6_rested_2 15 rfl rfl)
theorem dX6_rested_66 : decode cX6_rested 66 = .ok (.goto (-62), 3) := dk_167 255 194 (dk_at dksX6_rested_2 18 rfl rfl)
theorem dX6_rested_69 : decode cX6_rested 69 = .ok (.iload_n 1, 1) := dk_27 (dk_at dksX6_rested_2 21 rfl rfl)
theorem dX6_rested_70 : decode cX6_rested 70 = .ok (.ireturn, 1) := dk_172 (dk_at dksX6_rested_2 22 rfl rfl)
abbrev cX6_ready : ByteArray := prog_13_method_23_code
def yX6_ready : MethodName := ⟨RX6, "ready", "()I"⟩
def dkwX6_ready_2 : List UInt8 := [42, 27, 4, 182, 0, 47, 162, 0, 7, 28, 167, 0, 4, 27, 60, 132, 2, 1, 167, 255, 194, 27, 172]
abbrev dktX6_ready_2 : List UInt8 := dkwX6_ready_2 ++ []
def dkwX6_ready_1 : List UInt8 := [154, 0, 7, 4, 167, 0, 4, 3, 62, 29, 153, 0, 27, 27, 2, 159, 0, 18, 42, 28, 4, 182, 0, 47]
abbrev dktX6_ready_1 : List UInt8 := dkwX6_ready_1 ++ dktX6_ready_2
def dkwX6_ready_0 : List UInt8 := [2, 60, 3, 61, 28, 6, 162, 0, 63, 42, 28, 3, 182, 0, 47, 154, 0, 16, 42, 28, 5, 182, 0, 47]
abbrev dktX6_ready_0 : List UInt8 := dkwX6_ready_0 ++ dktX6_ready_1
theorem dksX6_ready_0 : cX6_ready.data.toList.drop 0 = dktX6_ready_0 := by decide +kernel
theorem dksX6_ready_1 : cX6_ready.data.toList.drop 24 = dktX6_ready_1 := dk_seg dksX6_ready_0 24 rfl rfl
theorem dksX6_ready_2 : cX6_ready.data.toList.drop 48 = dktX6_ready_2 := dk_seg dksX6_ready_1 24 rfl rfl
theorem dX6_ready_0 : decode cX6_ready 0 = .ok (.iconst (-1), 1) := dk_2 (dk_at dksX6_ready_0 0 rfl rfl)
theorem dX6_ready_1 : decode cX6_ready 1 = .ok (.istore_n 1, 1) := dk_60 (dk_at dksX6_ready_0 1 rfl rfl)
theorem dX6_ready_2 : decode cX6_ready 2 = .ok (.iconst 0, 1) := dk_3 (dk_at dksX6_ready_0 2 rfl rfl)
theorem dX6_ready_3 : decode cX6_ready 3 = .ok (.istore_n 2, 1) := dk_61 (dk_at dksX6_ready_0 3 rfl rfl)
theorem dX6_ready_4 : decode cX6_ready 4 = .ok (.iload_n 2, 1) := dk_28 (dk_at dksX6_ready_0 4 rfl rfl)
theorem dX6_ready_5 : decode cX6_ready 5 = .ok (.iconst 3, 1) := dk_6 (dk_at dksX6_ready_0 5 rfl rfl)
theorem dX6_ready_6 : decode cX6_ready 6 = .ok (.if_icmp .ge 63, 3) := dk_162 0 63 (dk_at dksX6_ready_0 6 rfl rfl)
theorem dX6_ready_9 : decode cX6_ready 9 = .ok (.aload_n 0, 1) := dk_42 (dk_at dksX6_ready_0 9 rfl rfl)
theorem dX6_ready_10 : decode cX6_ready 10 = .ok (.iload_n 2, 1) := dk_28 (dk_at dksX6_ready_0 10 rfl rfl)
theorem dX6_ready_11 : decode cX6_ready 11 = .ok (.iconst 0, 1) := dk_3 (dk_at dksX6_ready_0 11 rfl rfl)
theorem dX6_ready_12 : decode cX6_ready 12 = .ok (.invokevirtual 47, 3) := dk_182 0 47 (dk_at dksX6_ready_0 12 rfl rfl)
theorem dX6_ready_15 : decode cX6_ready 15 = .ok (.ifCond .ne 16, 3) := dk_154 0 16 (dk_at dksX6_ready_0 15 rfl rfl)
theorem dX6_ready_18 : decode cX6_ready 18 = .ok (.aload_n 0, 1) := dk_42 (dk_at dksX6_ready_0 18 rfl rfl)
theorem dX6_ready_19 : decode cX6_ready 19 = .ok (.iload_n 2, 1) := dk_28 (dk_at dksX6_ready_0 19 rfl rfl)
theorem dX6_ready_20 : decode cX6_ready 20 = .ok (.iconst 2, 1) := dk_5 (dk_at dksX6_ready_0 20 rfl rfl)
theorem dX6_ready_21 : decode cX6_ready 21 = .ok (.invokevirtual 47, 3) := dk_182 0 47 (dk_at dksX6_ready_0 21 rfl rfl)
theorem dX6_ready_24 : decode cX6_ready 24 = .ok (.ifCond .ne 7, 3) := dk_154 0 7 (dk_at dksX6_ready_1 0 rfl rfl)
theorem dX6_ready_27 : decode cX6_ready 27 = .ok (.iconst 1, 1) := dk_4 (dk_at dksX6_ready_1 3 rfl rfl)
theorem dX6_ready_28 : decode cX6_ready 28 = .ok (.goto 4, 3) := dk_167 0 4 (dk_at dksX6_ready_1 4 rfl rfl)
theorem dX6_ready_31 : decode cX6_ready 31 = .ok (.iconst 0, 1) := dk_3 (dk_at dksX6_ready_1 7 rfl rfl)
theorem dX6_ready_32 : decode cX6_ready 32 = .ok (.istore_n 3, 1) := dk_62 (dk_at dksX6_ready_1 8 rfl rfl)
theorem dX6_ready_33 : decode cX6_ready 33 = .ok (.iload_n 3, 1) := dk_29 (dk_at dksX6_ready_1 9 rfl rfl)
theorem dX6_ready_34 : decode cX6_ready 34 = .ok (.ifCond .eq 27, 3) := dk_153 0 27 (dk_at dksX6_ready_1 10 rfl rfl)
theorem dX6_ready_37 : decode cX6_ready 37 = .ok (.iload_n 1, 1) := dk_27 (dk_at dksX6_ready_1 13 rfl rfl)
theorem dX6_ready_38 : decode cX6_ready 38 = .ok (.iconst (-1), 1) := dk_2 (dk_at dksX6_ready_1 14 rfl rfl)
theorem dX6_ready_39 : decode cX6_ready 39 = .ok (.if_icmp .eq 18, 3) := dk_159 0 18 (dk_at dksX6_ready_1 15 rfl rfl)
theorem dX6_ready_42 : decode cX6_ready 42 = .ok (.aload_n 0, 1) := dk_42 (dk_at dksX6_ready_1 18 rfl rfl)
theorem dX6_ready_43 : decode cX6_ready 43 = .ok (.iload_n 2, 1) := dk_28 (dk_at dksX6_ready_1 19 rfl rfl)
theorem dX6_ready_44 : decode cX6_ready 44 = .ok (.iconst 1, 1) := dk_4 (dk_at dksX6_ready_1 20 rfl rfl)
theorem dX6_ready_45 : decode cX6_ready 45 = .ok (.invokevirtual 47, 3) := dk_182 0 47 (dk_at dksX6_ready_1 21 rfl rfl)
theorem dX6_ready_48 : decode cX6_ready 48 = .ok (.aload_n 0, 1) := dk_42 (dk_at dksX6_ready_2 0 rfl rfl)
theorem dX6_ready_49 : decode cX6_ready 49 = .ok (.iload_n 1, 1) := dk_27 (dk_at dksX6_ready_2 1 rfl rfl)
theorem dX6_ready_50 : decode cX6_ready 50 = .ok (.iconst 1, 1) := dk_4 (dk_at dksX6_ready_2 2 rfl rfl)
theorem dX6_ready_51 : decode cX6_ready 51 = .ok (.invokevirtual 47, 3) := dk_182 0 47 (dk_at dksX6_ready_2 3 rfl rfl)
theorem dX6_ready_54 : decode cX6_ready 54 = .ok (.if_icmp .ge 7, 3) := dk_162 0 7 (dk_at dksX6_ready_2 6 rfl rfl)
theorem dX6_ready_57 : decode cX6_ready 57 = .ok (.iload_n 2, 1) := dk_28 (dk_at dksX6_ready_2 9 rfl rfl)
theorem dX6_ready_58 : decode cX6_ready 58 = .ok (.goto 4, 3) := dk_167 0 4 (dk_at dksX6_ready_2 10 rfl rfl)
theorem dX6_ready_61 : decode cX6_ready 61 = .ok (.iload_n 1, 1) := dk_27 (dk_at dksX6_ready_2 13 rfl rfl)
theorem dX6_ready_62 : decode cX6_ready 62 = .ok (.istore_n 1, 1) := dk_60 (dk_at dksX6_ready_2 14 rfl rfl)
theorem dX6_ready_63 : decode cX6_ready 63 = .ok (.iinc 2 1, 3) := dk_132 2 1 (dk_at dksX6_ready_2 15 rfl rfl)
theorem dX6_ready_66 : decode cX6_ready 66 = .ok (.goto (-62), 3) := dk_167 255 194 (dk_at dksX6_ready_2 18 rfl rfl)
theorem dX6_ready_69 : decode cX6_ready 69 = .ok (.iload_n 1, 1) := dk_27 (dk_at dksX6_ready_2 21 rfl rfl)
theorem dX6_ready_70 : decode cX6_ready 70 = .ok (.ireturn, 1) := dk_172 (dk_at dksX6_ready_2 22 rfl rfl)
abbrev cX6_departs : ByteArray := prog_13_method_27_code
def yX6_departs : MethodName := ⟨RX6, "departs", "()V"⟩
def dkwX6_departs_10 : List UInt8 := [182, 0, 82, 177]
abbrev dktX6_departs_10 : List UInt8 := dkwX6_departs_10 ++ []
def dkwX6_departs_9 : List UInt8 := [182, 0, 82, 42, 21, 4, 16, 8, 21, 7, 21, 8, 96, 182, 0, 82, 42, 21, 4, 16, 9, 21, 8]
abbrev dktX6_departs_9 : List UInt8 := dkwX6_departs_9 ++ dktX6_departs_10
def dkwX6_departs_8 : List UInt8 := [182, 0, 82, 42, 21, 4, 16, 6, 29, 182, 0, 82, 42, 21, 4, 16, 7, 21, 7, 21, 8, 96]
abbrev dktX6_departs_8 : List UInt8 := dkwX6_departs_8 ++ dktX6_departs_9
def dkwX6_departs_7 : List UInt8 := [182, 0, 60, 42, 21, 4, 3, 4, 182, 0, 82, 42, 21, 4, 7, 27, 182, 0, 82, 42, 21, 4, 8, 28]
abbrev dktX6_departs_7 : List UInt8 := dkwX6_departs_7 ++ dktX6_departs_8
def dkwX6_departs_6 : List UInt8 := [182, 0, 76, 54, 9, 42, 29, 3, 5, 182, 0, 60, 42, 29, 4, 42, 29, 4, 182, 0, 79, 4, 96]
abbrev dktX6_departs_6 : List UInt8 := dkwX6_departs_6 ++ dktX6_departs_7
def dkwX6_departs_5 : List UInt8 := [27, 4, 182, 0, 36, 96, 92, 46, 42, 27, 182, 0, 70, 96, 79, 42, 28, 3, 4, 182, 0, 73, 42, 29]
abbrev dktX6_departs_5 : List UInt8 := dkwX6_departs_5 ++ dktX6_departs_6
def dkwX6_departs_4 : List UInt8 := [27, 7, 42, 27, 182, 0, 64, 182, 0, 67, 42, 27, 5, 4, 182, 0, 67, 42, 180, 0, 7, 16, 11, 42]
abbrev dktX6_departs_4 : List UInt8 := dkwX6_departs_4 ++ dktX6_departs_5
def dkwX6_departs_3 : List UInt8 := [108, 54, 7, 21, 5, 42, 180, 0, 7, 4, 46, 96, 4, 100, 42, 180, 0, 7, 4, 46, 108, 54, 8, 42]
abbrev dktX6_departs_3 : List UInt8 := dkwX6_departs_3 ++ dktX6_departs_4
def dkwX6_departs_2 : List UInt8 := [4, 46, 4, 96, 167, 0, 9, 42, 180, 0, 7, 4, 46, 54, 6, 21, 5, 21, 6, 96, 4, 100, 21, 6]
abbrev dktX6_departs_2 : List UInt8 := dkwX6_departs_2 ++ dktX6_departs_3
def dkwX6_departs_1 : List UInt8 := [42, 27, 4, 182, 0, 36, 184, 0, 40, 54, 5, 42, 27, 3, 182, 0, 36, 154, 0, 14, 42, 180, 0, 7]
abbrev dktX6_departs_1 : List UInt8 := dkwX6_departs_1 ++ dktX6_departs_2
def dkwX6_departs_0 : List UInt8 := [42, 3, 182, 0, 50, 60, 42, 182, 0, 53, 61, 42, 180, 0, 7, 8, 46, 62, 42, 182, 0, 57, 54, 4]
abbrev dktX6_departs_0 : List UInt8 := dkwX6_departs_0 ++ dktX6_departs_1
theorem dksX6_departs_0 : cX6_departs.data.toList.drop 0 = dktX6_departs_0 := by decide +kernel
theorem dksX6_departs_1 : cX6_departs.data.toList.drop 24 = dktX6_departs_1 := dk_seg dksX6_departs_0 24 rfl rfl
theorem dksX6_departs_2 : cX6_departs.data.toList.drop 48 = dktX6_departs_2 := dk_seg dksX6_departs_1 24 rfl rfl
theorem dksX6_departs_3 : cX6_departs.data.toList.drop 72 = dktX6_departs_3 := dk_seg dksX6_departs_2 24 rfl rfl
theorem dksX6_departs_4 : cX6_departs.data.toList.drop 96 = dktX6_departs_4 := dk_seg dksX6_departs_3 24 rfl rfl
theorem dksX6_departs_5 : cX6_departs.data.toList.drop 120 = dktX6_departs_5 := dk_seg dksX6_departs_4 24 rfl rfl
theorem dksX6_departs_6 : cX6_departs.data.toList.drop 144 = dktX6_departs_6 := dk_seg dksX6_departs_5 24 rfl rfl
theorem dksX6_departs_7 : cX6_departs.data.toList.drop 167 = dktX6_departs_7 := dk_seg dksX6_departs_6 23 rfl rfl
theorem dksX6_departs_8 : cX6_departs.data.toList.drop 191 = dktX6_departs_8 := dk_seg dksX6_departs_7 24 rfl rfl
theorem dksX6_departs_9 : cX6_departs.data.toList.drop 213 = dktX6_departs_9 := dk_seg dksX6_departs_8 22 rfl rfl
theorem dksX6_departs_10 : cX6_departs.data.toList.drop 236 = dktX6_departs_10 := dk_seg dksX6_departs_9 23 rfl rfl
theorem dX6_departs_0 : decode cX6_departs 0 = .ok (.aload_n 0, 1) := dk_42 (dk_at dksX6_departs_0 0 rfl rfl)
theorem dX6_departs_1 : decode cX6_departs 1 = .ok (.iconst 0, 1) := dk_3 (dk_at dksX6_departs_0 1 rfl rfl)
theorem dX6_departs_2 : decode cX6_departs 2 = .ok (.invokevirtual 50, 3) := dk_182 0 50 (dk_at dksX6_departs_0 2 rfl rfl)
theorem dX6_departs_5 : decode cX6_departs 5 = .ok (.istore_n 1, 1) := dk_60 (dk_at dksX6_departs_0 5 rfl rfl)
theorem dX6_departs_6 : decode cX6_departs 6 = .ok (.aload_n 0, 1) := dk_42 (dk_at dksX6_departs_0 6 rfl rfl)
theorem dX6_departs_7 : decode cX6_departs 7 = .ok (.invokevirtual 53, 3) := dk_182 0 53 (dk_at dksX6_departs_0 7 rfl rfl)
theorem dX6_departs_10 : decode cX6_departs 10 = .ok (.istore_n 2, 1) := dk_61 (dk_at dksX6_departs_0 10 rfl rfl)
theorem dX6_departs_11 : decode cX6_departs 11 = .ok (.aload_n 0, 1) := dk_42 (dk_at dksX6_departs_0 11 rfl rfl)
theorem dX6_departs_12 : decode cX6_departs 12 = .ok (.getfield 7, 3) := dk_180 0 7 (dk_at dksX6_departs_0 12 rfl rfl)
theorem dX6_departs_15 : decode cX6_departs 15 = .ok (.iconst 5, 1) := dk_8 (dk_at dksX6_departs_0 15 rfl rfl)
theorem dX6_departs_16 : decode cX6_departs 16 = .ok (.iaload, 1) := dk_46 (dk_at dksX6_departs_0 16 rfl rfl)
theorem dX6_departs_17 : decode cX6_departs 17 = .ok (.istore_n 3, 1) := dk_62 (dk_at dksX6_departs_0 17 rfl rfl)
theorem dX6_departs_18 : decode cX6_departs 18 = .ok (.aload_n 0, 1) := dk_42 (dk_at dksX6_departs_0 18 rfl rfl)
theorem dX6_departs_19 : decode cX6_departs 19 = .ok (.invokevirtual 57, 3) := dk_182 0 57 (dk_at dksX6_departs_0 19 rfl rfl)
theorem dX6_departs_22 : decode cX6_departs 22 = .ok (.istore 4, 2) := dk_54 4 (dk_at dksX6_departs_0 22 rfl rfl)
theorem dX6_departs_24 : decode cX6_departs 24 = .ok (.aload_n 0, 1) := dk_42 (dk_at dksX6_departs_1 0 rfl rfl)
theorem dX6_departs_25 : decode cX6_departs 25 = .ok (.iload_n 1, 1) := dk_27 (dk_at dksX6_departs_1 1 rfl rfl)
theorem dX6_departs_26 : decode cX6_departs 26 = .ok (.iconst 1, 1) := dk_4 (dk_at dksX6_departs_1 2 rfl rfl)
theorem dX6_departs_27 : decode cX6_departs 27 = .ok (.invokevirtual 36, 3) := dk_182 0 36 (dk_at dksX6_departs_1 3 rfl rfl)
theorem dX6_departs_30 : decode cX6_departs 30 = .ok (.invokestatic 40, 3) := dk_184 0 40 (dk_at dksX6_departs_1 6 rfl rfl)
theorem dX6_departs_33 : decode cX6_departs 33 = .ok (.istore 5, 2) := dk_54 5 (dk_at dksX6_departs_1 9 rfl rfl)
theorem dX6_departs_35 : decode cX6_departs 35 = .ok (.aload_n 0, 1) := dk_42 (dk_at dksX6_departs_1 11 rfl rfl)
theorem dX6_departs_36 : decode cX6_departs 36 = .ok (.iload_n 1, 1) := dk_27 (dk_at dksX6_departs_1 12 rfl rfl)
theorem dX6_departs_37 : decode cX6_departs 37 = .ok (.iconst 0, 1) := dk_3 (dk_at dksX6_departs_1 13 rfl rfl)
theorem dX6_departs_38 : decode cX6_departs 38 = .ok (.invokevirtual 36, 3) := dk_182 0 36 (dk_at dksX6_departs_1 14 rfl rfl)
theorem dX6_departs_41 : decode cX6_departs 41 = .ok (.ifCond .ne 14, 3) := dk_154 0 14 (dk_at dksX6_departs_1 17 rfl rfl)
theorem dX6_departs_44 : decode cX6_departs 44 = .ok (.aload_n 0, 1) := dk_42 (dk_at dksX6_departs_1 20 rfl rfl)
theorem dX6_departs_45 : decode cX6_departs 45 = .ok (.getfield 7, 3) := dk_180 0 7 (dk_at dksX6_departs_1 21 rfl rfl)
theorem dX6_departs_48 : decode cX6_departs 48 = .ok (.iconst 1, 1) := dk_4 (dk_at dksX6_departs_2 0 rfl rfl)
theorem dX6_departs_49 : decode cX6_departs 49 = .ok (.iaload, 1) := dk_46 (dk_at dksX6_departs_2 1 rfl rfl)
theorem dX6_departs_50 : decode cX6_departs 50 = .ok (.iconst 1, 1) := dk_4 (dk_at dksX6_departs_2 2 rfl rfl)
theorem dX6_departs_51 : decode cX6_departs 51 = .ok (.iadd, 1) := dk_96 (dk_at dksX6_departs_2 3 rfl rfl)
theorem dX6_departs_52 : decode cX6_departs 52 = .ok (.goto 9, 3) := dk_167 0 9 (dk_at dksX6_departs_2 4 rfl rfl)
theorem dX6_departs_55 : decode cX6_departs 55 = .ok (.aload_n 0, 1) := dk_42 (dk_at dksX6_departs_2 7 rfl rfl)
theorem dX6_departs_56 : decode cX6_departs 56 = .ok (.getfield 7, 3) := dk_180 0 7 (dk_at dksX6_departs_2 8 rfl rfl)
theorem dX6_departs_59 : decode cX6_departs 59 = .ok (.iconst 1, 1) := dk_4 (dk_at dksX6_departs_2 11 rfl rfl)
theorem dX6_departs_60 : decode cX6_departs 60 = .ok (.iaload, 1) := dk_46 (dk_at dksX6_departs_2 12 rfl rfl)
theorem dX6_departs_61 : decode cX6_departs 61 = .ok (.istore 6, 2) := dk_54 6 (dk_at dksX6_departs_2 13 rfl rfl)
theorem dX6_departs_63 : decode cX6_departs 63 = .ok (.iload 5, 2) := dk_21 5 (dk_at dksX6_departs_2 15 rfl rfl)
theorem dX6_departs_65 : decode cX6_departs 65 = .ok (.iload 6, 2) := dk_21 6 (dk_at dksX6_departs_2 17 rfl rfl)
theorem dX6_departs_67 : decode cX6_departs 67 = .ok (.iadd, 1) := dk_96 (dk_at dksX6_departs_2 19 rfl rfl)
theorem dX6_departs_68 : decode cX6_departs 68 = .ok (.iconst 1, 1) := dk_4 (dk_at dksX6_departs_2 20 rfl rfl)
theorem dX6_departs_69 : decode cX6_departs 69 = .ok (.isub, 1) := dk_100 (dk_at dksX6_departs_2 21 rfl rfl)
theorem dX6_departs_70 : decode cX6_departs 70 = .ok (.iload 6, 2) := dk_21 6 (dk_at dksX6_departs_2 22 rfl rfl)
theorem dX6_departs_72 : decode cX6_departs 72 = .ok (.idiv, 1) := dk_108 (dk_at dksX6_departs_3 0 rfl rfl)
theorem dX6_departs_73 : decode cX6_departs 73 = .ok (.istore 7, 2) := dk_54 7 (dk_at dksX6_departs_3 1 rfl rfl)
theorem dX6_departs_75 : decode cX6_departs 75 = .ok (.iload 5, 2) := dk_21 5 (dk_at dksX6_departs_3 3 rfl rfl)
theorem dX6_departs_77 : decode cX6_departs 77 = .ok (.aload_n 0, 1) := dk_42 (dk_at dksX6_departs_3 5 rfl rfl)
theorem dX6_departs_78 : decode cX6_departs 78 = .ok (.getfield 7, 3) := dk_180 0 7 (dk_at dksX6_departs_3 6 rfl rfl)
theorem dX6_departs_81 : decode cX6_departs 81 = .ok (.iconst 1, 1) := dk_4 (dk_at dksX6_departs_3 9 rfl rfl)
theorem dX6_departs_82 : decode cX6_departs 82 = .ok (.iaload, 1) := dk_46 (dk_at dksX6_departs_3 10 rfl rfl)
theorem dX6_departs_83 : decode cX6_departs 83 = .ok (.iadd, 1) := dk_96 (dk_at dksX6_departs_3 11 rfl rfl)
theorem dX6_departs_84 : decode cX6_departs 84 = .ok (.iconst 1, 1) := dk_4 (dk_at dksX6_departs_3 12 rfl rfl)
theorem dX6_departs_85 : decode cX6_departs 85 = .ok (.isub, 1) := dk_100 (dk_at dksX6_departs_3 13 rfl rfl)
theorem dX6_departs_86 : decode cX6_departs 86 = .ok (.aload_n 0, 1) := dk_42 (dk_at dksX6_departs_3 14 rfl rfl)
theorem dX6_departs_87 : decode cX6_departs 87 = .ok (.getfield 7, 3) := dk_180 0 7 (dk_at dksX6_departs_3 15 rfl rfl)
theorem dX6_departs_90 : decode cX6_departs 90 = .ok (.iconst 1, 1) := dk_4 (dk_at dksX6_departs_3 18 rfl rfl)
theorem dX6_departs_91 : decode cX6_departs 91 = .ok (.iaload, 1) := dk_46 (dk_at dksX6_departs_3 19 rfl rfl)
theorem dX6_departs_92 : decode cX6_departs 92 = .ok (.idiv, 1) := dk_108 (dk_at dksX6_departs_3 20 rfl rfl)
theorem dX6_departs_93 : decode cX6_departs 93 = .ok (.istore 8, 2) := dk_54 8 (dk_at dksX6_departs_3 21 rfl rfl)
theorem dX6_departs_95 : decode cX6_departs 95 = .ok (.aload_n 0, 1) := dk_42 (dk_at dksX6_departs_3 23 rfl rfl)
theorem dX6_departs_96 : decode cX6_departs 96 = .ok (.iload_n 1, 1) := dk_27 (dk_at dksX6_departs_4 0 rfl rfl)
theorem dX6_departs_97 : decode cX6_departs 97 = .ok (.iconst 4, 1) := dk_7 (dk_at dksX6_departs_4 1 rfl rfl)
theorem dX6_departs_98 : decode cX6_departs 98 = .ok (.aload_n 0, 1) := dk_42 (dk_at dksX6_departs_4 2 rfl rfl)
theorem dX6_departs_99 : decode cX6_departs 99 = .ok (.iload_n 1, 1) := dk_27 (dk_at dksX6_departs_4 3 rfl rfl)
theorem dX6_departs_100 : decode cX6_departs 100 = .ok (.invokevirtual 64, 3) := dk_182 0 64 (dk_at dksX6_departs_4 4 rfl rfl)
theorem dX6_departs_103 : decode cX6_departs 103 = .ok (.invokevirtual 67, 3) := dk_182 0 67 (dk_at dksX6_departs_4 7 rfl rfl)
theorem dX6_departs_106 : decode cX6_departs 106 = .ok (.aload_n 0, 1) := dk_42 (dk_at dksX6_departs_4 10 rfl rfl)
theorem dX6_departs_107 : decode cX6_departs 107 = .ok (.iload_n 1, 1) := dk_27 (dk_at dksX6_departs_4 11 rfl rfl)
theorem dX6_departs_108 : decode cX6_departs 108 = .ok (.iconst 2, 1) := dk_5 (dk_at dksX6_departs_4 12 rfl rfl)
theorem dX6_departs_109 : decode cX6_departs 109 = .ok (.iconst 1, 1) := dk_4 (dk_at dksX6_departs_4 13 rfl rfl)
theorem dX6_departs_110 : decode cX6_departs 110 = .ok (.invokevirtual 67, 3) := dk_182 0 67 (dk_at dksX6_departs_4 14 rfl rfl)
theorem dX6_departs_113 : decode cX6_departs 113 = .ok (.aload_n 0, 1) := dk_42 (dk_at dksX6_departs_4 17 rfl rfl)
theorem dX6_departs_114 : decode cX6_departs 114 = .ok (.getfield 7, 3) := dk_180 0 7 (dk_at dksX6_departs_4 18 rfl rfl)
theorem dX6_departs_117 : decode cX6_departs 117 = .ok (.bipush 11, 2) := dk_16 11 (dk_at dksX6_departs_4 21 rfl rfl)
theorem dX6_departs_119 : decode cX6_departs 119 = .ok (.aload_n 0, 1) := dk_42 (dk_at dksX6_departs_4 23 rfl rfl)
theorem dX6_departs_120 : decode cX6_departs 120 = .ok (.iload_n 1, 1) := dk_27 (dk_at dksX6_departs_5 0 rfl rfl)
theorem dX6_departs_121 : decode cX6_departs 121 = .ok (.iconst 1, 1) := dk_4 (dk_at dksX6_departs_5 1 rfl rfl)
theorem dX6_departs_122 : decode cX6_departs 122 = .ok (.invokevirtual 36, 3) := dk_182 0 36 (dk_at dksX6_departs_5 2 rfl rfl)
theorem dX6_departs_125 : decode cX6_departs 125 = .ok (.iadd, 1) := dk_96 (dk_at dksX6_departs_5 5 rfl rfl)
theorem dX6_departs_126 : decode cX6_departs 126 = .ok (.dup2, 1) := dk_92 (dk_at dksX6_departs_5 6 rfl rfl)
theorem dX6_departs_127 : decode cX6_departs 127 = .ok (.iaload, 1) := dk_46 (dk_at dksX6_departs_5 7 rfl rfl)
theorem dX6_departs_128 : decode cX6_departs 128 = .ok (.aload_n 0, 1) := dk_42 (dk_at dksX6_departs_5 8 rfl rfl)
theorem dX6_departs_129 : decode cX6_departs 129 = .ok (.iload_n 1, 1) := dk_27 (dk_at dksX6_departs_5 9 rfl rfl)
theorem dX6_departs_130 : decode cX6_departs 130 = .ok (.invokevirtual 70, 3) := dk_182 0 70 (dk_at dksX6_departs_5 10 rfl rfl)
theorem dX6_departs_133 : decode cX6_departs 133 = .ok (.iadd, 1) := dk_96 (dk_at dksX6_departs_5 13 rfl rfl)
theorem dX6_departs_134 : decode cX6_departs 134 = .ok (.iastore, 1) := dk_79 (dk_at dksX6_departs_5 14 rfl rfl)
theorem dX6_departs_135 : decode cX6_departs 135 = .ok (.aload_n 0, 1) := dk_42 (dk_at dksX6_departs_5 15 rfl rfl)
theorem dX6_departs_136 : decode cX6_departs 136 = .ok (.iload_n 2, 1) := dk_28 (dk_at dksX6_departs_5 16 rfl rfl)
theorem dX6_departs_137 : decode cX6_departs 137 = .ok (.iconst 0, 1) := dk_3 (dk_at dksX6_departs_5 17 rfl rfl)
theorem dX6_departs_138 : decode cX6_departs 138 = .ok (.iconst 1, 1) := dk_4 (dk_at dksX6_departs_5 18 rfl rfl)
theorem dX6_departs_139 : decode cX6_departs 139 = .ok (.invokevirtual 73, 3) := dk_182 0 73 (dk_at dksX6_departs_5 19 rfl rfl)
theorem dX6_departs_142 : decode cX6_departs 142 = .ok (.aload_n 0, 1) := dk_42 (dk_at dksX6_departs_5 22 rfl rfl)
theorem dX6_departs_143 : decode cX6_departs 143 = .ok (.iload_n 3, 1) := dk_29 (dk_at dksX6_departs_5 23 rfl rfl)
theorem dX6_departs_144 : decode cX6_departs 144 = .ok (.invokevirtual 76, 3) := dk_182 0 76 (dk_at dksX6_departs_6 0 rfl rfl)
theorem dX6_departs_147 : decode cX6_departs 147 = .ok (.istore 9, 2) := dk_54 9 (dk_at dksX6_departs_6 3 rfl rfl)
theorem dX6_departs_149 : decode cX6_departs 149 = .ok (.aload_n 0, 1) := dk_42 (dk_at dksX6_departs_6 5 rfl rfl)
theorem dX6_departs_150 : decode cX6_departs 150 = .ok (.iload_n 3, 1) := dk_29 (dk_at dksX6_departs_6 6 rfl rfl)
theorem dX6_departs_151 : decode cX6_departs 151 = .ok (.iconst 0, 1) := dk_3 (dk_at dksX6_departs_6 7 rfl rfl)
theorem dX6_departs_152 : decode cX6_departs 152 = .ok (.iconst 2, 1) := dk_5 (dk_at dksX6_departs_6 8 rfl rfl)
theorem dX6_departs_153 : decode cX6_departs 153 = .ok (.invokevirtual 60, 3) := dk_182 0 60 (dk_at dksX6_departs_6 9 rfl rfl)
theorem dX6_departs_156 : decode cX6_departs 156 = .ok (.aload_n 0, 1) := dk_42 (dk_at dksX6_departs_6 12 rfl rfl)
theorem dX6_departs_157 : decode cX6_departs 157 = .ok (.iload_n 3, 1) := dk_29 (dk_at dksX6_departs_6 13 rfl rfl)
theorem dX6_departs_158 : decode cX6_departs 158 = .ok (.iconst 1, 1) := dk_4 (dk_at dksX6_departs_6 14 rfl rfl)
theorem dX6_departs_159 : decode cX6_departs 159 = .ok (.aload_n 0, 1) := dk_42 (dk_at dksX6_departs_6 15 rfl rfl)
theorem dX6_departs_160 : decode cX6_departs 160 = .ok (.iload_n 3, 1) := dk_29 (dk_at dksX6_departs_6 16 rfl rfl)
theorem dX6_departs_161 : decode cX6_departs 161 = .ok (.iconst 1, 1) := dk_4 (dk_at dksX6_departs_6 17 rfl rfl)
theorem dX6_departs_162 : decode cX6_departs 162 = .ok (.invokevirtual 79, 3) := dk_182 0 79 (dk_at dksX6_departs_6 18 rfl rfl)
theorem dX6_departs_165 : decode cX6_departs 165 = .ok (.iconst 1, 1) := dk_4 (dk_at dksX6_departs_6 21 rfl rfl)
theorem dX6_departs_166 : decode cX6_departs 166 = .ok (.iadd, 1) := dk_96 (dk_at dksX6_departs_6 22 rfl rfl)
theorem dX6_departs_167 : decode cX6_departs 167 = .ok (.invokevirtual 60, 3) := dk_182 0 60 (dk_at dksX6_departs_7 0 rfl rfl)
theorem dX6_departs_170 : decode cX6_departs 170 = .ok (.aload_n 0, 1) := dk_42 (dk_at dksX6_departs_7 3 rfl rfl)
theorem dX6_departs_171 : decode cX6_departs 171 = .ok (.iload 4, 2) := dk_21 4 (dk_at dksX6_departs_7 4 rfl rfl)
theorem dX6_departs_173 : decode cX6_departs 173 = .ok (.iconst 0, 1) := dk_3 (dk_at dksX6_departs_7 6 rfl rfl)
theorem dX6_departs_174 : decode cX6_departs 174 = .ok (.iconst 1, 1) := dk_4 (dk_at dksX6_departs_7 7 rfl rfl)
theorem dX6_departs_175 : decode cX6_departs 175 = .ok (.invokevirtual 82, 3) := dk_182 0 82 (dk_at dksX6_departs_7 8 rfl rfl)
theorem dX6_departs_178 : decode cX6_departs 178 = .ok (.aload_n 0, 1) := dk_42 (dk_at dksX6_departs_7 11 rfl rfl)
theorem dX6_departs_179 : decode cX6_departs 179 = .ok (.iload 4, 2) := dk_21 4 (dk_at dksX6_departs_7 12 rfl rfl)
theorem dX6_departs_181 : decode cX6_departs 181 = .ok (.iconst 4, 1) := dk_7 (dk_at dksX6_departs_7 14 rfl rfl)
theorem dX6_departs_182 : decode cX6_departs 182 = .ok (.iload_n 1, 1) := dk_27 (dk_at dksX6_departs_7 15 rfl rfl)
theorem dX6_departs_183 : decode cX6_departs 183 = .ok (.invokevirtual 82, 3) := dk_182 0 82 (dk_at dksX6_departs_7 16 rfl rfl)
theorem dX6_departs_186 : decode cX6_departs 186 = .ok (.aload_n 0, 1) := dk_42 (dk_at dksX6_departs_7 19 rfl rfl)
theorem dX6_departs_187 : decode cX6_departs 187 = .ok (.iload 4, 2) := dk_21 4 (dk_at dksX6_departs_7 20 rfl rfl)
theorem dX6_departs_189 : decode cX6_departs 189 = .ok (.iconst 5, 1) := dk_8 (dk_at dksX6_departs_7 22 rfl rfl)
theorem dX6_departs_190 : decode cX6_departs 190 = .ok (.iload_n 2, 1) := dk_28 (dk_at dksX6_departs_7 23 rfl rfl)
theorem dX6_departs_191 : decode cX6_departs 191 = .ok (.invokevirtual 82, 3) := dk_182 0 82 (dk_at dksX6_departs_8 0 rfl rfl)
theorem dX6_departs_194 : decode cX6_departs 194 = .ok (.aload_n 0, 1) := dk_42 (dk_at dksX6_departs_8 3 rfl rfl)
theorem dX6_departs_195 : decode cX6_departs 195 = .ok (.iload 4, 2) := dk_21 4 (dk_at dksX6_departs_8 4 rfl rfl)
theorem dX6_departs_197 : decode cX6_departs 197 = .ok (.bipush 6, 2) := dk_16 6 (dk_at dksX6_departs_8 6 rfl rfl)
theorem dX6_departs_199 : decode cX6_departs 199 = .ok (.iload_n 3, 1) := dk_29 (dk_at dksX6_departs_8 8 rfl rfl)
theorem dX6_departs_200 : decode cX6_departs 200 = .ok (.invokevirtual 82, 3) := dk_182 0 82 (dk_at dksX6_departs_8 9 rfl rfl)
theorem dX6_departs_203 : decode cX6_departs 203 = .ok (.aload_n 0, 1) := dk_42 (dk_at dksX6_departs_8 12 rfl rfl)
theorem dX6_departs_204 : decode cX6_departs 204 = .ok (.iload 4, 2) := dk_21 4 (dk_at dksX6_departs_8 13 rfl rfl)
theorem dX6_departs_206 : decode cX6_departs 206 = .ok (.bipush 7, 2) := dk_16 7 (dk_at dksX6_departs_8 15 rfl rfl)
theorem dX6_departs_208 : decode cX6_departs 208 = .ok (.iload 7, 2) := dk_21 7 (dk_at dksX6_departs_8 17 rfl rfl)
theorem dX6_departs_210 : decode cX6_departs 210 = .ok (.iload 8, 2) := dk_21 8 (dk_at dksX6_departs_8 19 rfl rfl)
theorem dX6_departs_212 : decode cX6_departs 212 = .ok (.iadd, 1) := dk_96 (dk_at dksX6_departs_8 21 rfl rfl)
theorem dX6_departs_213 : decode cX6_departs 213 = .ok (.invokevirtual 82, 3) := dk_182 0 82 (dk_at dksX6_departs_9 0 rfl rfl)
theorem dX6_departs_216 : decode cX6_departs 216 = .ok (.aload_n 0, 1) := dk_42 (dk_at dksX6_departs_9 3 rfl rfl)
theorem dX6_departs_217 : decode cX6_departs 217 = .ok (.iload 4, 2) := dk_21 4 (dk_at dksX6_departs_9 4 rfl rfl)
theorem dX6_departs_219 : decode cX6_departs 219 = .ok (.bipush 8, 2) := dk_16 8 (dk_at dksX6_departs_9 6 rfl rfl)
theorem dX6_departs_221 : decode cX6_departs 221 = .ok (.iload 7, 2) := dk_21 7 (dk_at dksX6_departs_9 8 rfl rfl)
theorem dX6_departs_223 : decode cX6_departs 223 = .ok (.iload 8, 2) := dk_21 8 (dk_at dksX6_departs_9 10 rfl rfl)
theorem dX6_departs_225 : decode cX6_departs 225 = .ok (.iadd, 1) := dk_96 (dk_at dksX6_departs_9 12 rfl rfl)
theorem dX6_departs_226 : decode cX6_departs 226 = .ok (.invokevirtual 82, 3) := dk_182 0 82 (dk_at dksX6_departs_9 13 rfl rfl)
theorem dX6_departs_229 : decode cX6_departs 229 = .ok (.aload_n 0, 1) := dk_42 (dk_at dksX6_departs_9 16 rfl rfl)
theorem dX6_departs_230 : decode cX6_departs 230 = .ok (.iload 4, 2) := dk_21 4 (dk_at dksX6_departs_9 17 rfl rfl)
theorem dX6_departs_232 : decode cX6_departs 232 = .ok (.bipush 9, 2) := dk_16 9 (dk_at dksX6_departs_9 19 rfl rfl)
theorem dX6_departs_234 : decode cX6_departs 234 = .ok (.iload 8, 2) := dk_21 8 (dk_at dksX6_departs_9 21 rfl rfl)
theorem dX6_departs_236 : decode cX6_departs 236 = .ok (.invokevirtual 82, 3) := dk_182 0 82 (dk_at dksX6_departs_10 0 rfl rfl)
theorem dX6_departs_239 : decode cX6_departs 239 = .ok (.return_, 1) := dk_177 (dk_at dksX6_departs_10 3 rfl rfl)
abbrev cX6_fare : ByteArray := prog_13_method_19_code
def yX6_fare : MethodName := ⟨RX6, "fare", "(I)I"⟩
def dkwX6_fare_1 : List UInt8 := [27, 3, 182, 0, 36, 4, 160, 0, 8, 16, 21, 167, 0, 5, 16, 14, 104, 172]
abbrev dktX6_fare_1 : List UInt8 := dkwX6_fare_1 ++ []
def dkwX6_fare_0 : List UInt8 := [42, 27, 4, 182, 0, 36, 184, 0, 40, 42, 27, 3, 182, 0, 36, 154, 0, 8, 16, 28, 167, 0, 20, 42]
abbrev dktX6_fare_0 : List UInt8 := dkwX6_fare_0 ++ dktX6_fare_1
theorem dksX6_fare_0 : cX6_fare.data.toList.drop 0 = dktX6_fare_0 := by decide +kernel
theorem dksX6_fare_1 : cX6_fare.data.toList.drop 24 = dktX6_fare_1 := dk_seg dksX6_fare_0 24 rfl rfl
theorem dX6_fare_0 : decode cX6_fare 0 = .ok (.aload_n 0, 1) := dk_42 (dk_at dksX6_fare_0 0 rfl rfl)
theorem dX6_fare_1 : decode cX6_fare 1 = .ok (.iload_n 1, 1) := dk_27 (dk_at dksX6_fare_0 1 rfl rfl)
theorem dX6_fare_2 : decode cX6_fare 2 = .ok (.iconst 1, 1) := dk_4 (dk_at dksX6_fare_0 2 rfl rfl)
theorem dX6_fare_3 : decode cX6_fare 3 = .ok (.invokevirtual 36, 3) := dk_182 0 36 (dk_at dksX6_fare_0 3 rfl rfl)
theorem dX6_fare_6 : decode cX6_fare 6 = .ok (.invokestatic 40, 3) := dk_184 0 40 (dk_at dksX6_fare_0 6 rfl rfl)
theorem dX6_fare_9 : decode cX6_fare 9 = .ok (.aload_n 0, 1) := dk_42 (dk_at dksX6_fare_0 9 rfl rfl)
theorem dX6_fare_10 : decode cX6_fare 10 = .ok (.iload_n 1, 1) := dk_27 (dk_at dksX6_fare_0 10 rfl rfl)
theorem dX6_fare_11 : decode cX6_fare 11 = .ok (.iconst 0, 1) := dk_3 (dk_at dksX6_fare_0 11 rfl rfl)
theorem dX6_fare_12 : decode cX6_fare 12 = .ok (.invokevirtual 36, 3) := dk_182 0 36 (dk_at dksX6_fare_0 12 rfl rfl)
theorem dX6_fare_15 : decode cX6_fare 15 = .ok (.ifCond .ne 8, 3) := dk_154 0 8 (dk_at dksX6_fare_0 15 rfl rfl)
theorem dX6_fare_18 : decode cX6_fare 18 = .ok (.bipush 28, 2) := dk_16 28 (dk_at dksX6_fare_0 18 rfl rfl)
theorem dX6_fare_20 : decode cX6_fare 20 = .ok (.goto 20, 3) := dk_167 0 20 (dk_at dksX6_fare_0 20 rfl rfl)
theorem dX6_fare_23 : decode cX6_fare 23 = .ok (.aload_n 0, 1) := dk_42 (dk_at dksX6_fare_0 23 rfl rfl)
theorem dX6_fare_24 : decode cX6_fare 24 = .ok (.iload_n 1, 1) := dk_27 (dk_at dksX6_fare_1 0 rfl rfl)
theorem dX6_fare_25 : decode cX6_fare 25 = .ok (.iconst 0, 1) := dk_3 (dk_at dksX6_fare_1 1 rfl rfl)
theorem dX6_fare_26 : decode cX6_fare 26 = .ok (.invokevirtual 36, 3) := dk_182 0 36 (dk_at dksX6_fare_1 2 rfl rfl)
theorem dX6_fare_29 : decode cX6_fare 29 = .ok (.iconst 1, 1) := dk_4 (dk_at dksX6_fare_1 5 rfl rfl)
theorem dX6_fare_30 : decode cX6_fare 30 = .ok (.if_icmp .ne 8, 3) := dk_160 0 8 (dk_at dksX6_fare_1 6 rfl rfl)
theorem dX6_fare_33 : decode cX6_fare 33 = .ok (.bipush 21, 2) := dk_16 21 (dk_at dksX6_fare_1 9 rfl rfl)
theorem dX6_fare_35 : decode cX6_fare 35 = .ok (.goto 5, 3) := dk_167 0 5 (dk_at dksX6_fare_1 11 rfl rfl)
theorem dX6_fare_38 : decode cX6_fare 38 = .ok (.bipush 14, 2) := dk_16 14 (dk_at dksX6_fare_1 14 rfl rfl)
theorem dX6_fare_40 : decode cX6_fare 40 = .ok (.imul, 1) := dk_104 (dk_at dksX6_fare_1 16 rfl rfl)
theorem dX6_fare_41 : decode cX6_fare 41 = .ok (.ireturn, 1) := dk_172 (dk_at dksX6_fare_1 17 rfl rfl)
abbrev cX6_leaves : ByteArray := prog_13_method_25_code
def yX6_leaves : MethodName := ⟨RX6, "leaves", "(I)I"⟩
def dkwX6_leaves_2 : List UInt8 := [96, 42, 180, 0, 7, 8, 29, 96, 4, 96, 46, 79, 132, 3, 1, 167, 255, 225, 28, 172]
abbrev dktX6_leaves_2 : List UInt8 := dkwX6_leaves_2 ++ []
def dkwX6_leaves_1 : List UInt8 := [7, 92, 46, 4, 100, 79, 28, 62, 29, 42, 180, 0, 7, 7, 46, 162, 0, 27, 42, 180, 0, 7, 8, 29]
abbrev dktX6_leaves_1 : List UInt8 := dkwX6_leaves_1 ++ dktX6_leaves_2
def dkwX6_leaves_0 : List UInt8 := [3, 61, 42, 180, 0, 7, 8, 28, 96, 46, 27, 159, 0, 9, 132, 2, 1, 167, 255, 241, 42, 180, 0, 7]
abbrev dktX6_leaves_0 : List UInt8 := dkwX6_leaves_0 ++ dktX6_leaves_1
theorem dksX6_leaves_0 : cX6_leaves.data.toList.drop 0 = dktX6_leaves_0 := by decide +kernel
theorem dksX6_leaves_1 : cX6_leaves.data.toList.drop 24 = dktX6_leaves_1 := dk_seg dksX6_leaves_0 24 rfl rfl
theorem dksX6_leaves_2 : cX6_leaves.data.toList.drop 48 = dktX6_leaves_2 := dk_seg dksX6_leaves_1 24 rfl rfl
theorem dX6_leaves_0 : decode cX6_leaves 0 = .ok (.iconst 0, 1) := dk_3 (dk_at dksX6_leaves_0 0 rfl rfl)
theorem dX6_leaves_1 : decode cX6_leaves 1 = .ok (.istore_n 2, 1) := dk_61 (dk_at dksX6_leaves_0 1 rfl rfl)
theorem dX6_leaves_2 : decode cX6_leaves 2 = .ok (.aload_n 0, 1) := dk_42 (dk_at dksX6_leaves_0 2 rfl rfl)
theorem dX6_leaves_3 : decode cX6_leaves 3 = .ok (.getfield 7, 3) := dk_180 0 7 (dk_at dksX6_leaves_0 3 rfl rfl)
theorem dX6_leaves_6 : decode cX6_leaves 6 = .ok (.iconst 5, 1) := dk_8 (dk_at dksX6_leaves_0 6 rfl rfl)
theorem dX6_leaves_7 : decode cX6_leaves 7 = .ok (.iload_n 2, 1) := dk_28 (dk_at dksX6_leaves_0 7 rfl rfl)
theorem dX6_leaves_8 : decode cX6_leaves 8 = .ok (.iadd, 1) := dk_96 (dk_at dksX6_leaves_0 8 rfl rfl)
theorem dX6_leaves_9 : decode cX6_leaves 9 = .ok (.iaload, 1) := dk_46 (dk_at dksX6_leaves_0 9 rfl rfl)
theorem dX6_leaves_10 : decode cX6_leaves 10 = .ok (.iload_n 1, 1) := dk_27 (dk_at dksX6_leaves_0 10 rfl rfl)
theorem dX6_leaves_11 : decode cX6_leaves 11 = .ok (.if_icmp .eq 9, 3) := dk_159 0 9 (dk_at dksX6_leaves_0 11 rfl rfl)
theorem dX6_leaves_14 : decode cX6_leaves 14 = .ok (.iinc 2 1, 3) := dk_132 2 1 (dk_at dksX6_leaves_0 14 rfl rfl)
theorem dX6_leaves_17 : decode cX6_leaves 17 = .ok (.goto (-15), 3) := dk_167 255 241 (dk_at dksX6_leaves_0 17 rfl rfl)
theorem dX6_leaves_20 : decode cX6_leaves 20 = .ok (.aload_n 0, 1) := dk_42 (dk_at dksX6_leaves_0 20 rfl rfl)
theorem dX6_leaves_21 : decode cX6_leaves 21 = .ok (.getfield 7, 3) := dk_180 0 7 (dk_at dksX6_leaves_0 21 rfl rfl)
theorem dX6_leaves_24 : decode cX6_leaves 24 = .ok (.iconst 4, 1) := dk_7 (dk_at dksX6_leaves_1 0 rfl rfl)
theorem dX6_leaves_25 : decode cX6_leaves 25 = .ok (.dup2, 1) := dk_92 (dk_at dksX6_leaves_1 1 rfl rfl)
theorem dX6_leaves_26 : decode cX6_leaves 26 = .ok (.iaload, 1) := dk_46 (dk_at dksX6_leaves_1 2 rfl rfl)
theorem dX6_leaves_27 : decode cX6_leaves 27 = .ok (.iconst 1, 1) := dk_4 (dk_at dksX6_leaves_1 3 rfl rfl)
theorem dX6_leaves_28 : decode cX6_leaves 28 = .ok (.isub, 1) := dk_100 (dk_at dksX6_leaves_1 4 rfl rfl)
theorem dX6_leaves_29 : decode cX6_leaves 29 = .ok (.iastore, 1) := dk_79 (dk_at dksX6_leaves_1 5 rfl rfl)
theorem dX6_leaves_30 : decode cX6_leaves 30 = .ok (.iload_n 2, 1) := dk_28 (dk_at dksX6_leaves_1 6 rfl rfl)
theorem dX6_leaves_31 : decode cX6_leaves 31 = .ok (.istore_n 3, 1) := dk_62 (dk_at dksX6_leaves_1 7 rfl rfl)
theorem dX6_leaves_32 : decode cX6_leaves 32 = .ok (.iload_n 3, 1) := dk_29 (dk_at dksX6_leaves_1 8 rfl rfl)
theorem dX6_leaves_33 : decode cX6_leaves 33 = .ok (.aload_n 0, 1) := dk_42 (dk_at dksX6_leaves_1 9 rfl rfl)
theorem dX6_leaves_34 : decode cX6_leaves 34 = .ok (.getfield 7, 3) := dk_180 0 7 (dk_at dksX6_leaves_1 10 rfl rfl)
theorem dX6_leaves_37 : decode cX6_leaves 37 = .ok (.iconst 4, 1) := dk_7 (dk_at dksX6_leaves_1 13 rfl rfl)
theorem dX6_leaves_38 : decode cX6_leaves 38 = .ok (.iaload, 1) := dk_46 (dk_at dksX6_leaves_1 14 rfl rfl)
theorem dX6_leaves_39 : decode cX6_leaves 39 = .ok (.if_icmp .ge 27, 3) := dk_162 0 27 (dk_at dksX6_leaves_1 15 rfl rfl)
theorem dX6_leaves_42 : decode cX6_leaves 42 = .ok (.aload_n 0, 1) := dk_42 (dk_at dksX6_leaves_1 18 rfl rfl)
theorem dX6_leaves_43 : decode cX6_leaves 43 = .ok (.getfield 7, 3) := dk_180 0 7 (dk_at dksX6_leaves_1 19 rfl rfl)
theorem dX6_leaves_46 : decode cX6_leaves 46 = .ok (.iconst 5, 1) := dk_8 (dk_at dksX6_leaves_1 22 rfl rfl)
theorem dX6_leaves_47 : decode cX6_leaves 47 = .ok (.iload_n 3, 1) := dk_29 (dk_at dksX6_leaves_1 23 rfl rfl)
theorem dX6_leaves_48 : decode cX6_leaves 48 = .ok (.iadd, 1) := dk_96 (dk_at dksX6_leaves_2 0 rfl rfl)
theorem dX6_leaves_49 : decode cX6_leaves 49 = .ok (.aload_n 0, 1) := dk_42 (dk_at dksX6_leaves_2 1 rfl rfl)
theorem dX6_leaves_50 : decode cX6_leaves 50 = .ok (.getfield 7, 3) := dk_180 0 7 (dk_at dksX6_leaves_2 2 rfl rfl)
theorem dX6_leaves_53 : decode cX6_leaves 53 = .ok (.iconst 5, 1) := dk_8 (dk_at dksX6_leaves_2 5 rfl rfl)
theorem dX6_leaves_54 : decode cX6_leaves 54 = .ok (.iload_n 3, 1) := dk_29 (dk_at dksX6_leaves_2 6 rfl rfl)
theorem dX6_leaves_55 : decode cX6_leaves 55 = .ok (.iadd, 1) := dk_96 (dk_at dksX6_leaves_2 7 rfl rfl)
theorem dX6_leaves_56 : decode cX6_leaves 56 = .ok (.iconst 1, 1) := dk_4 (dk_at dksX6_leaves_2 8 rfl rfl)
theorem dX6_leaves_57 : decode cX6_leaves 57 = .ok (.iadd, 1) := dk_96 (dk_at dksX6_leaves_2 9 rfl rfl)
theorem dX6_leaves_58 : decode cX6_leaves 58 = .ok (.iaload, 1) := dk_46 (dk_at dksX6_leaves_2 10 rfl rfl)
theorem dX6_leaves_59 : decode cX6_leaves 59 = .ok (.iastore, 1) := dk_79 (dk_at dksX6_leaves_2 11 rfl rfl)
theorem dX6_leaves_60 : decode cX6_leaves 60 = .ok (.iinc 3 1, 3) := dk_132 3 1 (dk_at dksX6_leaves_2 12 rfl rfl)
theorem dX6_leaves_63 : decode cX6_leaves 63 = .ok (.goto (-31), 3) := dk_167 255 225 (dk_at dksX6_leaves_2 15 rfl rfl)
theorem dX6_leaves_66 : decode cX6_leaves 66 = .ok (.iload_n 2, 1) := dk_28 (dk_at dksX6_leaves_2 18 rfl rfl)
theorem dX6_leaves_67 : decode cX6_leaves 67 = .ok (.ireturn, 1) := dk_172 (dk_at dksX6_leaves_2 19 rfl rfl)
abbrev cX6_boy : ByteArray := prog_13_method_14_code
def yX6_boy : MethodName := ⟨RX6, "boy", "(II)I"⟩
def dkwX6_boy_0 : List UInt8 := [42, 180, 0, 7, 17, 0, 232, 5, 27, 104, 96, 28, 96, 46, 172]
abbrev dktX6_boy_0 : List UInt8 := dkwX6_boy_0 ++ []
theorem dksX6_boy_0 : cX6_boy.data.toList.drop 0 = dktX6_boy_0 := by decide +kernel
theorem dX6_boy_0 : decode cX6_boy 0 = .ok (.aload_n 0, 1) := dk_42 (dk_at dksX6_boy_0 0 rfl rfl)
theorem dX6_boy_1 : decode cX6_boy 1 = .ok (.getfield 7, 3) := dk_180 0 7 (dk_at dksX6_boy_0 1 rfl rfl)
theorem dX6_boy_4 : decode cX6_boy 4 = .ok (.sipush 232, 3) := dk_17 0 232 (dk_at dksX6_boy_0 4 rfl rfl)
theorem dX6_boy_7 : decode cX6_boy 7 = .ok (.iconst 2, 1) := dk_5 (dk_at dksX6_boy_0 7 rfl rfl)
theorem dX6_boy_8 : decode cX6_boy 8 = .ok (.iload_n 1, 1) := dk_27 (dk_at dksX6_boy_0 8 rfl rfl)
theorem dX6_boy_9 : decode cX6_boy 9 = .ok (.imul, 1) := dk_104 (dk_at dksX6_boy_0 9 rfl rfl)
theorem dX6_boy_10 : decode cX6_boy 10 = .ok (.iadd, 1) := dk_96 (dk_at dksX6_boy_0 10 rfl rfl)
theorem dX6_boy_11 : decode cX6_boy 11 = .ok (.iload_n 2, 1) := dk_28 (dk_at dksX6_boy_0 11 rfl rfl)
theorem dX6_boy_12 : decode cX6_boy 12 = .ok (.iadd, 1) := dk_96 (dk_at dksX6_boy_0 12 rfl rfl)
theorem dX6_boy_13 : decode cX6_boy 13 = .ok (.iaload, 1) := dk_46 (dk_at dksX6_boy_0 13 rfl rfl)
theorem dX6_boy_14 : decode cX6_boy 14 = .ok (.ireturn, 1) := dk_172 (dk_at dksX6_boy_0 14 rfl rfl)
abbrev cX6_addRest : ByteArray := prog_13_method_39_code
def yX6_addRest : MethodName := ⟨RX6, "addRest", "(II)I"⟩
def dkwX6_addRest_3 : List UInt8 := [4, 42, 27, 4, 182, 0, 44, 28, 96, 182, 0, 73, 42, 27, 4, 182, 0, 44, 172]
abbrev dktX6_addRest_3 : List UInt8 := dkwX6_addRest_3 ++ []
def dkwX6_addRest_2 : List UInt8 := [4, 182, 0, 44, 28, 96, 17, 0, 200, 164, 0, 9, 42, 6, 182, 0, 104, 172, 42, 182, 0, 107, 42, 27]
abbrev dktX6_addRest_2 : List UInt8 := dkwX6_addRest_2 ++ dktX6_addRest_3
def dkwX6_addRest_1 : List UInt8 := [184, 0, 29, 154, 0, 9, 42, 5, 182, 0, 104, 172, 42, 27, 3, 182, 0, 44, 4, 159, 0, 17, 42, 27]
abbrev dktX6_addRest_1 : List UInt8 := dkwX6_addRest_1 ++ dktX6_addRest_2
def dkwX6_addRest_0 : List UInt8 := [42, 3, 181, 0, 25, 27, 184, 0, 120, 154, 0, 9, 42, 4, 182, 0, 104, 172, 28, 4, 16, 99]
abbrev dktX6_addRest_0 : List UInt8 := dkwX6_addRest_0 ++ dktX6_addRest_1
theorem dksX6_addRest_0 : cX6_addRest.data.toList.drop 0 = dktX6_addRest_0 := by decide +kernel
theorem dksX6_addRest_1 : cX6_addRest.data.toList.drop 22 = dktX6_addRest_1 := dk_seg dksX6_addRest_0 22 rfl rfl
theorem dksX6_addRest_2 : cX6_addRest.data.toList.drop 46 = dktX6_addRest_2 := dk_seg dksX6_addRest_1 24 rfl rfl
theorem dksX6_addRest_3 : cX6_addRest.data.toList.drop 70 = dktX6_addRest_3 := dk_seg dksX6_addRest_2 24 rfl rfl
theorem dX6_addRest_0 : decode cX6_addRest 0 = .ok (.aload_n 0, 1) := dk_42 (dk_at dksX6_addRest_0 0 rfl rfl)
theorem dX6_addRest_1 : decode cX6_addRest 1 = .ok (.iconst 0, 1) := dk_3 (dk_at dksX6_addRest_0 1 rfl rfl)
theorem dX6_addRest_2 : decode cX6_addRest 2 = .ok (.putfield 25, 3) := dk_181 0 25 (dk_at dksX6_addRest_0 2 rfl rfl)
theorem dX6_addRest_5 : decode cX6_addRest 5 = .ok (.iload_n 1, 1) := dk_27 (dk_at dksX6_addRest_0 5 rfl rfl)
theorem dX6_addRest_6 : decode cX6_addRest 6 = .ok (.invokestatic 120, 3) := dk_184 0 120 (dk_at dksX6_addRest_0 6 rfl rfl)
theorem dX6_addRest_9 : decode cX6_addRest 9 = .ok (.ifCond .ne 9, 3) := dk_154 0 9 (dk_at dksX6_addRest_0 9 rfl rfl)
theorem dX6_addRest_12 : decode cX6_addRest 12 = .ok (.aload_n 0, 1) := dk_42 (dk_at dksX6_addRest_0 12 rfl rfl)
theorem dX6_addRest_13 : decode cX6_addRest 13 = .ok (.iconst 1, 1) := dk_4 (dk_at dksX6_addRest_0 13 rfl rfl)
theorem dX6_addRest_14 : decode cX6_addRest 14 = .ok (.invokevirtual 104, 3) := dk_182 0 104 (dk_at dksX6_addRest_0 14 rfl rfl)
theorem dX6_addRest_17 : decode cX6_addRest 17 = .ok (.ireturn, 1) := dk_172 (dk_at dksX6_addRest_0 17 rfl rfl)
theorem dX6_addRest_18 : decode cX6_addRest 18 = .ok (.iload_n 2, 1) := dk_28 (dk_at dksX6_addRest_0 18 rfl rfl)
theorem dX6_addRest_19 : decode cX6_addRest 19 = .ok (.iconst 1, 1) := dk_4 (dk_at dksX6_addRest_0 19 rfl rfl)
theorem dX6_addRest_20 : decode cX6_addRest 20 = .ok (.bipush 99, 2) := dk_16 99 (dk_at dksX6_addRest_0 20 rfl rfl)
theorem dX6_addRest_22 : decode cX6_addRest 22 = .ok (.invokestatic 29, 3) := dk_184 0 29 (dk_at dksX6_addRest_1 0 rfl rfl)
theorem dX6_addRest_25 : decode cX6_addRest 25 = .ok (.ifCond .ne 9, 3) := dk_154 0 9 (dk_at dksX6_addRest_1 3 rfl rfl)
theorem dX6_addRest_28 : decode cX6_addRest 28 = .ok (.aload_n 0, 1) := dk_42 (dk_at dksX6_addRest_1 6 rfl rfl)
theorem dX6_addRest_29 : decode cX6_addRest 29 = .ok (.iconst 2, 1) := dk_5 (dk_at dksX6_addRest_1 7 rfl rfl)
theorem dX6_addRest_30 : decode cX6_addRest 30 = .ok (.invokevirtual 104, 3) := dk_182 0 104 (dk_at dksX6_addRest_1 8 rfl rfl)
theorem dX6_addRest_33 : decode cX6_addRest 33 = .ok (.ireturn, 1) := dk_172 (dk_at dksX6_addRest_1 11 rfl rfl)
theorem dX6_addRest_34 : decode cX6_addRest 34 = .ok (.aload_n 0, 1) := dk_42 (dk_at dksX6_addRest_1 12 rfl rfl)
theorem dX6_addRest_35 : decode cX6_addRest 35 = .ok (.iload_n 1, 1) := dk_27 (dk_at dksX6_addRest_1 13 rfl rfl)
theorem dX6_addRest_36 : decode cX6_addRest 36 = .ok (.iconst 0, 1) := dk_3 (dk_at dksX6_addRest_1 14 rfl rfl)
theorem dX6_addRest_37 : decode cX6_addRest 37 = .ok (.invokevirtual 44, 3) := dk_182 0 44 (dk_at dksX6_addRest_1 15 rfl rfl)
theorem dX6_addRest_40 : decode cX6_addRest 40 = .ok (.iconst 1, 1) := dk_4 (dk_at dksX6_addRest_1 18 rfl rfl)
theorem dX6_addRest_41 : decode cX6_addRest 41 = .ok (.if_icmp .eq 17, 3) := dk_159 0 17 (dk_at dksX6_addRest_1 19 rfl rfl)
theorem dX6_addRest_44 : decode cX6_addRest 44 = .ok (.aload_n 0, 1) := dk_42 (dk_at dksX6_addRest_1 22 rfl rfl)
theorem dX6_addRest_45 : decode cX6_addRest 45 = .ok (.iload_n 1, 1) := dk_27 (dk_at dksX6_addRest_1 23 rfl rfl)
theorem dX6_addRest_46 : decode cX6_addRest 46 = .ok (.iconst 1, 1) := dk_4 (dk_at dksX6_addRest_2 0 rfl rfl)
theorem dX6_addRest_47 : decode cX6_addRest 47 = .ok (.invokevirtual 44, 3) := dk_182 0 44 (dk_at dksX6_addRest_2 1 rfl rfl)
theorem dX6_addRest_50 : decode cX6_addRest 50 = .ok (.iload_n 2, 1) := dk_28 (dk_at dksX6_addRest_2 4 rfl rfl)
theorem dX6_addRest_51 : decode cX6_addRest 51 = .ok (.iadd, 1) := dk_96 (dk_at dksX6_addRest_2 5 rfl rfl)
theorem dX6_addRest_52 : decode cX6_addRest 52 = .ok (.sipush 200, 3) := dk_17 0 200 (dk_at dksX6_addRest_2 6 rfl rfl)
theorem dX6_addRest_55 : decode cX6_addRest 55 = .ok (.if_icmp .le 9, 3) := dk_164 0 9 (dk_at dksX6_addRest_2 9 rfl rfl)
theorem dX6_addRest_58 : decode cX6_addRest 58 = .ok (.aload_n 0, 1) := dk_42 (dk_at dksX6_addRest_2 12 rfl rfl)
theorem dX6_addRest_59 : decode cX6_addRest 59 = .ok (.iconst 3, 1) := dk_6 (dk_at dksX6_addRest_2 13 rfl rfl)
theorem dX6_addRest_60 : decode cX6_addRest 60 = .ok (.invokevirtual 104, 3) := dk_182 0 104 (dk_at dksX6_addRest_2 14 rfl rfl)
theorem dX6_addRest_63 : decode cX6_addRest 63 = .ok (.ireturn, 1) := dk_172 (dk_at dksX6_addRest_2 17 rfl rfl)
theorem dX6_addRest_64 : decode cX6_addRest 64 = .ok (.aload_n 0, 1) := dk_42 (dk_at dksX6_addRest_2 18 rfl rfl)
theorem dX6_addRest_65 : decode cX6_addRest 65 = .ok (.invokevirtual 107, 3) := dk_182 0 107 (dk_at dksX6_addRest_2 19 rfl rfl)
theorem dX6_addRest_68 : decode cX6_addRest 68 = .ok (.aload_n 0, 1) := dk_42 (dk_at dksX6_addRest_2 22 rfl rfl)
theorem dX6_addRest_69 : decode cX6_addRest 69 = .ok (.iload_n 1, 1) := dk_27 (dk_at dksX6_addRest_2 23 rfl rfl)
theorem dX6_addRest_70 : decode cX6_addRest 70 = .ok (.iconst 1, 1) := dk_4 (dk_at dksX6_addRest_3 0 rfl rfl)
theorem dX6_addRest_71 : decode cX6_addRest 71 = .ok (.aload_n 0, 1) := dk_42 (dk_at dksX6_addRest_3 1 rfl rfl)
theorem dX6_addRest_72 : decode cX6_addRest 72 = .ok (.iload_n 1, 1) := dk_27 (dk_at dksX6_addRest_3 2 rfl rfl)
theorem dX6_addRest_73 : decode cX6_addRest 73 = .ok (.iconst 1, 1) := dk_4 (dk_at dksX6_addRest_3 3 rfl rfl)
theorem dX6_addRest_74 : decode cX6_addRest 74 = .ok (.invokevirtual 44, 3) := dk_182 0 44 (dk_at dksX6_addRest_3 4 rfl rfl)
theorem dX6_addRest_77 : decode cX6_addRest 77 = .ok (.iload_n 2, 1) := dk_28 (dk_at dksX6_addRest_3 7 rfl rfl)
theorem dX6_addRest_78 : decode cX6_addRest 78 = .ok (.iadd, 1) := dk_96 (dk_at dksX6_addRest_3 8 rfl rfl)
theorem dX6_addRest_79 : decode cX6_addRest 79 = .ok (.invokevirtual 73, 3) := dk_182 0 73 (dk_at dksX6_addRest_3 9 rfl rfl)
theorem dX6_addRest_82 : decode cX6_addRest 82 = .ok (.aload_n 0, 1) := dk_42 (dk_at dksX6_addRest_3 12 rfl rfl)
theorem dX6_addRest_83 : decode cX6_addRest 83 = .ok (.iload_n 1, 1) := dk_27 (dk_at dksX6_addRest_3 13 rfl rfl)
theorem dX6_addRest_84 : decode cX6_addRest 84 = .ok (.iconst 1, 1) := dk_4 (dk_at dksX6_addRest_3 14 rfl rfl)
theorem dX6_addRest_85 : decode cX6_addRest 85 = .ok (.invokevirtual 44, 3) := dk_182 0 44 (dk_at dksX6_addRest_3 15 rfl rfl)
theorem dX6_addRest_88 : decode cX6_addRest 88 = .ok (.ireturn, 1) := dk_172 (dk_at dksX6_addRest_3 18 rfl rfl)
abbrev cX6_isPair : ByteArray := prog_13_method_6_code
def yX6_isPair : MethodName := ⟨RX6, "isPair", "(I)Z"⟩
def dkwX6_isPair_0 : List UInt8 := [26, 3, 7, 184, 0, 29, 172]
abbrev dktX6_isPair_0 : List UInt8 := dkwX6_isPair_0 ++ []
theorem dksX6_isPair_0 : cX6_isPair.data.toList.drop 0 = dktX6_isPair_0 := by decide +kernel
theorem dX6_isPair_0 : decode cX6_isPair 0 = .ok (.iload_n 0, 1) := dk_26 (dk_at dksX6_isPair_0 0 rfl rfl)
theorem dX6_isPair_1 : decode cX6_isPair 1 = .ok (.iconst 0, 1) := dk_3 (dk_at dksX6_isPair_0 1 rfl rfl)
theorem dX6_isPair_2 : decode cX6_isPair 2 = .ok (.iconst 4, 1) := dk_7 (dk_at dksX6_isPair_0 2 rfl rfl)
theorem dX6_isPair_3 : decode cX6_isPair 3 = .ok (.invokestatic 29, 3) := dk_184 0 29 (dk_at dksX6_isPair_0 3 rfl rfl)
theorem dX6_isPair_6 : decode cX6_isPair 6 = .ok (.ireturn, 1) := dk_172 (dk_at dksX6_isPair_0 6 rfl rfl)
abbrev cX6_sendToBed : ByteArray := prog_13_method_40_code
def yX6_sendToBed : MethodName := ⟨RX6, "sendToBed", "(I)I"⟩
def dkwX6_sendToBed_1 : List UInt8 := [153, 0, 9, 42, 5, 182, 0, 104, 172, 42, 182, 0, 107, 42, 27, 182, 0, 126, 172]
abbrev dktX6_sendToBed_1 : List UInt8 := dkwX6_sendToBed_1 ++ []
def dkwX6_sendToBed_0 : List UInt8 := [42, 3, 181, 0, 25, 27, 184, 0, 123, 154, 0, 9, 42, 4, 182, 0, 104, 172, 42, 27, 3, 182, 0, 79]
abbrev dktX6_sendToBed_0 : List UInt8 := dkwX6_sendToBed_0 ++ dktX6_sendToBed_1
theorem dksX6_sendToBed_0 : cX6_sendToBed.data.toList.drop 0 = dktX6_sendToBed_0 := by decide +kernel
theorem dksX6_sendToBed_1 : cX6_sendToBed.data.toList.drop 24 = dktX6_sendToBed_1 := dk_seg dksX6_sendToBed_0 24 rfl rfl
theorem dX6_sendToBed_0 : decode cX6_sendToBed 0 = .ok (.aload_n 0, 1) := dk_42 (dk_at dksX6_sendToBed_0 0 rfl rfl)
theorem dX6_sendToBed_1 : decode cX6_sendToBed 1 = .ok (.iconst 0, 1) := dk_3 (dk_at dksX6_sendToBed_0 1 rfl rfl)
theorem dX6_sendToBed_2 : decode cX6_sendToBed 2 = .ok (.putfield 25, 3) := dk_181 0 25 (dk_at dksX6_sendToBed_0 2 rfl rfl)
theorem dX6_sendToBed_5 : decode cX6_sendToBed 5 = .ok (.iload_n 1, 1) := dk_27 (dk_at dksX6_sendToBed_0 5 rfl rfl)
theorem dX6_sendToBed_6 : decode cX6_sendToBed 6 = .ok (.invokestatic 123, 3) := dk_184 0 123 (dk_at dksX6_sendToBed_0 6 rfl rfl)
theorem dX6_sendToBed_9 : decode cX6_sendToBed 9 = .ok (.ifCond .ne 9, 3) := dk_154 0 9 (dk_at dksX6_sendToBed_0 9 rfl rfl)
theorem dX6_sendToBed_12 : decode cX6_sendToBed 12 = .ok (.aload_n 0, 1) := dk_42 (dk_at dksX6_sendToBed_0 12 rfl rfl)
theorem dX6_sendToBed_13 : decode cX6_sendToBed 13 = .ok (.iconst 1, 1) := dk_4 (dk_at dksX6_sendToBed_0 13 rfl rfl)
theorem dX6_sendToBed_14 : decode cX6_sendToBed 14 = .ok (.invokevirtual 104, 3) := dk_182 0 104 (dk_at dksX6_sendToBed_0 14 rfl rfl)
theorem dX6_sendToBed_17 : decode cX6_sendToBed 17 = .ok (.ireturn, 1) := dk_172 (dk_at dksX6_sendToBed_0 17 rfl rfl)
theorem dX6_sendToBed_18 : decode cX6_sendToBed 18 = .ok (.aload_n 0, 1) := dk_42 (dk_at dksX6_sendToBed_0 18 rfl rfl)
theorem dX6_sendToBed_19 : decode cX6_sendToBed 19 = .ok (.iload_n 1, 1) := dk_27 (dk_at dksX6_sendToBed_0 19 rfl rfl)
theorem dX6_sendToBed_20 : decode cX6_sendToBed 20 = .ok (.iconst 0, 1) := dk_3 (dk_at dksX6_sendToBed_0 20 rfl rfl)
theorem dX6_sendToBed_21 : decode cX6_sendToBed 21 = .ok (.invokevirtual 79, 3) := dk_182 0 79 (dk_at dksX6_sendToBed_0 21 rfl rfl)
theorem dX6_sendToBed_24 : decode cX6_sendToBed 24 = .ok (.ifCond .eq 9, 3) := dk_153 0 9 (dk_at dksX6_sendToBed_1 0 rfl rfl)
theorem dX6_sendToBed_27 : decode cX6_sendToBed 27 = .ok (.aload_n 0, 1) := dk_42 (dk_at dksX6_sendToBed_1 3 rfl rfl)
theorem dX6_sendToBed_28 : decode cX6_sendToBed 28 = .ok (.iconst 2, 1) := dk_5 (dk_at dksX6_sendToBed_1 4 rfl rfl)
theorem dX6_sendToBed_29 : decode cX6_sendToBed 29 = .ok (.invokevirtual 104, 3) := dk_182 0 104 (dk_at dksX6_sendToBed_1 5 rfl rfl)
theorem dX6_sendToBed_32 : decode cX6_sendToBed 32 = .ok (.ireturn, 1) := dk_172 (dk_at dksX6_sendToBed_1 8 rfl rfl)
theorem dX6_sendToBed_33 : decode cX6_sendToBed 33 = .ok (.aload_n 0, 1) := dk_42 (dk_at dksX6_sendToBed_1 9 rfl rfl)
theorem dX6_sendToBed_34 : decode cX6_sendToBed 34 = .ok (.invokevirtual 107, 3) := dk_182 0 107 (dk_at dksX6_sendToBed_1 10 rfl rfl)
theorem dX6_sendToBed_37 : decode cX6_sendToBed 37 = .ok (.aload_n 0, 1) := dk_42 (dk_at dksX6_sendToBed_1 13 rfl rfl)
theorem dX6_sendToBed_38 : decode cX6_sendToBed 38 = .ok (.iload_n 1, 1) := dk_27 (dk_at dksX6_sendToBed_1 14 rfl rfl)
theorem dX6_sendToBed_39 : decode cX6_sendToBed 39 = .ok (.invokevirtual 126, 3) := dk_182 0 126 (dk_at dksX6_sendToBed_1 15 rfl rfl)
theorem dX6_sendToBed_42 : decode cX6_sendToBed 42 = .ok (.ireturn, 1) := dk_172 (dk_at dksX6_sendToBed_1 18 rfl rfl)
abbrev cX6_isBoy : ByteArray := prog_13_method_7_code
def yX6_isBoy : MethodName := ⟨RX6, "isBoy", "(I)Z"⟩
def dkwX6_isBoy_0 : List UInt8 := [26, 3, 6, 184, 0, 29, 172]
abbrev dktX6_isBoy_0 : List UInt8 := dkwX6_isBoy_0 ++ []
theorem dksX6_isBoy_0 : cX6_isBoy.data.toList.drop 0 = dktX6_isBoy_0 := by decide +kernel
theorem dX6_isBoy_0 : decode cX6_isBoy 0 = .ok (.iload_n 0, 1) := dk_26 (dk_at dksX6_isBoy_0 0 rfl rfl)
theorem dX6_isBoy_1 : decode cX6_isBoy 1 = .ok (.iconst 0, 1) := dk_3 (dk_at dksX6_isBoy_0 1 rfl rfl)
theorem dX6_isBoy_2 : decode cX6_isBoy 2 = .ok (.iconst 3, 1) := dk_6 (dk_at dksX6_isBoy_0 2 rfl rfl)
theorem dX6_isBoy_3 : decode cX6_isBoy 3 = .ok (.invokestatic 29, 3) := dk_184 0 29 (dk_at dksX6_isBoy_0 3 rfl rfl)
theorem dX6_isBoy_6 : decode cX6_isBoy 6 = .ok (.ireturn, 1) := dk_172 (dk_at dksX6_isBoy_0 6 rfl rfl)
abbrev cX6_beds : ByteArray := prog_13_method_33_code
def yX6_beds : MethodName := ⟨RX6, "beds", "(I)I"⟩
def dkwX6_beds_0 : List UInt8 := [42, 27, 182, 0, 76, 61, 42, 27, 3, 4, 182, 0, 60, 28, 172]
abbrev dktX6_beds_0 : List UInt8 := dkwX6_beds_0 ++ []
theorem dksX6_beds_0 : cX6_beds.data.toList.drop 0 = dktX6_beds_0 := by decide +kernel
theorem dX6_beds_0 : decode cX6_beds 0 = .ok (.aload_n 0, 1) := dk_42 (dk_at dksX6_beds_0 0 rfl rfl)
theorem dX6_beds_1 : decode cX6_beds 1 = .ok (.iload_n 1, 1) := dk_27 (dk_at dksX6_beds_0 1 rfl rfl)
theorem dX6_beds_2 : decode cX6_beds 2 = .ok (.invokevirtual 76, 3) := dk_182 0 76 (dk_at dksX6_beds_0 2 rfl rfl)
theorem dX6_beds_5 : decode cX6_beds 5 = .ok (.istore_n 2, 1) := dk_61 (dk_at dksX6_beds_0 5 rfl rfl)
theorem dX6_beds_6 : decode cX6_beds 6 = .ok (.aload_n 0, 1) := dk_42 (dk_at dksX6_beds_0 6 rfl rfl)
theorem dX6_beds_7 : decode cX6_beds 7 = .ok (.iload_n 1, 1) := dk_27 (dk_at dksX6_beds_0 7 rfl rfl)
theorem dX6_beds_8 : decode cX6_beds 8 = .ok (.iconst 0, 1) := dk_3 (dk_at dksX6_beds_0 8 rfl rfl)
theorem dX6_beds_9 : decode cX6_beds 9 = .ok (.iconst 1, 1) := dk_4 (dk_at dksX6_beds_0 9 rfl rfl)
theorem dX6_beds_10 : decode cX6_beds 10 = .ok (.invokevirtual 60, 3) := dk_182 0 60 (dk_at dksX6_beds_0 10 rfl rfl)
theorem dX6_beds_13 : decode cX6_beds 13 = .ok (.iload_n 2, 1) := dk_28 (dk_at dksX6_beds_0 13 rfl rfl)
theorem dX6_beds_14 : decode cX6_beds 14 = .ok (.ireturn, 1) := dk_172 (dk_at dksX6_beds_0 14 rfl rfl)
abbrev cX6_callBoy : ByteArray := prog_13_method_41_code
def yX6_callBoy : MethodName := ⟨RX6, "callBoy", "(I)I"⟩
def dkwX6_callBoy_1 : List UInt8 := [4, 159, 0, 9, 42, 5, 182, 0, 104, 172, 42, 182, 0, 107, 42, 27, 182, 0, 129, 172]
abbrev dktX6_callBoy_1 : List UInt8 := dkwX6_callBoy_1 ++ []
def dkwX6_callBoy_0 : List UInt8 := [42, 3, 181, 0, 25, 27, 184, 0, 123, 154, 0, 9, 42, 4, 182, 0, 104, 172, 42, 27, 3, 182, 0, 79]
abbrev dktX6_callBoy_0 : List UInt8 := dkwX6_callBoy_0 ++ dktX6_callBoy_1
theorem dksX6_callBoy_0 : cX6_callBoy.data.toList.drop 0 = dktX6_callBoy_0 := by decide +kernel
theorem dksX6_callBoy_1 : cX6_callBoy.data.toList.drop 24 = dktX6_callBoy_1 := dk_seg dksX6_callBoy_0 24 rfl rfl
theorem dX6_callBoy_0 : decode cX6_callBoy 0 = .ok (.aload_n 0, 1) := dk_42 (dk_at dksX6_callBoy_0 0 rfl rfl)
theorem dX6_callBoy_1 : decode cX6_callBoy 1 = .ok (.iconst 0, 1) := dk_3 (dk_at dksX6_callBoy_0 1 rfl rfl)
theorem dX6_callBoy_2 : decode cX6_callBoy 2 = .ok (.putfield 25, 3) := dk_181 0 25 (dk_at dksX6_callBoy_0 2 rfl rfl)
theorem dX6_callBoy_5 : decode cX6_callBoy 5 = .ok (.iload_n 1, 1) := dk_27 (dk_at dksX6_callBoy_0 5 rfl rfl)
theorem dX6_callBoy_6 : decode cX6_callBoy 6 = .ok (.invokestatic 123, 3) := dk_184 0 123 (dk_at dksX6_callBoy_0 6 rfl rfl)
theorem dX6_callBoy_9 : decode cX6_callBoy 9 = .ok (.ifCond .ne 9, 3) := dk_154 0 9 (dk_at dksX6_callBoy_0 9 rfl rfl)
theorem dX6_callBoy_12 : decode cX6_callBoy 12 = .ok (.aload_n 0, 1) := dk_42 (dk_at dksX6_callBoy_0 12 rfl rfl)
theorem dX6_callBoy_13 : decode cX6_callBoy 13 = .ok (.iconst 1, 1) := dk_4 (dk_at dksX6_callBoy_0 13 rfl rfl)
theorem dX6_callBoy_14 : decode cX6_callBoy 14 = .ok (.invokevirtual 104, 3) := dk_182 0 104 (dk_at dksX6_callBoy_0 14 rfl rfl)
theorem dX6_callBoy_17 : decode cX6_callBoy 17 = .ok (.ireturn, 1) := dk_172 (dk_at dksX6_callBoy_0 17 rfl rfl)
theorem dX6_callBoy_18 : decode cX6_callBoy 18 = .ok (.aload_n 0, 1) := dk_42 (dk_at dksX6_callBoy_0 18 rfl rfl)
theorem dX6_callBoy_19 : decode cX6_callBoy 19 = .ok (.iload_n 1, 1) := dk_27 (dk_at dksX6_callBoy_0 19 rfl rfl)
theorem dX6_callBoy_20 : decode cX6_callBoy 20 = .ok (.iconst 0, 1) := dk_3 (dk_at dksX6_callBoy_0 20 rfl rfl)
theorem dX6_callBoy_21 : decode cX6_callBoy 21 = .ok (.invokevirtual 79, 3) := dk_182 0 79 (dk_at dksX6_callBoy_0 21 rfl rfl)
theorem dX6_callBoy_24 : decode cX6_callBoy 24 = .ok (.iconst 1, 1) := dk_4 (dk_at dksX6_callBoy_1 0 rfl rfl)
theorem dX6_callBoy_25 : decode cX6_callBoy 25 = .ok (.if_icmp .eq 9, 3) := dk_159 0 9 (dk_at dksX6_callBoy_1 1 rfl rfl)
theorem dX6_callBoy_28 : decode cX6_callBoy 28 = .ok (.aload_n 0, 1) := dk_42 (dk_at dksX6_callBoy_1 4 rfl rfl)
theorem dX6_callBoy_29 : decode cX6_callBoy 29 = .ok (.iconst 2, 1) := dk_5 (dk_at dksX6_callBoy_1 5 rfl rfl)
theorem dX6_callBoy_30 : decode cX6_callBoy 30 = .ok (.invokevirtual 104, 3) := dk_182 0 104 (dk_at dksX6_callBoy_1 6 rfl rfl)
theorem dX6_callBoy_33 : decode cX6_callBoy 33 = .ok (.ireturn, 1) := dk_172 (dk_at dksX6_callBoy_1 9 rfl rfl)
theorem dX6_callBoy_34 : decode cX6_callBoy 34 = .ok (.aload_n 0, 1) := dk_42 (dk_at dksX6_callBoy_1 10 rfl rfl)
theorem dX6_callBoy_35 : decode cX6_callBoy 35 = .ok (.invokevirtual 107, 3) := dk_182 0 107 (dk_at dksX6_callBoy_1 11 rfl rfl)
theorem dX6_callBoy_38 : decode cX6_callBoy 38 = .ok (.aload_n 0, 1) := dk_42 (dk_at dksX6_callBoy_1 14 rfl rfl)
theorem dX6_callBoy_39 : decode cX6_callBoy 39 = .ok (.iload_n 1, 1) := dk_27 (dk_at dksX6_callBoy_1 15 rfl rfl)
theorem dX6_callBoy_40 : decode cX6_callBoy 40 = .ok (.invokevirtual 129, 3) := dk_182 0 129 (dk_at dksX6_callBoy_1 16 rfl rfl)
theorem dX6_callBoy_43 : decode cX6_callBoy 43 = .ok (.ireturn, 1) := dk_172 (dk_at dksX6_callBoy_1 19 rfl rfl)
abbrev cX6_calls : ByteArray := prog_13_method_34_code
def yX6_calls : MethodName := ⟨RX6, "calls", "(I)I"⟩
def dkwX6_calls_0 : List UInt8 := [42, 27, 182, 0, 85, 42, 180, 0, 7, 7, 46, 172]
abbrev dktX6_calls_0 : List UInt8 := dkwX6_calls_0 ++ []
theorem dksX6_calls_0 : cX6_calls.data.toList.drop 0 = dktX6_calls_0 := by decide +kernel
theorem dX6_calls_0 : decode cX6_calls 0 = .ok (.aload_n 0, 1) := dk_42 (dk_at dksX6_calls_0 0 rfl rfl)
theorem dX6_calls_1 : decode cX6_calls 1 = .ok (.iload_n 1, 1) := dk_27 (dk_at dksX6_calls_0 1 rfl rfl)
theorem dX6_calls_2 : decode cX6_calls 2 = .ok (.invokevirtual 85, 3) := dk_182 0 85 (dk_at dksX6_calls_0 2 rfl rfl)
theorem dX6_calls_5 : decode cX6_calls 5 = .ok (.aload_n 0, 1) := dk_42 (dk_at dksX6_calls_0 5 rfl rfl)
theorem dX6_calls_6 : decode cX6_calls 6 = .ok (.getfield 7, 3) := dk_180 0 7 (dk_at dksX6_calls_0 6 rfl rfl)
theorem dX6_calls_9 : decode cX6_calls 9 = .ok (.iconst 4, 1) := dk_7 (dk_at dksX6_calls_0 9 rfl rfl)
theorem dX6_calls_10 : decode cX6_calls 10 = .ok (.iaload, 1) := dk_46 (dk_at dksX6_calls_0 10 rfl rfl)
theorem dX6_calls_11 : decode cX6_calls 11 = .ok (.ireturn, 1) := dk_172 (dk_at dksX6_calls_0 11 rfl rfl)
abbrev cX6_putOnPole : ByteArray := prog_13_method_42_code
def yX6_putOnPole : MethodName := ⟨RX6, "putOnPole", "(I)I"⟩
def dkwX6_putOnPole_1 : List UInt8 := [4, 160, 0, 9, 42, 5, 182, 0, 104, 172, 42, 182, 0, 107, 42, 27, 182, 0, 135, 172]
abbrev dktX6_putOnPole_1 : List UInt8 := dkwX6_putOnPole_1 ++ []
def dkwX6_putOnPole_0 : List UInt8 := [42, 3, 181, 0, 25, 27, 184, 0, 132, 154, 0, 9, 42, 4, 182, 0, 104, 172, 42, 27, 3, 182, 0, 47]
abbrev dktX6_putOnPole_0 : List UInt8 := dkwX6_putOnPole_0 ++ dktX6_putOnPole_1
theorem dksX6_putOnPole_0 : cX6_putOnPole.data.toList.drop 0 = dktX6_putOnPole_0 := by decide +kernel
theorem dksX6_putOnPole_1 : cX6_putOnPole.data.toList.drop 24 = dktX6_putOnPole_1 := dk_seg dksX6_putOnPole_0 24 rfl rfl
theorem dX6_putOnPole_0 : decode cX6_putOnPole 0 = .ok (.aload_n 0, 1) := dk_42 (dk_at dksX6_putOnPole_0 0 rfl rfl)
theorem dX6_putOnPole_1 : decode cX6_putOnPole 1 = .ok (.iconst 0, 1) := dk_3 (dk_at dksX6_putOnPole_0 1 rfl rfl)
theorem dX6_putOnPole_2 : decode cX6_putOnPole 2 = .ok (.putfield 25, 3) := dk_181 0 25 (dk_at dksX6_putOnPole_0 2 rfl rfl)
theorem dX6_putOnPole_5 : decode cX6_putOnPole 5 = .ok (.iload_n 1, 1) := dk_27 (dk_at dksX6_putOnPole_0 5 rfl rfl)
theorem dX6_putOnPole_6 : decode cX6_putOnPole 6 = .ok (.invokestatic 132, 3) := dk_184 0 132 (dk_at dksX6_putOnPole_0 6 rfl rfl)
theorem dX6_putOnPole_9 : decode cX6_putOnPole 9 = .ok (.ifCond .ne 9, 3) := dk_154 0 9 (dk_at dksX6_putOnPole_0 9 rfl rfl)
theorem dX6_putOnPole_12 : decode cX6_putOnPole 12 = .ok (.aload_n 0, 1) := dk_42 (dk_at dksX6_putOnPole_0 12 rfl rfl)
theorem dX6_putOnPole_13 : decode cX6_putOnPole 13 = .ok (.iconst 1, 1) := dk_4 (dk_at dksX6_putOnPole_0 13 rfl rfl)
theorem dX6_putOnPole_14 : decode cX6_putOnPole 14 = .ok (.invokevirtual 104, 3) := dk_182 0 104 (dk_at dksX6_putOnPole_0 14 rfl rfl)
theorem dX6_putOnPole_17 : decode cX6_putOnPole 17 = .ok (.ireturn, 1) := dk_172 (dk_at dksX6_putOnPole_0 17 rfl rfl)
theorem dX6_putOnPole_18 : decode cX6_putOnPole 18 = .ok (.aload_n 0, 1) := dk_42 (dk_at dksX6_putOnPole_0 18 rfl rfl)
theorem dX6_putOnPole_19 : decode cX6_putOnPole 19 = .ok (.iload_n 1, 1) := dk_27 (dk_at dksX6_putOnPole_0 19 rfl rfl)
theorem dX6_putOnPole_20 : decode cX6_putOnPole 20 = .ok (.iconst 0, 1) := dk_3 (dk_at dksX6_putOnPole_0 20 rfl rfl)
theorem dX6_putOnPole_21 : decode cX6_putOnPole 21 = .ok (.invokevirtual 47, 3) := dk_182 0 47 (dk_at dksX6_putOnPole_0 21 rfl rfl)
theorem dX6_putOnPole_24 : decode cX6_putOnPole 24 = .ok (.iconst 1, 1) := dk_4 (dk_at dksX6_putOnPole_1 0 rfl rfl)
theorem dX6_putOnPole_25 : decode cX6_putOnPole 25 = .ok (.if_icmp .ne 9, 3) := dk_160 0 9 (dk_at dksX6_putOnPole_1 1 rfl rfl)
theorem dX6_putOnPole_28 : decode cX6_putOnPole 28 = .ok (.aload_n 0, 1) := dk_42 (dk_at dksX6_putOnPole_1 4 rfl rfl)
theorem dX6_putOnPole_29 : decode cX6_putOnPole 29 = .ok (.iconst 2, 1) := dk_5 (dk_at dksX6_putOnPole_1 5 rfl rfl)
theorem dX6_putOnPole_30 : decode cX6_putOnPole 30 = .ok (.invokevirtual 104, 3) := dk_182 0 104 (dk_at dksX6_putOnPole_1 6 rfl rfl)
theorem dX6_putOnPole_33 : decode cX6_putOnPole 33 = .ok (.ireturn, 1) := dk_172 (dk_at dksX6_putOnPole_1 9 rfl rfl)
theorem dX6_putOnPole_34 : decode cX6_putOnPole 34 = .ok (.aload_n 0, 1) := dk_42 (dk_at dksX6_putOnPole_1 10 rfl rfl)
theorem dX6_putOnPole_35 : decode cX6_putOnPole 35 = .ok (.invokevirtual 107, 3) := dk_182 0 107 (dk_at dksX6_putOnPole_1 11 rfl rfl)
theorem dX6_putOnPole_38 : decode cX6_putOnPole 38 = .ok (.aload_n 0, 1) := dk_42 (dk_at dksX6_putOnPole_1 14 rfl rfl)
theorem dX6_putOnPole_39 : decode cX6_putOnPole 39 = .ok (.iload_n 1, 1) := dk_27 (dk_at dksX6_putOnPole_1 15 rfl rfl)
theorem dX6_putOnPole_40 : decode cX6_putOnPole 40 = .ok (.invokevirtual 135, 3) := dk_182 0 135 (dk_at dksX6_putOnPole_1 16 rfl rfl)
theorem dX6_putOnPole_43 : decode cX6_putOnPole 43 = .ok (.ireturn, 1) := dk_172 (dk_at dksX6_putOnPole_1 19 rfl rfl)
abbrev cX6_isChaise : ByteArray := prog_13_method_8_code
def yX6_isChaise : MethodName := ⟨RX6, "isChaise", "(I)Z"⟩
def dkwX6_isChaise_0 : List UInt8 := [26, 3, 5, 184, 0, 29, 172]
abbrev dktX6_isChaise_0 : List UInt8 := dkwX6_isChaise_0 ++ []
theorem dksX6_isChaise_0 : cX6_isChaise.data.toList.drop 0 = dktX6_isChaise_0 := by decide +kernel
theorem dX6_isChaise_0 : decode cX6_isChaise 0 = .ok (.iload_n 0, 1) := dk_26 (dk_at dksX6_isChaise_0 0 rfl rfl)
theorem dX6_isChaise_1 : decode cX6_isChaise 1 = .ok (.iconst 0, 1) := dk_3 (dk_at dksX6_isChaise_0 1 rfl rfl)
theorem dX6_isChaise_2 : decode cX6_isChaise 2 = .ok (.iconst 2, 1) := dk_5 (dk_at dksX6_isChaise_0 2 rfl rfl)
theorem dX6_isChaise_3 : decode cX6_isChaise 3 = .ok (.invokestatic 29, 3) := dk_184 0 29 (dk_at dksX6_isChaise_0 3 rfl rfl)
theorem dX6_isChaise_6 : decode cX6_isChaise 6 = .ok (.ireturn, 1) := dk_172 (dk_at dksX6_isChaise_0 6 rfl rfl)
abbrev cX6_poles : ByteArray := prog_13_method_35_code
def yX6_poles : MethodName := ⟨RX6, "poles", "(I)I"⟩
def dkwX6_poles_2 : List UInt8 := [180, 0, 7, 16, 9, 2, 79, 42, 180, 0, 7, 16, 10, 3, 79, 28, 172]
abbrev dktX6_poles_2 : List UInt8 := dkwX6_poles_2 ++ []
def dkwX6_poles_1 : List UInt8 := [180, 0, 7, 16, 15, 92, 46, 16, 90, 96, 79, 42, 180, 0, 7, 16, 9, 46, 27, 160, 0, 19, 42]
abbrev dktX6_poles_1 : List UInt8 := dkwX6_poles_1 ++ dktX6_poles_2
def dkwX6_poles_0 : List UInt8 := [42, 27, 4, 182, 0, 47, 61, 42, 27, 4, 3, 182, 0, 82, 42, 27, 5, 3, 182, 0, 82, 42]
abbrev dktX6_poles_0 : List UInt8 := dkwX6_poles_0 ++ dktX6_poles_1
theorem dksX6_poles_0 : cX6_poles.data.toList.drop 0 = dktX6_poles_0 := by decide +kernel
theorem dksX6_poles_1 : cX6_poles.data.toList.drop 22 = dktX6_poles_1 := dk_seg dksX6_poles_0 22 rfl rfl
theorem dksX6_poles_2 : cX6_poles.data.toList.drop 45 = dktX6_poles_2 := dk_seg dksX6_poles_1 23 rfl rfl
theorem dX6_poles_0 : decode cX6_poles 0 = .ok (.aload_n 0, 1) := dk_42 (dk_at dksX6_poles_0 0 rfl rfl)
theorem dX6_poles_1 : decode cX6_poles 1 = .ok (.iload_n 1, 1) := dk_27 (dk_at dksX6_poles_0 1 rfl rfl)
theorem dX6_poles_2 : decode cX6_poles 2 = .ok (.iconst 1, 1) := dk_4 (dk_at dksX6_poles_0 2 rfl rfl)
theorem dX6_poles_3 : decode cX6_poles 3 = .ok (.invokevirtual 47, 3) := dk_182 0 47 (dk_at dksX6_poles_0 3 rfl rfl)
theorem dX6_poles_6 : decode cX6_poles 6 = .ok (.istore_n 2, 1) := dk_61 (dk_at dksX6_poles_0 6 rfl rfl)
theorem dX6_poles_7 : decode cX6_poles 7 = .ok (.aload_n 0, 1) := dk_42 (dk_at dksX6_poles_0 7 rfl rfl)
theorem dX6_poles_8 : decode cX6_poles 8 = .ok (.iload_n 1, 1) := dk_27 (dk_at dksX6_poles_0 8 rfl rfl)
theorem dX6_poles_9 : decode cX6_poles 9 = .ok (.iconst 1, 1) := dk_4 (dk_at dksX6_poles_0 9 rfl rfl)
theorem dX6_poles_10 : decode cX6_poles 10 = .ok (.iconst 0, 1) := dk_3 (dk_at dksX6_poles_0 10 rfl rfl)
theorem dX6_poles_11 : decode cX6_poles 11 = .ok (.invokevirtual 82, 3) := dk_182 0 82 (dk_at dksX6_poles_0 11 rfl rfl)
theorem dX6_poles_14 : decode cX6_poles 14 = .ok (.aload_n 0, 1) := dk_42 (dk_at dksX6_poles_0 14 rfl rfl)
theorem dX6_poles_15 : decode cX6_poles 15 = .ok (.iload_n 1, 1) := dk_27 (dk_at dksX6_poles_0 15 rfl rfl)
theorem dX6_poles_16 : decode cX6_poles 16 = .ok (.iconst 2, 1) := dk_5 (dk_at dksX6_poles_0 16 rfl rfl)
theorem dX6_poles_17 : decode cX6_poles 17 = .ok (.iconst 0, 1) := dk_3 (dk_at dksX6_poles_0 17 rfl rfl)
theorem dX6_poles_18 : decode cX6_poles 18 = .ok (.invokevirtual 82, 3) := dk_182 0 82 (dk_at dksX6_poles_0 18 rfl rfl)
theorem dX6_poles_21 : decode cX6_poles 21 = .ok (.aload_n 0, 1) := dk_42 (dk_at dksX6_poles_0 21 rfl rfl)
theorem dX6_poles_22 : decode cX6_poles 22 = .ok (.getfield 7, 3) := dk_180 0 7 (dk_at dksX6_poles_1 0 rfl rfl)
theorem dX6_poles_25 : decode cX6_poles 25 = .ok (.bipush 15, 2) := dk_16 15 (dk_at dksX6_poles_1 3 rfl rfl)
theorem dX6_poles_27 : decode cX6_poles 27 = .ok (.dup2, 1) := dk_92 (dk_at dksX6_poles_1 5 rfl rfl)
theorem dX6_poles_28 : decode cX6_poles 28 = .ok (.iaload, 1) := dk_46 (dk_at dksX6_poles_1 6 rfl rfl)
theorem dX6_poles_29 : decode cX6_poles 29 = .ok (.bipush 90, 2) := dk_16 90 (dk_at dksX6_poles_1 7 rfl rfl)
theorem dX6_poles_31 : decode cX6_poles 31 = .ok (.iadd, 1) := dk_96 (dk_at dksX6_poles_1 9 rfl rfl)
theorem dX6_poles_32 : decode cX6_poles 32 = .ok (.iastore, 1) := dk_79 (dk_at dksX6_poles_1 10 rfl rfl)
theorem dX6_poles_33 : decode cX6_poles 33 = .ok (.aload_n 0, 1) := dk_42 (dk_at dksX6_poles_1 11 rfl rfl)
theorem dX6_poles_34 : decode cX6_poles 34 = .ok (.getfield 7, 3) := dk_180 0 7 (dk_at dksX6_poles_1 12 rfl rfl)
theorem dX6_poles_37 : decode cX6_poles 37 = .ok (.bipush 9, 2) := dk_16 9 (dk_at dksX6_poles_1 15 rfl rfl)
theorem dX6_poles_39 : decode cX6_poles 39 = .ok (.iaload, 1) := dk_46 (dk_at dksX6_poles_1 17 rfl rfl)
theorem dX6_poles_40 : decode cX6_poles 40 = .ok (.iload_n 1, 1) := dk_27 (dk_at dksX6_poles_1 18 rfl rfl)
theorem dX6_poles_41 : decode cX6_poles 41 = .ok (.if_icmp .ne 19, 3) := dk_160 0 19 (dk_at dksX6_poles_1 19 rfl rfl)
theorem dX6_poles_44 : decode cX6_poles 44 = .ok (.aload_n 0, 1) := dk_42 (dk_at dksX6_poles_1 22 rfl rfl)
theorem dX6_poles_45 : decode cX6_poles 45 = .ok (.getfield 7, 3) := dk_180 0 7 (dk_at dksX6_poles_2 0 rfl rfl)
theorem dX6_poles_48 : decode cX6_poles 48 = .ok (.bipush 9, 2) := dk_16 9 (dk_at dksX6_poles_2 3 rfl rfl)
theorem dX6_poles_50 : decode cX6_poles 50 = .ok (.iconst (-1), 1) := dk_2 (dk_at dksX6_poles_2 5 rfl rfl)
theorem dX6_poles_51 : decode cX6_poles 51 = .ok (.iastore, 1) := dk_79 (dk_at dksX6_poles_2 6 rfl rfl)
theorem dX6_poles_52 : decode cX6_poles 52 = .ok (.aload_n 0, 1) := dk_42 (dk_at dksX6_poles_2 7 rfl rfl)
theorem dX6_poles_53 : decode cX6_poles 53 = .ok (.getfield 7, 3) := dk_180 0 7 (dk_at dksX6_poles_2 8 rfl rfl)
theorem dX6_poles_56 : decode cX6_poles 56 = .ok (.bipush 10, 2) := dk_16 10 (dk_at dksX6_poles_2 11 rfl rfl)
theorem dX6_poles_58 : decode cX6_poles 58 = .ok (.iconst 0, 1) := dk_3 (dk_at dksX6_poles_2 13 rfl rfl)
theorem dX6_poles_59 : decode cX6_poles 59 = .ok (.iastore, 1) := dk_79 (dk_at dksX6_poles_2 14 rfl rfl)
theorem dX6_poles_60 : decode cX6_poles 60 = .ok (.iload_n 2, 1) := dk_28 (dk_at dksX6_poles_2 15 rfl rfl)
theorem dX6_poles_61 : decode cX6_poles 61 = .ok (.ireturn, 1) := dk_172 (dk_at dksX6_poles_2 16 rfl rfl)
abbrev cX6_setPace : ByteArray := prog_13_method_44_code
def yX6_setPace : MethodName := ⟨RX6, "setPace", "(I)I"⟩
def dkwX6_setPace_0 : List UInt8 := [42, 4, 27, 5, 8, 182, 0, 138, 172]
abbrev dktX6_setPace_0 : List UInt8 := dkwX6_setPace_0 ++ []
theorem dksX6_setPace_0 : cX6_setPace.data.toList.drop 0 = dktX6_setPace_0 := by decide +kernel
theorem dX6_setPace_0 : decode cX6_setPace 0 = .ok (.aload_n 0, 1) := dk_42 (dk_at dksX6_setPace_0 0 rfl rfl)
theorem dX6_setPace_1 : decode cX6_setPace 1 = .ok (.iconst 1, 1) := dk_4 (dk_at dksX6_setPace_0 1 rfl rfl)
theorem dX6_setPace_2 : decode cX6_setPace 2 = .ok (.iload_n 1, 1) := dk_27 (dk_at dksX6_setPace_0 2 rfl rfl)
theorem dX6_setPace_3 : decode cX6_setPace 3 = .ok (.iconst 2, 1) := dk_5 (dk_at dksX6_setPace_0 3 rfl rfl)
theorem dX6_setPace_4 : decode cX6_setPace 4 = .ok (.iconst 5, 1) := dk_8 (dk_at dksX6_setPace_0 4 rfl rfl)
theorem dX6_setPace_5 : decode cX6_setPace 5 = .ok (.invokevirtual 138, 3) := dk_182 0 138 (dk_at dksX6_setPace_0 5 rfl rfl)
theorem dX6_setPace_8 : decode cX6_setPace 8 = .ok (.ireturn, 1) := dk_172 (dk_at dksX6_setPace_0 8 rfl rfl)
abbrev cX6_sets : ByteArray := prog_13_method_43_code
def yX6_sets : MethodName := ⟨RX6, "sets", "(IIII)I"⟩
def dkwX6_sets_1 : List UInt8 := [182, 0, 107, 42, 180, 0, 7, 27, 46, 54, 5, 42, 180, 0, 7, 27, 28, 79, 21, 5, 172]
abbrev dktX6_sets_1 : List UInt8 := dkwX6_sets_1 ++ []
def dkwX6_sets_0 : List UInt8 := [42, 3, 181, 0, 25, 28, 29, 21, 4, 184, 0, 29, 154, 0, 9, 42, 4, 182, 0, 104, 172, 42]
abbrev dktX6_sets_0 : List UInt8 := dkwX6_sets_0 ++ dktX6_sets_1
theorem dksX6_sets_0 : cX6_sets.data.toList.drop 0 = dktX6_sets_0 := by decide +kernel
theorem dksX6_sets_1 : cX6_sets.data.toList.drop 22 = dktX6_sets_1 := dk_seg dksX6_sets_0 22 rfl rfl
theorem dX6_sets_0 : decode cX6_sets 0 = .ok (.aload_n 0, 1) := dk_42 (dk_at dksX6_sets_0 0 rfl rfl)
theorem dX6_sets_1 : decode cX6_sets 1 = .ok (.iconst 0, 1) := dk_3 (dk_at dksX6_sets_0 1 rfl rfl)
theorem dX6_sets_2 : decode cX6_sets 2 = .ok (.putfield 25, 3) := dk_181 0 25 (dk_at dksX6_sets_0 2 rfl rfl)
theorem dX6_sets_5 : decode cX6_sets 5 = .ok (.iload_n 2, 1) := dk_28 (dk_at dksX6_sets_0 5 rfl rfl)
theorem dX6_sets_6 : decode cX6_sets 6 = .ok (.iload_n 3, 1) := dk_29 (dk_at dksX6_sets_0 6 rfl rfl)
theorem dX6_sets_7 : decode cX6_sets 7 = .ok (.iload 4, 2) := dk_21 4 (dk_at dksX6_sets_0 7 rfl rfl)
theorem dX6_sets_9 : decode cX6_sets 9 = .ok (.invokestatic 29, 3) := dk_184 0 29 (dk_at dksX6_sets_0 9 rfl rfl)
theorem dX6_sets_12 : decode cX6_sets 12 = .ok (.ifCond .ne 9, 3) := dk_154 0 9 (dk_at dksX6_sets_0 12 rfl rfl)
theorem dX6_sets_15 : decode cX6_sets 15 = .ok (.aload_n 0, 1) := dk_42 (dk_at dksX6_sets_0 15 rfl rfl)
theorem dX6_sets_16 : decode cX6_sets 16 = .ok (.iconst 1, 1) := dk_4 (dk_at dksX6_sets_0 16 rfl rfl)
theorem dX6_sets_17 : decode cX6_sets 17 = .ok (.invokevirtual 104, 3) := dk_182 0 104 (dk_at dksX6_sets_0 17 rfl rfl)
theorem dX6_sets_20 : decode cX6_sets 20 = .ok (.ireturn, 1) := dk_172 (dk_at dksX6_sets_0 20 rfl rfl)
theorem dX6_sets_21 : decode cX6_sets 21 = .ok (.aload_n 0, 1) := dk_42 (dk_at dksX6_sets_0 21 rfl rfl)
theorem dX6_sets_22 : decode cX6_sets 22 = .ok (.invokevirtual 107, 3) := dk_182 0 107 (dk_at dksX6_sets_1 0 rfl rfl)
theorem dX6_sets_25 : decode cX6_sets 25 = .ok (.aload_n 0, 1) := dk_42 (dk_at dksX6_sets_1 3 rfl rfl)
theorem dX6_sets_26 : decode cX6_sets 26 = .ok (.getfield 7, 3) := dk_180 0 7 (dk_at dksX6_sets_1 4 rfl rfl)
theorem dX6_sets_29 : decode cX6_sets 29 = .ok (.iload_n 1, 1) := dk_27 (dk_at dksX6_sets_1 7 rfl rfl)
theorem dX6_sets_30 : decode cX6_sets 30 = .ok (.iaload, 1) := dk_46 (dk_at dksX6_sets_1 8 rfl rfl)
theorem dX6_sets_31 : decode cX6_sets 31 = .ok (.istore 5, 2) := dk_54 5 (dk_at dksX6_sets_1 9 rfl rfl)
theorem dX6_sets_33 : decode cX6_sets 33 = .ok (.aload_n 0, 1) := dk_42 (dk_at dksX6_sets_1 11 rfl rfl)
theorem dX6_sets_34 : decode cX6_sets 34 = .ok (.getfield 7, 3) := dk_180 0 7 (dk_at dksX6_sets_1 12 rfl rfl)
theorem dX6_sets_37 : decode cX6_sets 37 = .ok (.iload_n 1, 1) := dk_27 (dk_at dksX6_sets_1 15 rfl rfl)
theorem dX6_sets_38 : decode cX6_sets 38 = .ok (.iload_n 2, 1) := dk_28 (dk_at dksX6_sets_1 16 rfl rfl)
theorem dX6_sets_39 : decode cX6_sets 39 = .ok (.iastore, 1) := dk_79 (dk_at dksX6_sets_1 17 rfl rfl)
theorem dX6_sets_40 : decode cX6_sets 40 = .ok (.iload 5, 2) := dk_21 5 (dk_at dksX6_sets_1 18 rfl rfl)
theorem dX6_sets_42 : decode cX6_sets 42 = .ok (.ireturn, 1) := dk_172 (dk_at dksX6_sets_1 20 rfl rfl)
abbrev cX6_setPoleLimit : ByteArray := prog_13_method_45_code
def yX6_setPoleLimit : MethodName := ⟨RX6, "setPoleLimit", "(I)I"⟩
def dkwX6_setPoleLimit_0 : List UInt8 := [42, 5, 27, 16, 20, 17, 0, 200, 182, 0, 138, 172]
abbrev dktX6_setPoleLimit_0 : List UInt8 := dkwX6_setPoleLimit_0 ++ []
theorem dksX6_setPoleLimit_0 : cX6_setPoleLimit.data.toList.drop 0 = dktX6_setPoleLimit_0 := by decide +kernel
theorem dX6_setPoleLimit_0 : decode cX6_setPoleLimit 0 = .ok (.aload_n 0, 1) := dk_42 (dk_at dksX6_setPoleLimit_0 0 rfl rfl)
theorem dX6_setPoleLimit_1 : decode cX6_setPoleLimit 1 = .ok (.iconst 2, 1) := dk_5 (dk_at dksX6_setPoleLimit_0 1 rfl rfl)
theorem dX6_setPoleLimit_2 : decode cX6_setPoleLimit 2 = .ok (.iload_n 1, 1) := dk_27 (dk_at dksX6_setPoleLimit_0 2 rfl rfl)
theorem dX6_setPoleLimit_3 : decode cX6_setPoleLimit 3 = .ok (.bipush 20, 2) := dk_16 20 (dk_at dksX6_setPoleLimit_0 3 rfl rfl)
theorem dX6_setPoleLimit_5 : decode cX6_setPoleLimit 5 = .ok (.sipush 200, 3) := dk_17 0 200 (dk_at dksX6_setPoleLimit_0 5 rfl rfl)
theorem dX6_setPoleLimit_8 : decode cX6_setPoleLimit 8 = .ok (.invokevirtual 138, 3) := dk_182 0 138 (dk_at dksX6_setPoleLimit_0 8 rfl rfl)
theorem dX6_setPoleLimit_11 : decode cX6_setPoleLimit 11 = .ok (.ireturn, 1) := dk_172 (dk_at dksX6_setPoleLimit_0 11 rfl rfl)
abbrev cX6_time : ByteArray := prog_13_method_46_code
def yX6_time : MethodName := ⟨RX6, "time", "()I"⟩
def dkwX6_time_0 : List UInt8 := [42, 3, 181, 0, 25, 42, 180, 0, 7, 3, 46, 172]
abbrev dktX6_time_0 : List UInt8 := dkwX6_time_0 ++ []
theorem dksX6_time_0 : cX6_time.data.toList.drop 0 = dktX6_time_0 := by decide +kernel
theorem dX6_time_0 : decode cX6_time 0 = .ok (.aload_n 0, 1) := dk_42 (dk_at dksX6_time_0 0 rfl rfl)
theorem dX6_time_1 : decode cX6_time 1 = .ok (.iconst 0, 1) := dk_3 (dk_at dksX6_time_0 1 rfl rfl)
theorem dX6_time_2 : decode cX6_time 2 = .ok (.putfield 25, 3) := dk_181 0 25 (dk_at dksX6_time_0 2 rfl rfl)
theorem dX6_time_5 : decode cX6_time 5 = .ok (.aload_n 0, 1) := dk_42 (dk_at dksX6_time_0 5 rfl rfl)
theorem dX6_time_6 : decode cX6_time 6 = .ok (.getfield 7, 3) := dk_180 0 7 (dk_at dksX6_time_0 6 rfl rfl)
theorem dX6_time_9 : decode cX6_time 9 = .ok (.iconst 0, 1) := dk_3 (dk_at dksX6_time_0 9 rfl rfl)
theorem dX6_time_10 : decode cX6_time 10 = .ok (.iaload, 1) := dk_46 (dk_at dksX6_time_0 10 rfl rfl)
theorem dX6_time_11 : decode cX6_time 11 = .ok (.ireturn, 1) := dk_172 (dk_at dksX6_time_0 11 rfl rfl)
abbrev cX6_pace : ByteArray := prog_13_method_47_code
def yX6_pace : MethodName := ⟨RX6, "pace", "()I"⟩
def dkwX6_pace_0 : List UInt8 := [42, 3, 181, 0, 25, 42, 180, 0, 7, 4, 46, 172]
abbrev dktX6_pace_0 : List UInt8 := dkwX6_pace_0 ++ []
theorem dksX6_pace_0 : cX6_pace.data.toList.drop 0 = dktX6_pace_0 := by decide +kernel
theorem dX6_pace_0 : decode cX6_pace 0 = .ok (.aload_n 0, 1) := dk_42 (dk_at dksX6_pace_0 0 rfl rfl)
theorem dX6_pace_1 : decode cX6_pace 1 = .ok (.iconst 0, 1) := dk_3 (dk_at dksX6_pace_0 1 rfl rfl)
theorem dX6_pace_2 : decode cX6_pace 2 = .ok (.putfield 25, 3) := dk_181 0 25 (dk_at dksX6_pace_0 2 rfl rfl)
theorem dX6_pace_5 : decode cX6_pace 5 = .ok (.aload_n 0, 1) := dk_42 (dk_at dksX6_pace_0 5 rfl rfl)
theorem dX6_pace_6 : decode cX6_pace 6 = .ok (.getfield 7, 3) := dk_180 0 7 (dk_at dksX6_pace_0 6 rfl rfl)
theorem dX6_pace_9 : decode cX6_pace 9 = .ok (.iconst 1, 1) := dk_4 (dk_at dksX6_pace_0 9 rfl rfl)
theorem dX6_pace_10 : decode cX6_pace 10 = .ok (.iaload, 1) := dk_46 (dk_at dksX6_pace_0 10 rfl rfl)
theorem dX6_pace_11 : decode cX6_pace 11 = .ok (.ireturn, 1) := dk_172 (dk_at dksX6_pace_0 11 rfl rfl)
abbrev cX6_poleLimit : ByteArray := prog_13_method_48_code
def yX6_poleLimit : MethodName := ⟨RX6, "poleLimit", "()I"⟩
def dkwX6_poleLimit_0 : List UInt8 := [42, 3, 181, 0, 25, 42, 180, 0, 7, 5, 46, 172]
abbrev dktX6_poleLimit_0 : List UInt8 := dkwX6_poleLimit_0 ++ []
theorem dksX6_poleLimit_0 : cX6_poleLimit.data.toList.drop 0 = dktX6_poleLimit_0 := by decide +kernel
theorem dX6_poleLimit_0 : decode cX6_poleLimit 0 = .ok (.aload_n 0, 1) := dk_42 (dk_at dksX6_poleLimit_0 0 rfl rfl)
theorem dX6_poleLimit_1 : decode cX6_poleLimit 1 = .ok (.iconst 0, 1) := dk_3 (dk_at dksX6_poleLimit_0 1 rfl rfl)
theorem dX6_poleLimit_2 : decode cX6_poleLimit 2 = .ok (.putfield 25, 3) := dk_181 0 25 (dk_at dksX6_poleLimit_0 2 rfl rfl)
theorem dX6_poleLimit_5 : decode cX6_poleLimit 5 = .ok (.aload_n 0, 1) := dk_42 (dk_at dksX6_poleLimit_0 5 rfl rfl)
theorem dX6_poleLimit_6 : decode cX6_poleLimit 6 = .ok (.getfield 7, 3) := dk_180 0 7 (dk_at dksX6_poleLimit_0 6 rfl rfl)
theorem dX6_poleLimit_9 : decode cX6_poleLimit 9 = .ok (.iconst 2, 1) := dk_5 (dk_at dksX6_poleLimit_0 9 rfl rfl)
theorem dX6_poleLimit_10 : decode cX6_poleLimit 10 = .ok (.iaload, 1) := dk_46 (dk_at dksX6_poleLimit_0 10 rfl rfl)
theorem dX6_poleLimit_11 : decode cX6_poleLimit 11 = .ok (.ireturn, 1) := dk_172 (dk_at dksX6_poleLimit_0 11 rfl rfl)
abbrev cX6_guestCount : ByteArray := prog_13_method_49_code
def yX6_guestCount : MethodName := ⟨RX6, "guestCount", "()I"⟩
def dkwX6_guestCount_0 : List UInt8 := [42, 3, 181, 0, 25, 42, 180, 0, 7, 6, 46, 172]
abbrev dktX6_guestCount_0 : List UInt8 := dkwX6_guestCount_0 ++ []
theorem dksX6_guestCount_0 : cX6_guestCount.data.toList.drop 0 = dktX6_guestCount_0 := by decide +kernel
theorem dX6_guestCount_0 : decode cX6_guestCount 0 = .ok (.aload_n 0, 1) := dk_42 (dk_at dksX6_guestCount_0 0 rfl rfl)
theorem dX6_guestCount_1 : decode cX6_guestCount 1 = .ok (.iconst 0, 1) := dk_3 (dk_at dksX6_guestCount_0 1 rfl rfl)
theorem dX6_guestCount_2 : decode cX6_guestCount 2 = .ok (.putfield 25, 3) := dk_181 0 25 (dk_at dksX6_guestCount_0 2 rfl rfl)
theorem dX6_guestCount_5 : decode cX6_guestCount 5 = .ok (.aload_n 0, 1) := dk_42 (dk_at dksX6_guestCount_0 5 rfl rfl)
theorem dX6_guestCount_6 : decode cX6_guestCount 6 = .ok (.getfield 7, 3) := dk_180 0 7 (dk_at dksX6_guestCount_0 6 rfl rfl)
theorem dX6_guestCount_9 : decode cX6_guestCount 9 = .ok (.iconst 3, 1) := dk_6 (dk_at dksX6_guestCount_0 9 rfl rfl)
theorem dX6_guestCount_10 : decode cX6_guestCount 10 = .ok (.iaload, 1) := dk_46 (dk_at dksX6_guestCount_0 10 rfl rfl)
theorem dX6_guestCount_11 : decode cX6_guestCount 11 = .ok (.ireturn, 1) := dk_172 (dk_at dksX6_guestCount_0 11 rfl rfl)
abbrev cX6_rankOf : ByteArray := prog_13_method_51_code
def yX6_rankOf : MethodName := ⟨RX6, "rankOf", "(I)I"⟩
def dkwX6_rankOf_0 : List UInt8 := [42, 27, 3, 182, 0, 142, 172]
abbrev dktX6_rankOf_0 : List UInt8 := dkwX6_rankOf_0 ++ []
theorem dksX6_rankOf_0 : cX6_rankOf.data.toList.drop 0 = dktX6_rankOf_0 := by decide +kernel
theorem dX6_rankOf_0 : decode cX6_rankOf 0 = .ok (.aload_n 0, 1) := dk_42 (dk_at dksX6_rankOf_0 0 rfl rfl)
theorem dX6_rankOf_1 : decode cX6_rankOf 1 = .ok (.iload_n 1, 1) := dk_27 (dk_at dksX6_rankOf_0 1 rfl rfl)
theorem dX6_rankOf_2 : decode cX6_rankOf 2 = .ok (.iconst 0, 1) := dk_3 (dk_at dksX6_rankOf_0 2 rfl rfl)
theorem dX6_rankOf_3 : decode cX6_rankOf 3 = .ok (.invokevirtual 142, 3) := dk_182 0 142 (dk_at dksX6_rankOf_0 3 rfl rfl)
theorem dX6_rankOf_6 : decode cX6_rankOf 6 = .ok (.ireturn, 1) := dk_172 (dk_at dksX6_rankOf_0 6 rfl rfl)
abbrev cX6_toldGuest : ByteArray := prog_13_method_50_code
def yX6_toldGuest : MethodName := ⟨RX6, "toldGuest", "(II)I"⟩
def dkwX6_toldGuest_1 : List UInt8 := [182, 0, 104, 172]
abbrev dktX6_toldGuest_1 : List UInt8 := dkwX6_toldGuest_1 ++ []
def dkwX6_toldGuest_0 : List UInt8 := [42, 3, 181, 0, 25, 42, 27, 182, 0, 113, 153, 0, 12, 42, 27, 28, 182, 0, 36, 167, 0, 8, 42, 4]
abbrev dktX6_toldGuest_0 : List UInt8 := dkwX6_toldGuest_0 ++ dktX6_toldGuest_1
theorem dksX6_toldGuest_0 : cX6_toldGuest.data.toList.drop 0 = dktX6_toldGuest_0 := by decide +kernel
theorem dksX6_toldGuest_1 : cX6_toldGuest.data.toList.drop 24 = dktX6_toldGuest_1 := dk_seg dksX6_toldGuest_0 24 rfl rfl
theorem dX6_toldGuest_0 : decode cX6_toldGuest 0 = .ok (.aload_n 0, 1) := dk_42 (dk_at dksX6_toldGuest_0 0 rfl rfl)
theorem dX6_toldGuest_1 : decode cX6_toldGuest 1 = .ok (.iconst 0, 1) := dk_3 (dk_at dksX6_toldGuest_0 1 rfl rfl)
theorem dX6_toldGuest_2 : decode cX6_toldGuest 2 = .ok (.putfield 25, 3) := dk_181 0 25 (dk_at dksX6_toldGuest_0 2 rfl rfl)
theorem dX6_toldGuest_5 : decode cX6_toldGuest 5 = .ok (.aload_n 0, 1) := dk_42 (dk_at dksX6_toldGuest_0 5 rfl rfl)
theorem dX6_toldGuest_6 : decode cX6_toldGuest 6 = .ok (.iload_n 1, 1) := dk_27 (dk_at dksX6_toldGuest_0 6 rfl rfl)
theorem dX6_toldGuest_7 : decode cX6_toldGuest 7 = .ok (.invokevirtual 113, 3) := dk_182 0 113 (dk_at dksX6_toldGuest_0 7 rfl rfl)
theorem dX6_toldGuest_10 : decode cX6_toldGuest 10 = .ok (.ifCond .eq 12, 3) := dk_153 0 12 (dk_at dksX6_toldGuest_0 10 rfl rfl)
theorem dX6_toldGuest_13 : decode cX6_toldGuest 13 = .ok (.aload_n 0, 1) := dk_42 (dk_at dksX6_toldGuest_0 13 rfl rfl)
theorem dX6_toldGuest_14 : decode cX6_toldGuest 14 = .ok (.iload_n 1, 1) := dk_27 (dk_at dksX6_toldGuest_0 14 rfl rfl)
theorem dX6_toldGuest_15 : decode cX6_toldGuest 15 = .ok (.iload_n 2, 1) := dk_28 (dk_at dksX6_toldGuest_0 15 rfl rfl)
theorem dX6_toldGuest_16 : decode cX6_toldGuest 16 = .ok (.invokevirtual 36, 3) := dk_182 0 36 (dk_at dksX6_toldGuest_0 16 rfl rfl)
theorem dX6_toldGuest_19 : decode cX6_toldGuest 19 = .ok (.goto 8, 3) := dk_167 0 8 (dk_at dksX6_toldGuest_0 19 rfl rfl)
theorem dX6_toldGuest_22 : decode cX6_toldGuest 22 = .ok (.aload_n 0, 1) := dk_42 (dk_at dksX6_toldGuest_0 22 rfl rfl)
theorem dX6_toldGuest_23 : decode cX6_toldGuest 23 = .ok (.iconst 1, 1) := dk_4 (dk_at dksX6_toldGuest_0 23 rfl rfl)
theorem dX6_toldGuest_24 : decode cX6_toldGuest 24 = .ok (.invokevirtual 104, 3) := dk_182 0 104 (dk_at dksX6_toldGuest_1 0 rfl rfl)
theorem dX6_toldGuest_27 : decode cX6_toldGuest 27 = .ok (.ireturn, 1) := dk_172 (dk_at dksX6_toldGuest_1 3 rfl rfl)
abbrev cX6_roadOf : ByteArray := prog_13_method_52_code
def yX6_roadOf : MethodName := ⟨RX6, "roadOf", "(I)I"⟩
def dkwX6_roadOf_0 : List UInt8 := [42, 27, 4, 182, 0, 142, 172]
abbrev dktX6_roadOf_0 : List UInt8 := dkwX6_roadOf_0 ++ []
theorem dksX6_roadOf_0 : cX6_roadOf.data.toList.drop 0 = dktX6_roadOf_0 := by decide +kernel
theorem dX6_roadOf_0 : decode cX6_roadOf 0 = .ok (.aload_n 0, 1) := dk_42 (dk_at dksX6_roadOf_0 0 rfl rfl)
theorem dX6_roadOf_1 : decode cX6_roadOf 1 = .ok (.iload_n 1, 1) := dk_27 (dk_at dksX6_roadOf_0 1 rfl rfl)
theorem dX6_roadOf_2 : decode cX6_roadOf 2 = .ok (.iconst 1, 1) := dk_4 (dk_at dksX6_roadOf_0 2 rfl rfl)
theorem dX6_roadOf_3 : decode cX6_roadOf 3 = .ok (.invokevirtual 142, 3) := dk_182 0 142 (dk_at dksX6_roadOf_0 3 rfl rfl)
theorem dX6_roadOf_6 : decode cX6_roadOf 6 = .ok (.ireturn, 1) := dk_172 (dk_at dksX6_roadOf_0 6 rfl rfl)
abbrev cX6_isWaiting : ByteArray := prog_13_method_54_code
def yX6_isWaiting : MethodName := ⟨RX6, "isWaiting", "(I)Z"⟩
def dkwX6_isWaiting_0 : List UInt8 := [42, 27, 3, 182, 0, 145, 172]
abbrev dktX6_isWaiting_0 : List UInt8 := dkwX6_isWaiting_0 ++ []
theorem dksX6_isWaiting_0 : cX6_isWaiting.data.toList.drop 0 = dktX6_isWaiting_0 := by decide +kernel
theorem dX6_isWaiting_0 : decode cX6_isWaiting 0 = .ok (.aload_n 0, 1) := dk_42 (dk_at dksX6_isWaiting_0 0 rfl rfl)
theorem dX6_isWaiting_1 : decode cX6_isWaiting 1 = .ok (.iload_n 1, 1) := dk_27 (dk_at dksX6_isWaiting_0 1 rfl rfl)
theorem dX6_isWaiting_2 : decode cX6_isWaiting 2 = .ok (.iconst 0, 1) := dk_3 (dk_at dksX6_isWaiting_0 2 rfl rfl)
theorem dX6_isWaiting_3 : decode cX6_isWaiting 3 = .ok (.invokevirtual 145, 3) := dk_182 0 145 (dk_at dksX6_isWaiting_0 3 rfl rfl)
theorem dX6_isWaiting_6 : decode cX6_isWaiting 6 = .ok (.ireturn, 1) := dk_172 (dk_at dksX6_isWaiting_0 6 rfl rfl)
abbrev cX6_isIn : ByteArray := prog_13_method_53_code
def yX6_isIn : MethodName := ⟨RX6, "isIn", "(II)Z"⟩
def dkwX6_isIn_1 : List UInt8 := [172]
abbrev dktX6_isIn_1 : List UInt8 := dkwX6_isIn_1 ++ []
def dkwX6_isIn_0 : List UInt8 := [42, 27, 5, 182, 0, 142, 62, 42, 180, 0, 25, 154, 0, 12, 29, 28, 160, 0, 7, 4, 167, 0, 4, 3]
abbrev dktX6_isIn_0 : List UInt8 := dkwX6_isIn_0 ++ dktX6_isIn_1
theorem dksX6_isIn_0 : cX6_isIn.data.toList.drop 0 = dktX6_isIn_0 := by decide +kernel
theorem dksX6_isIn_1 : cX6_isIn.data.toList.drop 24 = dktX6_isIn_1 := dk_seg dksX6_isIn_0 24 rfl rfl
theorem dX6_isIn_0 : decode cX6_isIn 0 = .ok (.aload_n 0, 1) := dk_42 (dk_at dksX6_isIn_0 0 rfl rfl)
theorem dX6_isIn_1 : decode cX6_isIn 1 = .ok (.iload_n 1, 1) := dk_27 (dk_at dksX6_isIn_0 1 rfl rfl)
theorem dX6_isIn_2 : decode cX6_isIn 2 = .ok (.iconst 2, 1) := dk_5 (dk_at dksX6_isIn_0 2 rfl rfl)
theorem dX6_isIn_3 : decode cX6_isIn 3 = .ok (.invokevirtual 142, 3) := dk_182 0 142 (dk_at dksX6_isIn_0 3 rfl rfl)
theorem dX6_isIn_6 : decode cX6_isIn 6 = .ok (.istore_n 3, 1) := dk_62 (dk_at dksX6_isIn_0 6 rfl rfl)
theorem dX6_isIn_7 : decode cX6_isIn 7 = .ok (.aload_n 0, 1) := dk_42 (dk_at dksX6_isIn_0 7 rfl rfl)
theorem dX6_isIn_8 : decode cX6_isIn 8 = .ok (.getfield 25, 3) := dk_180 0 25 (dk_at dksX6_isIn_0 8 rfl rfl)
theorem dX6_isIn_11 : decode cX6_isIn 11 = .ok (.ifCond .ne 12, 3) := dk_154 0 12 (dk_at dksX6_isIn_0 11 rfl rfl)
theorem dX6_isIn_14 : decode cX6_isIn 14 = .ok (.iload_n 3, 1) := dk_29 (dk_at dksX6_isIn_0 14 rfl rfl)
theorem dX6_isIn_15 : decode cX6_isIn 15 = .ok (.iload_n 2, 1) := dk_28 (dk_at dksX6_isIn_0 15 rfl rfl)
theorem dX6_isIn_16 : decode cX6_isIn 16 = .ok (.if_icmp .ne 7, 3) := dk_160 0 7 (dk_at dksX6_isIn_0 16 rfl rfl)
theorem dX6_isIn_19 : decode cX6_isIn 19 = .ok (.iconst 1, 1) := dk_4 (dk_at dksX6_isIn_0 19 rfl rfl)
theorem dX6_isIn_20 : decode cX6_isIn 20 = .ok (.goto 4, 3) := dk_167 0 4 (dk_at dksX6_isIn_0 20 rfl rfl)
theorem dX6_isIn_23 : decode cX6_isIn 23 = .ok (.iconst 0, 1) := dk_3 (dk_at dksX6_isIn_0 23 rfl rfl)
theorem dX6_isIn_24 : decode cX6_isIn 24 = .ok (.ireturn, 1) := dk_172 (dk_at dksX6_isIn_1 0 rfl rfl)
abbrev cX6_isUnderWay : ByteArray := prog_13_method_55_code
def yX6_isUnderWay : MethodName := ⟨RX6, "isUnderWay", "(I)Z"⟩
def dkwX6_isUnderWay_0 : List UInt8 := [42, 27, 4, 182, 0, 145, 172]
abbrev dktX6_isUnderWay_0 : List UInt8 := dkwX6_isUnderWay_0 ++ []
theorem dksX6_isUnderWay_0 : cX6_isUnderWay.data.toList.drop 0 = dktX6_isUnderWay_0 := by decide +kernel
theorem dX6_isUnderWay_0 : decode cX6_isUnderWay 0 = .ok (.aload_n 0, 1) := dk_42 (dk_at dksX6_isUnderWay_0 0 rfl rfl)
theorem dX6_isUnderWay_1 : decode cX6_isUnderWay 1 = .ok (.iload_n 1, 1) := dk_27 (dk_at dksX6_isUnderWay_0 1 rfl rfl)
theorem dX6_isUnderWay_2 : decode cX6_isUnderWay 2 = .ok (.iconst 1, 1) := dk_4 (dk_at dksX6_isUnderWay_0 2 rfl rfl)
theorem dX6_isUnderWay_3 : decode cX6_isUnderWay 3 = .ok (.invokevirtual 145, 3) := dk_182 0 145 (dk_at dksX6_isUnderWay_0 3 rfl rfl)
theorem dX6_isUnderWay_6 : decode cX6_isUnderWay 6 = .ok (.ireturn, 1) := dk_172 (dk_at dksX6_isUnderWay_0 6 rfl rfl)
abbrev cX6_hasArrived : ByteArray := prog_13_method_56_code
def yX6_hasArrived : MethodName := ⟨RX6, "hasArrived", "(I)Z"⟩
def dkwX6_hasArrived_0 : List UInt8 := [42, 27, 5, 182, 0, 145, 172]
abbrev dktX6_hasArrived_0 : List UInt8 := dkwX6_hasArrived_0 ++ []
theorem dksX6_hasArrived_0 : cX6_hasArrived.data.toList.drop 0 = dktX6_hasArrived_0 := by decide +kernel
theorem dX6_hasArrived_0 : decode cX6_hasArrived 0 = .ok (.aload_n 0, 1) := dk_42 (dk_at dksX6_hasArrived_0 0 rfl rfl)
theorem dX6_hasArrived_1 : decode cX6_hasArrived 1 = .ok (.iload_n 1, 1) := dk_27 (dk_at dksX6_hasArrived_0 1 rfl rfl)
theorem dX6_hasArrived_2 : decode cX6_hasArrived 2 = .ok (.iconst 2, 1) := dk_5 (dk_at dksX6_hasArrived_0 2 rfl rfl)
theorem dX6_hasArrived_3 : decode cX6_hasArrived 3 = .ok (.invokevirtual 145, 3) := dk_182 0 145 (dk_at dksX6_hasArrived_0 3 rfl rfl)
theorem dX6_hasArrived_6 : decode cX6_hasArrived 6 = .ok (.ireturn, 1) := dk_172 (dk_at dksX6_hasArrived_0 6 rfl rfl)
abbrev cX6_hasGivenUp : ByteArray := prog_13_method_57_code
def yX6_hasGivenUp : MethodName := ⟨RX6, "hasGivenUp", "(I)Z"⟩
def dkwX6_hasGivenUp_0 : List UInt8 := [42, 27, 6, 182, 0, 145, 172]
abbrev dktX6_hasGivenUp_0 : List UInt8 := dkwX6_hasGivenUp_0 ++ []
theorem dksX6_hasGivenUp_0 : cX6_hasGivenUp.data.toList.drop 0 = dktX6_hasGivenUp_0 := by decide +kernel
theorem dX6_hasGivenUp_0 : decode cX6_hasGivenUp 0 = .ok (.aload_n 0, 1) := dk_42 (dk_at dksX6_hasGivenUp_0 0 rfl rfl)
theorem dX6_hasGivenUp_1 : decode cX6_hasGivenUp 1 = .ok (.iload_n 1, 1) := dk_27 (dk_at dksX6_hasGivenUp_0 1 rfl rfl)
theorem dX6_hasGivenUp_2 : decode cX6_hasGivenUp 2 = .ok (.iconst 3, 1) := dk_6 (dk_at dksX6_hasGivenUp_0 2 rfl rfl)
theorem dX6_hasGivenUp_3 : decode cX6_hasGivenUp 3 = .ok (.invokevirtual 145, 3) := dk_182 0 145 (dk_at dksX6_hasGivenUp_0 3 rfl rfl)
theorem dX6_hasGivenUp_6 : decode cX6_hasGivenUp 6 = .ok (.ireturn, 1) := dk_172 (dk_at dksX6_hasGivenUp_0 6 rfl rfl)
abbrev cX6_waitOf : ByteArray := prog_13_method_58_code
def yX6_waitOf : MethodName := ⟨RX6, "waitOf", "(I)I"⟩
def dkwX6_waitOf_1 : List UInt8 := [182, 0, 104, 172]
abbrev dktX6_waitOf_1 : List UInt8 := dkwX6_waitOf_1 ++ []
def dkwX6_waitOf_0 : List UInt8 := [42, 3, 181, 0, 25, 42, 27, 182, 0, 113, 153, 0, 11, 42, 27, 182, 0, 64, 167, 0, 8, 42, 4]
abbrev dktX6_waitOf_0 : List UInt8 := dkwX6_waitOf_0 ++ dktX6_waitOf_1
theorem dksX6_waitOf_0 : cX6_waitOf.data.toList.drop 0 = dktX6_waitOf_0 := by decide +kernel
theorem dksX6_waitOf_1 : cX6_waitOf.data.toList.drop 23 = dktX6_waitOf_1 := dk_seg dksX6_waitOf_0 23 rfl rfl
theorem dX6_waitOf_0 : decode cX6_waitOf 0 = .ok (.aload_n 0, 1) := dk_42 (dk_at dksX6_waitOf_0 0 rfl rfl)
theorem dX6_waitOf_1 : decode cX6_waitOf 1 = .ok (.iconst 0, 1) := dk_3 (dk_at dksX6_waitOf_0 1 rfl rfl)
theorem dX6_waitOf_2 : decode cX6_waitOf 2 = .ok (.putfield 25, 3) := dk_181 0 25 (dk_at dksX6_waitOf_0 2 rfl rfl)
theorem dX6_waitOf_5 : decode cX6_waitOf 5 = .ok (.aload_n 0, 1) := dk_42 (dk_at dksX6_waitOf_0 5 rfl rfl)
theorem dX6_waitOf_6 : decode cX6_waitOf 6 = .ok (.iload_n 1, 1) := dk_27 (dk_at dksX6_waitOf_0 6 rfl rfl)
theorem dX6_waitOf_7 : decode cX6_waitOf 7 = .ok (.invokevirtual 113, 3) := dk_182 0 113 (dk_at dksX6_waitOf_0 7 rfl rfl)
theorem dX6_waitOf_10 : decode cX6_waitOf 10 = .ok (.ifCond .eq 11, 3) := dk_153 0 11 (dk_at dksX6_waitOf_0 10 rfl rfl)
theorem dX6_waitOf_13 : decode cX6_waitOf 13 = .ok (.aload_n 0, 1) := dk_42 (dk_at dksX6_waitOf_0 13 rfl rfl)
theorem dX6_waitOf_14 : decode cX6_waitOf 14 = .ok (.iload_n 1, 1) := dk_27 (dk_at dksX6_waitOf_0 14 rfl rfl)
theorem dX6_waitOf_15 : decode cX6_waitOf 15 = .ok (.invokevirtual 64, 3) := dk_182 0 64 (dk_at dksX6_waitOf_0 15 rfl rfl)
theorem dX6_waitOf_18 : decode cX6_waitOf 18 = .ok (.goto 8, 3) := dk_167 0 8 (dk_at dksX6_waitOf_0 18 rfl rfl)
theorem dX6_waitOf_21 : decode cX6_waitOf 21 = .ok (.aload_n 0, 1) := dk_42 (dk_at dksX6_waitOf_0 21 rfl rfl)
theorem dX6_waitOf_22 : decode cX6_waitOf 22 = .ok (.iconst 1, 1) := dk_4 (dk_at dksX6_waitOf_0 22 rfl rfl)
theorem dX6_waitOf_23 : decode cX6_waitOf 23 = .ok (.invokevirtual 104, 3) := dk_182 0 104 (dk_at dksX6_waitOf_1 0 rfl rfl)
theorem dX6_waitOf_26 : decode cX6_waitOf 26 = .ok (.ireturn, 1) := dk_172 (dk_at dksX6_waitOf_1 3 rfl rfl)
abbrev cX6_fareOf : ByteArray := prog_13_method_59_code
def yX6_fareOf : MethodName := ⟨RX6, "fareOf", "(I)I"⟩
def dkwX6_fareOf_1 : List UInt8 := [182, 0, 104, 172]
abbrev dktX6_fareOf_1 : List UInt8 := dkwX6_fareOf_1 ++ []
def dkwX6_fareOf_0 : List UInt8 := [42, 3, 181, 0, 25, 42, 27, 182, 0, 113, 153, 0, 11, 42, 27, 182, 0, 70, 167, 0, 8, 42, 4]
abbrev dktX6_fareOf_0 : List UInt8 := dkwX6_fareOf_0 ++ dktX6_fareOf_1
theorem dksX6_fareOf_0 : cX6_fareOf.data.toList.drop 0 = dktX6_fareOf_0 := by decide +kernel
theorem dksX6_fareOf_1 : cX6_fareOf.data.toList.drop 23 = dktX6_fareOf_1 := dk_seg dksX6_fareOf_0 23 rfl rfl
theorem dX6_fareOf_0 : decode cX6_fareOf 0 = .ok (.aload_n 0, 1) := dk_42 (dk_at dksX6_fareOf_0 0 rfl rfl)
theorem dX6_fareOf_1 : decode cX6_fareOf 1 = .ok (.iconst 0, 1) := dk_3 (dk_at dksX6_fareOf_0 1 rfl rfl)
theorem dX6_fareOf_2 : decode cX6_fareOf 2 = .ok (.putfield 25, 3) := dk_181 0 25 (dk_at dksX6_fareOf_0 2 rfl rfl)
theorem dX6_fareOf_5 : decode cX6_fareOf 5 = .ok (.aload_n 0, 1) := dk_42 (dk_at dksX6_fareOf_0 5 rfl rfl)
theorem dX6_fareOf_6 : decode cX6_fareOf 6 = .ok (.iload_n 1, 1) := dk_27 (dk_at dksX6_fareOf_0 6 rfl rfl)
theorem dX6_fareOf_7 : decode cX6_fareOf 7 = .ok (.invokevirtual 113, 3) := dk_182 0 113 (dk_at dksX6_fareOf_0 7 rfl rfl)
theorem dX6_fareOf_10 : decode cX6_fareOf 10 = .ok (.ifCond .eq 11, 3) := dk_153 0 11 (dk_at dksX6_fareOf_0 10 rfl rfl)
theorem dX6_fareOf_13 : decode cX6_fareOf 13 = .ok (.aload_n 0, 1) := dk_42 (dk_at dksX6_fareOf_0 13 rfl rfl)
theorem dX6_fareOf_14 : decode cX6_fareOf 14 = .ok (.iload_n 1, 1) := dk_27 (dk_at dksX6_fareOf_0 14 rfl rfl)
theorem dX6_fareOf_15 : decode cX6_fareOf 15 = .ok (.invokevirtual 70, 3) := dk_182 0 70 (dk_at dksX6_fareOf_0 15 rfl rfl)
theorem dX6_fareOf_18 : decode cX6_fareOf 18 = .ok (.goto 8, 3) := dk_167 0 8 (dk_at dksX6_fareOf_0 18 rfl rfl)
theorem dX6_fareOf_21 : decode cX6_fareOf 21 = .ok (.aload_n 0, 1) := dk_42 (dk_at dksX6_fareOf_0 21 rfl rfl)
theorem dX6_fareOf_22 : decode cX6_fareOf 22 = .ok (.iconst 1, 1) := dk_4 (dk_at dksX6_fareOf_0 22 rfl rfl)
theorem dX6_fareOf_23 : decode cX6_fareOf 23 = .ok (.invokevirtual 104, 3) := dk_182 0 104 (dk_at dksX6_fareOf_1 0 rfl rfl)
theorem dX6_fareOf_26 : decode cX6_fareOf 26 = .ok (.ireturn, 1) := dk_172 (dk_at dksX6_fareOf_1 3 rfl rfl)
abbrev cX6_lineLength : ByteArray := prog_13_method_60_code
def yX6_lineLength : MethodName := ⟨RX6, "lineLength", "()I"⟩
def dkwX6_lineLength_0 : List UInt8 := [42, 3, 181, 0, 25, 3, 60, 42, 27, 182, 0, 50, 2, 159, 0, 9, 132, 1, 1, 167, 255, 244, 27, 172]
abbrev dktX6_lineLength_0 : List UInt8 := dkwX6_lineLength_0 ++ []
theorem dksX6_lineLength_0 : cX6_lineLength.data.toList.drop 0 = dktX6_lineLength_0 := by decide +kernel
theorem dX6_lineLength_0 : decode cX6_lineLength 0 = .ok (.aload_n 0, 1) := dk_42 (dk_at dksX6_lineLength_0 0 rfl rfl)
theorem dX6_lineLength_1 : decode cX6_lineLength 1 = .ok (.iconst 0, 1) := dk_3 (dk_at dksX6_lineLength_0 1 rfl rfl)
theorem dX6_lineLength_2 : decode cX6_lineLength 2 = .ok (.putfield 25, 3) := dk_181 0 25 (dk_at dksX6_lineLength_0 2 rfl rfl)
theorem dX6_lineLength_5 : decode cX6_lineLength 5 = .ok (.iconst 0, 1) := dk_3 (dk_at dksX6_lineLength_0 5 rfl rfl)
theorem dX6_lineLength_6 : decode cX6_lineLength 6 = .ok (.istore_n 1, 1) := dk_60 (dk_at dksX6_lineLength_0 6 rfl rfl)
theorem dX6_lineLength_7 : decode cX6_lineLength 7 = .ok (.aload_n 0, 1) := dk_42 (dk_at dksX6_lineLength_0 7 rfl rfl)
theorem dX6_lineLength_8 : decode cX6_lineLength 8 = .ok (.iload_n 1, 1) := dk_27 (dk_at dksX6_lineLength_0 8 rfl rfl)
theorem dX6_lineLength_9 : decode cX6_lineLength 9 = .ok (.invokevirtual 50, 3) := dk_182 0 50 (dk_at dksX6_lineLength_0 9 rfl rfl)
theorem dX6_lineLength_12 : decode cX6_lineLength 12 = .ok (.iconst (-1), 1) := dk_2 (dk_at dksX6_lineLength_0 12 rfl rfl)
theorem dX6_lineLength_13 : decode cX6_lineLength 13 = .ok (.if_icmp .eq 9, 3) := dk_159 0 9 (dk_at dksX6_lineLength_0 13 rfl rfl)
theorem dX6_lineLength_16 : decode cX6_lineLength 16 = .ok (.iinc 1 1, 3) := dk_132 1 1 (dk_at dksX6_lineLength_0 16 rfl rfl)
theorem dX6_lineLength_19 : decode cX6_lineLength 19 = .ok (.goto (-12), 3) := dk_167 255 244 (dk_at dksX6_lineLength_0 19 rfl rfl)
theorem dX6_lineLength_22 : decode cX6_lineLength 22 = .ok (.iload_n 1, 1) := dk_27 (dk_at dksX6_lineLength_0 22 rfl rfl)
theorem dX6_lineLength_23 : decode cX6_lineLength 23 = .ok (.ireturn, 1) := dk_172 (dk_at dksX6_lineLength_0 23 rfl rfl)
abbrev cX6_guestAt : ByteArray := prog_13_method_61_code
def yX6_guestAt : MethodName := ⟨RX6, "guestAt", "(I)I"⟩
def dkwX6_guestAt_1 : List UInt8 := [42, 4, 182, 0, 104, 167, 0, 4, 28, 172]
abbrev dktX6_guestAt_1 : List UInt8 := dkwX6_guestAt_1 ++ []
def dkwX6_guestAt_0 : List UInt8 := [42, 3, 181, 0, 25, 27, 156, 0, 7, 2, 167, 0, 8, 42, 27, 182, 0, 50, 61, 28, 2, 160, 0, 11]
abbrev dktX6_guestAt_0 : List UInt8 := dkwX6_guestAt_0 ++ dktX6_guestAt_1
theorem dksX6_guestAt_0 : cX6_guestAt.data.toList.drop 0 = dktX6_guestAt_0 := by decide +kernel
theorem dksX6_guestAt_1 : cX6_guestAt.data.toList.drop 24 = dktX6_guestAt_1 := dk_seg dksX6_guestAt_0 24 rfl rfl
theorem dX6_guestAt_0 : decode cX6_guestAt 0 = .ok (.aload_n 0, 1) := dk_42 (dk_at dksX6_guestAt_0 0 rfl rfl)
theorem dX6_guestAt_1 : decode cX6_guestAt 1 = .ok (.iconst 0, 1) := dk_3 (dk_at dksX6_guestAt_0 1 rfl rfl)
theorem dX6_guestAt_2 : decode cX6_guestAt 2 = .ok (.putfield 25, 3) := dk_181 0 25 (dk_at dksX6_guestAt_0 2 rfl rfl)
theorem dX6_guestAt_5 : decode cX6_guestAt 5 = .ok (.iload_n 1, 1) := dk_27 (dk_at dksX6_guestAt_0 5 rfl rfl)
theorem dX6_guestAt_6 : decode cX6_guestAt 6 = .ok (.ifCond .ge 7, 3) := dk_156 0 7 (dk_at dksX6_guestAt_0 6 rfl rfl)
theorem dX6_guestAt_9 : decode cX6_guestAt 9 = .ok (.iconst (-1), 1) := dk_2 (dk_at dksX6_guestAt_0 9 rfl rfl)
theorem dX6_guestAt_10 : decode cX6_guestAt 10 = .ok (.goto 8, 3) := dk_167 0 8 (dk_at dksX6_guestAt_0 10 rfl rfl)
theorem dX6_guestAt_13 : decode cX6_guestAt 13 = .ok (.aload_n 0, 1) := dk_42 (dk_at dksX6_guestAt_0 13 rfl rfl)
theorem dX6_guestAt_14 : decode cX6_guestAt 14 = .ok (.iload_n 1, 1) := dk_27 (dk_at dksX6_guestAt_0 14 rfl rfl)
theorem dX6_guestAt_15 : decode cX6_guestAt 15 = .ok (.invokevirtual 50, 3) := dk_182 0 50 (dk_at dksX6_guestAt_0 15 rfl rfl)
theorem dX6_guestAt_18 : decode cX6_guestAt 18 = .ok (.istore_n 2, 1) := dk_61 (dk_at dksX6_guestAt_0 18 rfl rfl)
theorem dX6_guestAt_19 : decode cX6_guestAt 19 = .ok (.iload_n 2, 1) := dk_28 (dk_at dksX6_guestAt_0 19 rfl rfl)
theorem dX6_guestAt_20 : decode cX6_guestAt 20 = .ok (.iconst (-1), 1) := dk_2 (dk_at dksX6_guestAt_0 20 rfl rfl)
theorem dX6_guestAt_21 : decode cX6_guestAt 21 = .ok (.if_icmp .ne 11, 3) := dk_160 0 11 (dk_at dksX6_guestAt_0 21 rfl rfl)
theorem dX6_guestAt_24 : decode cX6_guestAt 24 = .ok (.aload_n 0, 1) := dk_42 (dk_at dksX6_guestAt_1 0 rfl rfl)
theorem dX6_guestAt_25 : decode cX6_guestAt 25 = .ok (.iconst 1, 1) := dk_4 (dk_at dksX6_guestAt_1 1 rfl rfl)
theorem dX6_guestAt_26 : decode cX6_guestAt 26 = .ok (.invokevirtual 104, 3) := dk_182 0 104 (dk_at dksX6_guestAt_1 2 rfl rfl)
theorem dX6_guestAt_29 : decode cX6_guestAt 29 = .ok (.goto 4, 3) := dk_167 0 4 (dk_at dksX6_guestAt_1 5 rfl rfl)
theorem dX6_guestAt_32 : decode cX6_guestAt 32 = .ok (.iload_n 2, 1) := dk_28 (dk_at dksX6_guestAt_1 8 rfl rfl)
theorem dX6_guestAt_33 : decode cX6_guestAt 33 = .ok (.ireturn, 1) := dk_172 (dk_at dksX6_guestAt_1 9 rfl rfl)
abbrev cX6_isPairOut : ByteArray := prog_13_method_63_code
def yX6_isPairOut : MethodName := ⟨RX6, "isPairOut", "(I)Z"⟩
def dkwX6_isPairOut_0 : List UInt8 := [42, 27, 3, 182, 0, 149, 4, 160, 0, 7, 4, 167, 0, 4, 3, 172]
abbrev dktX6_isPairOut_0 : List UInt8 := dkwX6_isPairOut_0 ++ []
theorem dksX6_isPairOut_0 : cX6_isPairOut.data.toList.drop 0 = dktX6_isPairOut_0 := by decide +kernel
theorem dX6_isPairOut_0 : decode cX6_isPairOut 0 = .ok (.aload_n 0, 1) := dk_42 (dk_at dksX6_isPairOut_0 0 rfl rfl)
theorem dX6_isPairOut_1 : decode cX6_isPairOut 1 = .ok (.iload_n 1, 1) := dk_27 (dk_at dksX6_isPairOut_0 1 rfl rfl)
theorem dX6_isPairOut_2 : decode cX6_isPairOut 2 = .ok (.iconst 0, 1) := dk_3 (dk_at dksX6_isPairOut_0 2 rfl rfl)
theorem dX6_isPairOut_3 : decode cX6_isPairOut 3 = .ok (.invokevirtual 149, 3) := dk_182 0 149 (dk_at dksX6_isPairOut_0 3 rfl rfl)
theorem dX6_isPairOut_6 : decode cX6_isPairOut 6 = .ok (.iconst 1, 1) := dk_4 (dk_at dksX6_isPairOut_0 6 rfl rfl)
theorem dX6_isPairOut_7 : decode cX6_isPairOut 7 = .ok (.if_icmp .ne 7, 3) := dk_160 0 7 (dk_at dksX6_isPairOut_0 7 rfl rfl)
theorem dX6_isPairOut_10 : decode cX6_isPairOut 10 = .ok (.iconst 1, 1) := dk_4 (dk_at dksX6_isPairOut_0 10 rfl rfl)
theorem dX6_isPairOut_11 : decode cX6_isPairOut 11 = .ok (.goto 4, 3) := dk_167 0 4 (dk_at dksX6_isPairOut_0 11 rfl rfl)
theorem dX6_isPairOut_14 : decode cX6_isPairOut 14 = .ok (.iconst 0, 1) := dk_3 (dk_at dksX6_isPairOut_0 14 rfl rfl)
theorem dX6_isPairOut_15 : decode cX6_isPairOut 15 = .ok (.ireturn, 1) := dk_172 (dk_at dksX6_isPairOut_0 15 rfl rfl)
abbrev cX6_toldPair : ByteArray := prog_13_method_62_code
def yX6_toldPair : MethodName := ⟨RX6, "toldPair", "(II)I"⟩
def dkwX6_toldPair_1 : List UInt8 := [182, 0, 104, 172]
abbrev dktX6_toldPair_1 : List UInt8 := dkwX6_toldPair_1 ++ []
def dkwX6_toldPair_0 : List UInt8 := [42, 3, 181, 0, 25, 27, 184, 0, 120, 153, 0, 12, 42, 27, 28, 182, 0, 44, 167, 0, 8, 42, 4]
abbrev dktX6_toldPair_0 : List UInt8 := dkwX6_toldPair_0 ++ dktX6_toldPair_1
theorem dksX6_toldPair_0 : cX6_toldPair.data.toList.drop 0 = dktX6_toldPair_0 := by decide +kernel
theorem dksX6_toldPair_1 : cX6_toldPair.data.toList.drop 23 = dktX6_toldPair_1 := dk_seg dksX6_toldPair_0 23 rfl rfl
theorem dX6_toldPair_0 : decode cX6_toldPair 0 = .ok (.aload_n 0, 1) := dk_42 (dk_at dksX6_toldPair_0 0 rfl rfl)
theorem dX6_toldPair_1 : decode cX6_toldPair 1 = .ok (.iconst 0, 1) := dk_3 (dk_at dksX6_toldPair_0 1 rfl rfl)
theorem dX6_toldPair_2 : decode cX6_toldPair 2 = .ok (.putfield 25, 3) := dk_181 0 25 (dk_at dksX6_toldPair_0 2 rfl rfl)
theorem dX6_toldPair_5 : decode cX6_toldPair 5 = .ok (.iload_n 1, 1) := dk_27 (dk_at dksX6_toldPair_0 5 rfl rfl)
theorem dX6_toldPair_6 : decode cX6_toldPair 6 = .ok (.invokestatic 120, 3) := dk_184 0 120 (dk_at dksX6_toldPair_0 6 rfl rfl)
theorem dX6_toldPair_9 : decode cX6_toldPair 9 = .ok (.ifCond .eq 12, 3) := dk_153 0 12 (dk_at dksX6_toldPair_0 9 rfl rfl)
theorem dX6_toldPair_12 : decode cX6_toldPair 12 = .ok (.aload_n 0, 1) := dk_42 (dk_at dksX6_toldPair_0 12 rfl rfl)
theorem dX6_toldPair_13 : decode cX6_toldPair 13 = .ok (.iload_n 1, 1) := dk_27 (dk_at dksX6_toldPair_0 13 rfl rfl)
theorem dX6_toldPair_14 : decode cX6_toldPair 14 = .ok (.iload_n 2, 1) := dk_28 (dk_at dksX6_toldPair_0 14 rfl rfl)
theorem dX6_toldPair_15 : decode cX6_toldPair 15 = .ok (.invokevirtual 44, 3) := dk_182 0 44 (dk_at dksX6_toldPair_0 15 rfl rfl)
theorem dX6_toldPair_18 : decode cX6_toldPair 18 = .ok (.goto 8, 3) := dk_167 0 8 (dk_at dksX6_toldPair_0 18 rfl rfl)
theorem dX6_toldPair_21 : decode cX6_toldPair 21 = .ok (.aload_n 0, 1) := dk_42 (dk_at dksX6_toldPair_0 21 rfl rfl)
theorem dX6_toldPair_22 : decode cX6_toldPair 22 = .ok (.iconst 1, 1) := dk_4 (dk_at dksX6_toldPair_0 22 rfl rfl)
theorem dX6_toldPair_23 : decode cX6_toldPair 23 = .ok (.invokevirtual 104, 3) := dk_182 0 104 (dk_at dksX6_toldPair_1 0 rfl rfl)
theorem dX6_toldPair_26 : decode cX6_toldPair 26 = .ok (.ireturn, 1) := dk_172 (dk_at dksX6_toldPair_1 3 rfl rfl)
abbrev cX6_restOf : ByteArray := prog_13_method_64_code
def yX6_restOf : MethodName := ⟨RX6, "restOf", "(I)I"⟩
def dkwX6_restOf_0 : List UInt8 := [42, 27, 4, 182, 0, 149, 172]
abbrev dktX6_restOf_0 : List UInt8 := dkwX6_restOf_0 ++ []
theorem dksX6_restOf_0 : cX6_restOf.data.toList.drop 0 = dktX6_restOf_0 := by decide +kernel
theorem dX6_restOf_0 : decode cX6_restOf 0 = .ok (.aload_n 0, 1) := dk_42 (dk_at dksX6_restOf_0 0 rfl rfl)
theorem dX6_restOf_1 : decode cX6_restOf 1 = .ok (.iload_n 1, 1) := dk_27 (dk_at dksX6_restOf_0 1 rfl rfl)
theorem dX6_restOf_2 : decode cX6_restOf 2 = .ok (.iconst 1, 1) := dk_4 (dk_at dksX6_restOf_0 2 rfl rfl)
theorem dX6_restOf_3 : decode cX6_restOf 3 = .ok (.invokevirtual 149, 3) := dk_182 0 149 (dk_at dksX6_restOf_0 3 rfl rfl)
theorem dX6_restOf_6 : decode cX6_restOf 6 = .ok (.ireturn, 1) := dk_172 (dk_at dksX6_restOf_0 6 rfl rfl)
abbrev cX6_milesOfPair : ByteArray := prog_13_method_65_code
def yX6_milesOfPair : MethodName := ⟨RX6, "milesOfPair", "(I)I"⟩
def dkwX6_milesOfPair_0 : List UInt8 := [42, 27, 5, 182, 0, 149, 172]
abbrev dktX6_milesOfPair_0 : List UInt8 := dkwX6_milesOfPair_0 ++ []
theorem dksX6_milesOfPair_0 : cX6_milesOfPair.data.toList.drop 0 = dktX6_milesOfPair_0 := by decide +kernel
theorem dX6_milesOfPair_0 : decode cX6_milesOfPair 0 = .ok (.aload_n 0, 1) := dk_42 (dk_at dksX6_milesOfPair_0 0 rfl rfl)
theorem dX6_milesOfPair_1 : decode cX6_milesOfPair 1 = .ok (.iload_n 1, 1) := dk_27 (dk_at dksX6_milesOfPair_0 1 rfl rfl)
theorem dX6_milesOfPair_2 : decode cX6_milesOfPair 2 = .ok (.iconst 2, 1) := dk_5 (dk_at dksX6_milesOfPair_0 2 rfl rfl)
theorem dX6_milesOfPair_3 : decode cX6_milesOfPair 3 = .ok (.invokevirtual 149, 3) := dk_182 0 149 (dk_at dksX6_milesOfPair_0 3 rfl rfl)
theorem dX6_milesOfPair_6 : decode cX6_milesOfPair 6 = .ok (.ireturn, 1) := dk_172 (dk_at dksX6_milesOfPair_0 6 rfl rfl)
abbrev cX6_nextPair : ByteArray := prog_13_method_67_code
def yX6_nextPair : MethodName := ⟨RX6, "nextPair", "()I"⟩
def dkwX6_nextPair_0 : List UInt8 := [42, 42, 182, 0, 53, 182, 0, 152, 172]
abbrev dktX6_nextPair_0 : List UInt8 := dkwX6_nextPair_0 ++ []
theorem dksX6_nextPair_0 : cX6_nextPair.data.toList.drop 0 = dktX6_nextPair_0 := by decide +kernel
theorem dX6_nextPair_0 : decode cX6_nextPair 0 = .ok (.aload_n 0, 1) := dk_42 (dk_at dksX6_nextPair_0 0 rfl rfl)
theorem dX6_nextPair_1 : decode cX6_nextPair 1 = .ok (.aload_n 0, 1) := dk_42 (dk_at dksX6_nextPair_0 1 rfl rfl)
theorem dX6_nextPair_2 : decode cX6_nextPair 2 = .ok (.invokevirtual 53, 3) := dk_182 0 53 (dk_at dksX6_nextPair_0 2 rfl rfl)
theorem dX6_nextPair_5 : decode cX6_nextPair 5 = .ok (.invokevirtual 152, 3) := dk_182 0 152 (dk_at dksX6_nextPair_0 5 rfl rfl)
theorem dX6_nextPair_8 : decode cX6_nextPair 8 = .ok (.ireturn, 1) := dk_172 (dk_at dksX6_nextPair_0 8 rfl rfl)
abbrev cX6_orNone : ByteArray := prog_13_method_66_code
def yX6_orNone : MethodName := ⟨RX6, "orNone", "(I)I"⟩
def dkwX6_orNone_0 : List UInt8 := [42, 3, 181, 0, 25, 27, 2, 160, 0, 11, 42, 4, 182, 0, 104, 167, 0, 4, 27, 172]
abbrev dktX6_orNone_0 : List UInt8 := dkwX6_orNone_0 ++ []
theorem dksX6_orNone_0 : cX6_orNone.data.toList.drop 0 = dktX6_orNone_0 := by decide +kernel
theorem dX6_orNone_0 : decode cX6_orNone 0 = .ok (.aload_n 0, 1) := dk_42 (dk_at dksX6_orNone_0 0 rfl rfl)
theorem dX6_orNone_1 : decode cX6_orNone 1 = .ok (.iconst 0, 1) := dk_3 (dk_at dksX6_orNone_0 1 rfl rfl)
theorem dX6_orNone_2 : decode cX6_orNone 2 = .ok (.putfield 25, 3) := dk_181 0 25 (dk_at dksX6_orNone_0 2 rfl rfl)
theorem dX6_orNone_5 : decode cX6_orNone 5 = .ok (.iload_n 1, 1) := dk_27 (dk_at dksX6_orNone_0 5 rfl rfl)
theorem dX6_orNone_6 : decode cX6_orNone 6 = .ok (.iconst (-1), 1) := dk_2 (dk_at dksX6_orNone_0 6 rfl rfl)
theorem dX6_orNone_7 : decode cX6_orNone 7 = .ok (.if_icmp .ne 11, 3) := dk_160 0 11 (dk_at dksX6_orNone_0 7 rfl rfl)
theorem dX6_orNone_10 : decode cX6_orNone 10 = .ok (.aload_n 0, 1) := dk_42 (dk_at dksX6_orNone_0 10 rfl rfl)
theorem dX6_orNone_11 : decode cX6_orNone 11 = .ok (.iconst 1, 1) := dk_4 (dk_at dksX6_orNone_0 11 rfl rfl)
theorem dX6_orNone_12 : decode cX6_orNone 12 = .ok (.invokevirtual 104, 3) := dk_182 0 104 (dk_at dksX6_orNone_0 12 rfl rfl)
theorem dX6_orNone_15 : decode cX6_orNone 15 = .ok (.goto 4, 3) := dk_167 0 4 (dk_at dksX6_orNone_0 15 rfl rfl)
theorem dX6_orNone_18 : decode cX6_orNone 18 = .ok (.iload_n 1, 1) := dk_27 (dk_at dksX6_orNone_0 18 rfl rfl)
theorem dX6_orNone_19 : decode cX6_orNone 19 = .ok (.ireturn, 1) := dk_172 (dk_at dksX6_orNone_0 19 rfl rfl)
abbrev cX6_isBoyOut : ByteArray := prog_13_method_69_code
def yX6_isBoyOut : MethodName := ⟨RX6, "isBoyOut", "(I)Z"⟩
def dkwX6_isBoyOut_0 : List UInt8 := [42, 27, 3, 182, 0, 155, 5, 160, 0, 7, 4, 167, 0, 4, 3, 172]
abbrev dktX6_isBoyOut_0 : List UInt8 := dkwX6_isBoyOut_0 ++ []
theorem dksX6_isBoyOut_0 : cX6_isBoyOut.data.toList.drop 0 = dktX6_isBoyOut_0 := by decide +kernel
theorem dX6_isBoyOut_0 : decode cX6_isBoyOut 0 = .ok (.aload_n 0, 1) := dk_42 (dk_at dksX6_isBoyOut_0 0 rfl rfl)
theorem dX6_isBoyOut_1 : decode cX6_isBoyOut 1 = .ok (.iload_n 1, 1) := dk_27 (dk_at dksX6_isBoyOut_0 1 rfl rfl)
theorem dX6_isBoyOut_2 : decode cX6_isBoyOut 2 = .ok (.iconst 0, 1) := dk_3 (dk_at dksX6_isBoyOut_0 2 rfl rfl)
theorem dX6_isBoyOut_3 : decode cX6_isBoyOut 3 = .ok (.invokevirtual 155, 3) := dk_182 0 155 (dk_at dksX6_isBoyOut_0 3 rfl rfl)
theorem dX6_isBoyOut_6 : decode cX6_isBoyOut 6 = .ok (.iconst 2, 1) := dk_5 (dk_at dksX6_isBoyOut_0 6 rfl rfl)
theorem dX6_isBoyOut_7 : decode cX6_isBoyOut 7 = .ok (.if_icmp .ne 7, 3) := dk_160 0 7 (dk_at dksX6_isBoyOut_0 7 rfl rfl)
theorem dX6_isBoyOut_10 : decode cX6_isBoyOut 10 = .ok (.iconst 1, 1) := dk_4 (dk_at dksX6_isBoyOut_0 10 rfl rfl)
theorem dX6_isBoyOut_11 : decode cX6_isBoyOut 11 = .ok (.goto 4, 3) := dk_167 0 4 (dk_at dksX6_isBoyOut_0 11 rfl rfl)
theorem dX6_isBoyOut_14 : decode cX6_isBoyOut 14 = .ok (.iconst 0, 1) := dk_3 (dk_at dksX6_isBoyOut_0 14 rfl rfl)
theorem dX6_isBoyOut_15 : decode cX6_isBoyOut 15 = .ok (.ireturn, 1) := dk_172 (dk_at dksX6_isBoyOut_0 15 rfl rfl)
abbrev cX6_toldBoy : ByteArray := prog_13_method_68_code
def yX6_toldBoy : MethodName := ⟨RX6, "toldBoy", "(II)I"⟩
def dkwX6_toldBoy_1 : List UInt8 := [182, 0, 104, 172]
abbrev dktX6_toldBoy_1 : List UInt8 := dkwX6_toldBoy_1 ++ []
def dkwX6_toldBoy_0 : List UInt8 := [42, 3, 181, 0, 25, 27, 184, 0, 123, 153, 0, 12, 42, 27, 28, 182, 0, 79, 167, 0, 8, 42, 4]
abbrev dktX6_toldBoy_0 : List UInt8 := dkwX6_toldBoy_0 ++ dktX6_toldBoy_1
theorem dksX6_toldBoy_0 : cX6_toldBoy.data.toList.drop 0 = dktX6_toldBoy_0 := by decide +kernel
theorem dksX6_toldBoy_1 : cX6_toldBoy.data.toList.drop 23 = dktX6_toldBoy_1 := dk_seg dksX6_toldBoy_0 23 rfl rfl
theorem dX6_toldBoy_0 : decode cX6_toldBoy 0 = .ok (.aload_n 0, 1) := dk_42 (dk_at dksX6_toldBoy_0 0 rfl rfl)
theorem dX6_toldBoy_1 : decode cX6_toldBoy 1 = .ok (.iconst 0, 1) := dk_3 (dk_at dksX6_toldBoy_0 1 rfl rfl)
theorem dX6_toldBoy_2 : decode cX6_toldBoy 2 = .ok (.putfield 25, 3) := dk_181 0 25 (dk_at dksX6_toldBoy_0 2 rfl rfl)
theorem dX6_toldBoy_5 : decode cX6_toldBoy 5 = .ok (.iload_n 1, 1) := dk_27 (dk_at dksX6_toldBoy_0 5 rfl rfl)
theorem dX6_toldBoy_6 : decode cX6_toldBoy 6 = .ok (.invokestatic 123, 3) := dk_184 0 123 (dk_at dksX6_toldBoy_0 6 rfl rfl)
theorem dX6_toldBoy_9 : decode cX6_toldBoy 9 = .ok (.ifCond .eq 12, 3) := dk_153 0 12 (dk_at dksX6_toldBoy_0 9 rfl rfl)
theorem dX6_toldBoy_12 : decode cX6_toldBoy 12 = .ok (.aload_n 0, 1) := dk_42 (dk_at dksX6_toldBoy_0 12 rfl rfl)
theorem dX6_toldBoy_13 : decode cX6_toldBoy 13 = .ok (.iload_n 1, 1) := dk_27 (dk_at dksX6_toldBoy_0 13 rfl rfl)
theorem dX6_toldBoy_14 : decode cX6_toldBoy 14 = .ok (.iload_n 2, 1) := dk_28 (dk_at dksX6_toldBoy_0 14 rfl rfl)
theorem dX6_toldBoy_15 : decode cX6_toldBoy 15 = .ok (.invokevirtual 79, 3) := dk_182 0 79 (dk_at dksX6_toldBoy_0 15 rfl rfl)
theorem dX6_toldBoy_18 : decode cX6_toldBoy 18 = .ok (.goto 8, 3) := dk_167 0 8 (dk_at dksX6_toldBoy_0 18 rfl rfl)
theorem dX6_toldBoy_21 : decode cX6_toldBoy 21 = .ok (.aload_n 0, 1) := dk_42 (dk_at dksX6_toldBoy_0 21 rfl rfl)
theorem dX6_toldBoy_22 : decode cX6_toldBoy 22 = .ok (.iconst 1, 1) := dk_4 (dk_at dksX6_toldBoy_0 22 rfl rfl)
theorem dX6_toldBoy_23 : decode cX6_toldBoy 23 = .ok (.invokevirtual 104, 3) := dk_182 0 104 (dk_at dksX6_toldBoy_1 0 rfl rfl)
theorem dX6_toldBoy_26 : decode cX6_toldBoy 26 = .ok (.ireturn, 1) := dk_172 (dk_at dksX6_toldBoy_1 3 rfl rfl)
abbrev cX6_isInBed : ByteArray := prog_13_method_70_code
def yX6_isInBed : MethodName := ⟨RX6, "isInBed", "(I)Z"⟩
def dkwX6_isInBed_0 : List UInt8 := [42, 27, 3, 182, 0, 155, 4, 160, 0, 7, 4, 167, 0, 4, 3, 172]
abbrev dktX6_isInBed_0 : List UInt8 := dkwX6_isInBed_0 ++ []
theorem dksX6_isInBed_0 : cX6_isInBed.data.toList.drop 0 = dktX6_isInBed_0 := by decide +kernel
theorem dX6_isInBed_0 : decode cX6_isInBed 0 = .ok (.aload_n 0, 1) := dk_42 (dk_at dksX6_isInBed_0 0 rfl rfl)
theorem dX6_isInBed_1 : decode cX6_isInBed 1 = .ok (.iload_n 1, 1) := dk_27 (dk_at dksX6_isInBed_0 1 rfl rfl)
theorem dX6_isInBed_2 : decode cX6_isInBed 2 = .ok (.iconst 0, 1) := dk_3 (dk_at dksX6_isInBed_0 2 rfl rfl)
theorem dX6_isInBed_3 : decode cX6_isInBed 3 = .ok (.invokevirtual 155, 3) := dk_182 0 155 (dk_at dksX6_isInBed_0 3 rfl rfl)
theorem dX6_isInBed_6 : decode cX6_isInBed 6 = .ok (.iconst 1, 1) := dk_4 (dk_at dksX6_isInBed_0 6 rfl rfl)
theorem dX6_isInBed_7 : decode cX6_isInBed 7 = .ok (.if_icmp .ne 7, 3) := dk_160 0 7 (dk_at dksX6_isInBed_0 7 rfl rfl)
theorem dX6_isInBed_10 : decode cX6_isInBed 10 = .ok (.iconst 1, 1) := dk_4 (dk_at dksX6_isInBed_0 10 rfl rfl)
theorem dX6_isInBed_11 : decode cX6_isInBed 11 = .ok (.goto 4, 3) := dk_167 0 4 (dk_at dksX6_isInBed_0 11 rfl rfl)
theorem dX6_isInBed_14 : decode cX6_isInBed 14 = .ok (.iconst 0, 1) := dk_3 (dk_at dksX6_isInBed_0 14 rfl rfl)
theorem dX6_isInBed_15 : decode cX6_isInBed 15 = .ok (.ireturn, 1) := dk_172 (dk_at dksX6_isInBed_0 15 rfl rfl)
abbrev cX6_placeOf : ByteArray := prog_13_method_71_code
def yX6_placeOf : MethodName := ⟨RX6, "placeOf", "(I)I"⟩
def dkwX6_placeOf_2 : List UInt8 := [132, 2, 1, 167, 255, 229, 42, 5, 182, 0, 104, 172]
abbrev dktX6_placeOf_2 : List UInt8 := dkwX6_placeOf_2 ++ []
def dkwX6_placeOf_1 : List UInt8 := [180, 0, 7, 7, 46, 162, 0, 23, 42, 180, 0, 7, 8, 28, 96, 46, 27, 160, 0, 5, 28, 172]
abbrev dktX6_placeOf_1 : List UInt8 := dkwX6_placeOf_1 ++ dktX6_placeOf_2
def dkwX6_placeOf_0 : List UInt8 := [42, 3, 181, 0, 25, 27, 184, 0, 123, 154, 0, 9, 42, 4, 182, 0, 104, 172, 3, 61, 28, 42]
abbrev dktX6_placeOf_0 : List UInt8 := dkwX6_placeOf_0 ++ dktX6_placeOf_1
theorem dksX6_placeOf_0 : cX6_placeOf.data.toList.drop 0 = dktX6_placeOf_0 := by decide +kernel
theorem dksX6_placeOf_1 : cX6_placeOf.data.toList.drop 22 = dktX6_placeOf_1 := dk_seg dksX6_placeOf_0 22 rfl rfl
theorem dksX6_placeOf_2 : cX6_placeOf.data.toList.drop 44 = dktX6_placeOf_2 := dk_seg dksX6_placeOf_1 22 rfl rfl
theorem dX6_placeOf_0 : decode cX6_placeOf 0 = .ok (.aload_n 0, 1) := dk_42 (dk_at dksX6_placeOf_0 0 rfl rfl)
theorem dX6_placeOf_1 : decode cX6_placeOf 1 = .ok (.iconst 0, 1) := dk_3 (dk_at dksX6_placeOf_0 1 rfl rfl)
theorem dX6_placeOf_2 : decode cX6_placeOf 2 = .ok (.putfield 25, 3) := dk_181 0 25 (dk_at dksX6_placeOf_0 2 rfl rfl)
theorem dX6_placeOf_5 : decode cX6_placeOf 5 = .ok (.iload_n 1, 1) := dk_27 (dk_at dksX6_placeOf_0 5 rfl rfl)
theorem dX6_placeOf_6 : decode cX6_placeOf 6 = .ok (.invokestatic 123, 3) := dk_184 0 123 (dk_at dksX6_placeOf_0 6 rfl rfl)
theorem dX6_placeOf_9 : decode cX6_placeOf 9 = .ok (.ifCond .ne 9, 3) := dk_154 0 9 (dk_at dksX6_placeOf_0 9 rfl rfl)
theorem dX6_placeOf_12 : decode cX6_placeOf 12 = .ok (.aload_n 0, 1) := dk_42 (dk_at dksX6_placeOf_0 12 rfl rfl)
theorem dX6_placeOf_13 : decode cX6_placeOf 13 = .ok (.iconst 1, 1) := dk_4 (dk_at dksX6_placeOf_0 13 rfl rfl)
theorem dX6_placeOf_14 : decode cX6_placeOf 14 = .ok (.invokevirtual 104, 3) := dk_182 0 104 (dk_at dksX6_placeOf_0 14 rfl rfl)
theorem dX6_placeOf_17 : decode cX6_placeOf 17 = .ok (.ireturn, 1) := dk_172 (dk_at dksX6_placeOf_0 17 rfl rfl)
theorem dX6_placeOf_18 : decode cX6_placeOf 18 = .ok (.iconst 0, 1) := dk_3 (dk_at dksX6_placeOf_0 18 rfl rfl)
theorem dX6_placeOf_19 : decode cX6_placeOf 19 = .ok (.istore_n 2, 1) := dk_61 (dk_at dksX6_placeOf_0 19 rfl rfl)
theorem dX6_placeOf_20 : decode cX6_placeOf 20 = .ok (.iload_n 2, 1) := dk_28 (dk_at dksX6_placeOf_0 20 rfl rfl)
theorem dX6_placeOf_21 : decode cX6_placeOf 21 = .ok (.aload_n 0, 1) := dk_42 (dk_at dksX6_placeOf_0 21 rfl rfl)
theorem dX6_placeOf_22 : decode cX6_placeOf 22 = .ok (.getfield 7, 3) := dk_180 0 7 (dk_at dksX6_placeOf_1 0 rfl rfl)
theorem dX6_placeOf_25 : decode cX6_placeOf 25 = .ok (.iconst 4, 1) := dk_7 (dk_at dksX6_placeOf_1 3 rfl rfl)
theorem dX6_placeOf_26 : decode cX6_placeOf 26 = .ok (.iaload, 1) := dk_46 (dk_at dksX6_placeOf_1 4 rfl rfl)
theorem dX6_placeOf_27 : decode cX6_placeOf 27 = .ok (.if_icmp .ge 23, 3) := dk_162 0 23 (dk_at dksX6_placeOf_1 5 rfl rfl)
theorem dX6_placeOf_30 : decode cX6_placeOf 30 = .ok (.aload_n 0, 1) := dk_42 (dk_at dksX6_placeOf_1 8 rfl rfl)
theorem dX6_placeOf_31 : decode cX6_placeOf 31 = .ok (.getfield 7, 3) := dk_180 0 7 (dk_at dksX6_placeOf_1 9 rfl rfl)
theorem dX6_placeOf_34 : decode cX6_placeOf 34 = .ok (.iconst 5, 1) := dk_8 (dk_at dksX6_placeOf_1 12 rfl rfl)
theorem dX6_placeOf_35 : decode cX6_placeOf 35 = .ok (.iload_n 2, 1) := dk_28 (dk_at dksX6_placeOf_1 13 rfl rfl)
theorem dX6_placeOf_36 : decode cX6_placeOf 36 = .ok (.iadd, 1) := dk_96 (dk_at dksX6_placeOf_1 14 rfl rfl)
theorem dX6_placeOf_37 : decode cX6_placeOf 37 = .ok (.iaload, 1) := dk_46 (dk_at dksX6_placeOf_1 15 rfl rfl)
theorem dX6_placeOf_38 : decode cX6_placeOf 38 = .ok (.iload_n 1, 1) := dk_27 (dk_at dksX6_placeOf_1 16 rfl rfl)
theorem dX6_placeOf_39 : decode cX6_placeOf 39 = .ok (.if_icmp .ne 5, 3) := dk_160 0 5 (dk_at dksX6_placeOf_1 17 rfl rfl)
theorem dX6_placeOf_42 : decode cX6_placeOf 42 = .ok (.iload_n 2, 1) := dk_28 (dk_at dksX6_placeOf_1 20 rfl rfl)
theorem dX6_placeOf_43 : decode cX6_placeOf 43 = .ok (.ireturn, 1) := dk_172 (dk_at dksX6_placeOf_1 21 rfl rfl)
theorem dX6_placeOf_44 : decode cX6_placeOf 44 = .ok (.iinc 2 1, 3) := dk_132 2 1 (dk_at dksX6_placeOf_2 0 rfl rfl)
theorem dX6_placeOf_47 : decode cX6_placeOf 47 = .ok (.goto (-27), 3) := dk_167 255 229 (dk_at dksX6_placeOf_2 3 rfl rfl)
theorem dX6_placeOf_50 : decode cX6_placeOf 50 = .ok (.aload_n 0, 1) := dk_42 (dk_at dksX6_placeOf_2 6 rfl rfl)
theorem dX6_placeOf_51 : decode cX6_placeOf 51 = .ok (.iconst 2, 1) := dk_5 (dk_at dksX6_placeOf_2 7 rfl rfl)
theorem dX6_placeOf_52 : decode cX6_placeOf 52 = .ok (.invokevirtual 104, 3) := dk_182 0 104 (dk_at dksX6_placeOf_2 8 rfl rfl)
theorem dX6_placeOf_55 : decode cX6_placeOf 55 = .ok (.ireturn, 1) := dk_172 (dk_at dksX6_placeOf_2 11 rfl rfl)
abbrev cX6_tripsOf : ByteArray := prog_13_method_72_code
def yX6_tripsOf : MethodName := ⟨RX6, "tripsOf", "(I)I"⟩
def dkwX6_tripsOf_0 : List UInt8 := [42, 27, 4, 182, 0, 155, 172]
abbrev dktX6_tripsOf_0 : List UInt8 := dkwX6_tripsOf_0 ++ []
theorem dksX6_tripsOf_0 : cX6_tripsOf.data.toList.drop 0 = dktX6_tripsOf_0 := by decide +kernel
theorem dX6_tripsOf_0 : decode cX6_tripsOf 0 = .ok (.aload_n 0, 1) := dk_42 (dk_at dksX6_tripsOf_0 0 rfl rfl)
theorem dX6_tripsOf_1 : decode cX6_tripsOf 1 = .ok (.iload_n 1, 1) := dk_27 (dk_at dksX6_tripsOf_0 1 rfl rfl)
theorem dX6_tripsOf_2 : decode cX6_tripsOf 2 = .ok (.iconst 1, 1) := dk_4 (dk_at dksX6_tripsOf_0 2 rfl rfl)
theorem dX6_tripsOf_3 : decode cX6_tripsOf 3 = .ok (.invokevirtual 155, 3) := dk_182 0 155 (dk_at dksX6_tripsOf_0 3 rfl rfl)
theorem dX6_tripsOf_6 : decode cX6_tripsOf 6 = .ok (.ireturn, 1) := dk_172 (dk_at dksX6_tripsOf_0 6 rfl rfl)
abbrev cX6_nextBoy : ByteArray := prog_13_method_73_code
def yX6_nextBoy : MethodName := ⟨RX6, "nextBoy", "()I"⟩
def dkwX6_nextBoy_0 : List UInt8 := [42, 42, 180, 0, 7, 7, 46, 154, 0, 7, 2, 167, 0, 9, 42, 180, 0, 7, 8, 46, 182, 0, 152, 172]
abbrev dktX6_nextBoy_0 : List UInt8 := dkwX6_nextBoy_0 ++ []
theorem dksX6_nextBoy_0 : cX6_nextBoy.data.toList.drop 0 = dktX6_nextBoy_0 := by decide +kernel
theorem dX6_nextBoy_0 : decode cX6_nextBoy 0 = .ok (.aload_n 0, 1) := dk_42 (dk_at dksX6_nextBoy_0 0 rfl rfl)
theorem dX6_nextBoy_1 : decode cX6_nextBoy 1 = .ok (.aload_n 0, 1) := dk_42 (dk_at dksX6_nextBoy_0 1 rfl rfl)
theorem dX6_nextBoy_2 : decode cX6_nextBoy 2 = .ok (.getfield 7, 3) := dk_180 0 7 (dk_at dksX6_nextBoy_0 2 rfl rfl)
theorem dX6_nextBoy_5 : decode cX6_nextBoy 5 = .ok (.iconst 4, 1) := dk_7 (dk_at dksX6_nextBoy_0 5 rfl rfl)
theorem dX6_nextBoy_6 : decode cX6_nextBoy 6 = .ok (.iaload, 1) := dk_46 (dk_at dksX6_nextBoy_0 6 rfl rfl)
theorem dX6_nextBoy_7 : decode cX6_nextBoy 7 = .ok (.ifCond .ne 7, 3) := dk_154 0 7 (dk_at dksX6_nextBoy_0 7 rfl rfl)
theorem dX6_nextBoy_10 : decode cX6_nextBoy 10 = .ok (.iconst (-1), 1) := dk_2 (dk_at dksX6_nextBoy_0 10 rfl rfl)
theorem dX6_nextBoy_11 : decode cX6_nextBoy 11 = .ok (.goto 9, 3) := dk_167 0 9 (dk_at dksX6_nextBoy_0 11 rfl rfl)
theorem dX6_nextBoy_14 : decode cX6_nextBoy 14 = .ok (.aload_n 0, 1) := dk_42 (dk_at dksX6_nextBoy_0 14 rfl rfl)
theorem dX6_nextBoy_15 : decode cX6_nextBoy 15 = .ok (.getfield 7, 3) := dk_180 0 7 (dk_at dksX6_nextBoy_0 15 rfl rfl)
theorem dX6_nextBoy_18 : decode cX6_nextBoy 18 = .ok (.iconst 5, 1) := dk_8 (dk_at dksX6_nextBoy_0 18 rfl rfl)
theorem dX6_nextBoy_19 : decode cX6_nextBoy 19 = .ok (.iaload, 1) := dk_46 (dk_at dksX6_nextBoy_0 19 rfl rfl)
theorem dX6_nextBoy_20 : decode cX6_nextBoy 20 = .ok (.invokevirtual 152, 3) := dk_182 0 152 (dk_at dksX6_nextBoy_0 20 rfl rfl)
theorem dX6_nextBoy_23 : decode cX6_nextBoy 23 = .ok (.ireturn, 1) := dk_172 (dk_at dksX6_nextBoy_0 23 rfl rfl)
abbrev cX6_isChaiseOut : ByteArray := prog_13_method_75_code
def yX6_isChaiseOut : MethodName := ⟨RX6, "isChaiseOut", "(I)Z"⟩
def dkwX6_isChaiseOut_0 : List UInt8 := [42, 27, 3, 182, 0, 158, 4, 160, 0, 7, 4, 167, 0, 4, 3, 172]
abbrev dktX6_isChaiseOut_0 : List UInt8 := dkwX6_isChaiseOut_0 ++ []
theorem dksX6_isChaiseOut_0 : cX6_isChaiseOut.data.toList.drop 0 = dktX6_isChaiseOut_0 := by decide +kernel
theorem dX6_isChaiseOut_0 : decode cX6_isChaiseOut 0 = .ok (.aload_n 0, 1) := dk_42 (dk_at dksX6_isChaiseOut_0 0 rfl rfl)
theorem dX6_isChaiseOut_1 : decode cX6_isChaiseOut 1 = .ok (.iload_n 1, 1) := dk_27 (dk_at dksX6_isChaiseOut_0 1 rfl rfl)
theorem dX6_isChaiseOut_2 : decode cX6_isChaiseOut 2 = .ok (.iconst 0, 1) := dk_3 (dk_at dksX6_isChaiseOut_0 2 rfl rfl)
theorem dX6_isChaiseOut_3 : decode cX6_isChaiseOut 3 = .ok (.invokevirtual 158, 3) := dk_182 0 158 (dk_at dksX6_isChaiseOut_0 3 rfl rfl)
theorem dX6_isChaiseOut_6 : decode cX6_isChaiseOut 6 = .ok (.iconst 1, 1) := dk_4 (dk_at dksX6_isChaiseOut_0 6 rfl rfl)
theorem dX6_isChaiseOut_7 : decode cX6_isChaiseOut 7 = .ok (.if_icmp .ne 7, 3) := dk_160 0 7 (dk_at dksX6_isChaiseOut_0 7 rfl rfl)
theorem dX6_isChaiseOut_10 : decode cX6_isChaiseOut 10 = .ok (.iconst 1, 1) := dk_4 (dk_at dksX6_isChaiseOut_0 10 rfl rfl)
theorem dX6_isChaiseOut_11 : decode cX6_isChaiseOut 11 = .ok (.goto 4, 3) := dk_167 0 4 (dk_at dksX6_isChaiseOut_0 11 rfl rfl)
theorem dX6_isChaiseOut_14 : decode cX6_isChaiseOut 14 = .ok (.iconst 0, 1) := dk_3 (dk_at dksX6_isChaiseOut_0 14 rfl rfl)
theorem dX6_isChaiseOut_15 : decode cX6_isChaiseOut 15 = .ok (.ireturn, 1) := dk_172 (dk_at dksX6_isChaiseOut_0 15 rfl rfl)
abbrev cX6_toldChaise : ByteArray := prog_13_method_74_code
def yX6_toldChaise : MethodName := ⟨RX6, "toldChaise", "(II)I"⟩
def dkwX6_toldChaise_1 : List UInt8 := [182, 0, 104, 172]
abbrev dktX6_toldChaise_1 : List UInt8 := dkwX6_toldChaise_1 ++ []
def dkwX6_toldChaise_0 : List UInt8 := [42, 3, 181, 0, 25, 27, 184, 0, 132, 153, 0, 12, 42, 27, 28, 182, 0, 47, 167, 0, 8, 42, 4]
abbrev dktX6_toldChaise_0 : List UInt8 := dkwX6_toldChaise_0 ++ dktX6_toldChaise_1
theorem dksX6_toldChaise_0 : cX6_toldChaise.data.toList.drop 0 = dktX6_toldChaise_0 := by decide +kernel
theorem dksX6_toldChaise_1 : cX6_toldChaise.data.toList.drop 23 = dktX6_toldChaise_1 := dk_seg dksX6_toldChaise_0 23 rfl rfl
theorem dX6_toldChaise_0 : decode cX6_toldChaise 0 = .ok (.aload_n 0, 1) := dk_42 (dk_at dksX6_toldChaise_0 0 rfl rfl)
theorem dX6_toldChaise_1 : decode cX6_toldChaise 1 = .ok (.iconst 0, 1) := dk_3 (dk_at dksX6_toldChaise_0 1 rfl rfl)
theorem dX6_toldChaise_2 : decode cX6_toldChaise 2 = .ok (.putfield 25, 3) := dk_181 0 25 (dk_at dksX6_toldChaise_0 2 rfl rfl)
theorem dX6_toldChaise_5 : decode cX6_toldChaise 5 = .ok (.iload_n 1, 1) := dk_27 (dk_at dksX6_toldChaise_0 5 rfl rfl)
theorem dX6_toldChaise_6 : decode cX6_toldChaise 6 = .ok (.invokestatic 132, 3) := dk_184 0 132 (dk_at dksX6_toldChaise_0 6 rfl rfl)
theorem dX6_toldChaise_9 : decode cX6_toldChaise 9 = .ok (.ifCond .eq 12, 3) := dk_153 0 12 (dk_at dksX6_toldChaise_0 9 rfl rfl)
theorem dX6_toldChaise_12 : decode cX6_toldChaise 12 = .ok (.aload_n 0, 1) := dk_42 (dk_at dksX6_toldChaise_0 12 rfl rfl)
theorem dX6_toldChaise_13 : decode cX6_toldChaise 13 = .ok (.iload_n 1, 1) := dk_27 (dk_at dksX6_toldChaise_0 13 rfl rfl)
theorem dX6_toldChaise_14 : decode cX6_toldChaise 14 = .ok (.iload_n 2, 1) := dk_28 (dk_at dksX6_toldChaise_0 14 rfl rfl)
theorem dX6_toldChaise_15 : decode cX6_toldChaise 15 = .ok (.invokevirtual 47, 3) := dk_182 0 47 (dk_at dksX6_toldChaise_0 15 rfl rfl)
theorem dX6_toldChaise_18 : decode cX6_toldChaise 18 = .ok (.goto 8, 3) := dk_167 0 8 (dk_at dksX6_toldChaise_0 18 rfl rfl)
theorem dX6_toldChaise_21 : decode cX6_toldChaise 21 = .ok (.aload_n 0, 1) := dk_42 (dk_at dksX6_toldChaise_0 21 rfl rfl)
theorem dX6_toldChaise_22 : decode cX6_toldChaise 22 = .ok (.iconst 1, 1) := dk_4 (dk_at dksX6_toldChaise_0 22 rfl rfl)
theorem dX6_toldChaise_23 : decode cX6_toldChaise 23 = .ok (.invokevirtual 104, 3) := dk_182 0 104 (dk_at dksX6_toldChaise_1 0 rfl rfl)
theorem dX6_toldChaise_26 : decode cX6_toldChaise 26 = .ok (.ireturn, 1) := dk_172 (dk_at dksX6_toldChaise_1 3 rfl rfl)
abbrev cX6_isBroken : ByteArray := prog_13_method_76_code
def yX6_isBroken : MethodName := ⟨RX6, "isBroken", "(I)Z"⟩
def dkwX6_isBroken_0 : List UInt8 := [42, 27, 5, 182, 0, 158, 4, 160, 0, 7, 4, 167, 0, 4, 3, 172]
abbrev dktX6_isBroken_0 : List UInt8 := dkwX6_isBroken_0 ++ []
theorem dksX6_isBroken_0 : cX6_isBroken.data.toList.drop 0 = dktX6_isBroken_0 := by decide +kernel
theorem dX6_isBroken_0 : decode cX6_isBroken 0 = .ok (.aload_n 0, 1) := dk_42 (dk_at dksX6_isBroken_0 0 rfl rfl)
theorem dX6_isBroken_1 : decode cX6_isBroken 1 = .ok (.iload_n 1, 1) := dk_27 (dk_at dksX6_isBroken_0 1 rfl rfl)
theorem dX6_isBroken_2 : decode cX6_isBroken 2 = .ok (.iconst 2, 1) := dk_5 (dk_at dksX6_isBroken_0 2 rfl rfl)
theorem dX6_isBroken_3 : decode cX6_isBroken 3 = .ok (.invokevirtual 158, 3) := dk_182 0 158 (dk_at dksX6_isBroken_0 3 rfl rfl)
theorem dX6_isBroken_6 : decode cX6_isBroken 6 = .ok (.iconst 1, 1) := dk_4 (dk_at dksX6_isBroken_0 6 rfl rfl)
theorem dX6_isBroken_7 : decode cX6_isBroken 7 = .ok (.if_icmp .ne 7, 3) := dk_160 0 7 (dk_at dksX6_isBroken_0 7 rfl rfl)
theorem dX6_isBroken_10 : decode cX6_isBroken 10 = .ok (.iconst 1, 1) := dk_4 (dk_at dksX6_isBroken_0 10 rfl rfl)
theorem dX6_isBroken_11 : decode cX6_isBroken 11 = .ok (.goto 4, 3) := dk_167 0 4 (dk_at dksX6_isBroken_0 11 rfl rfl)
theorem dX6_isBroken_14 : decode cX6_isBroken 14 = .ok (.iconst 0, 1) := dk_3 (dk_at dksX6_isBroken_0 14 rfl rfl)
theorem dX6_isBroken_15 : decode cX6_isBroken 15 = .ok (.ireturn, 1) := dk_172 (dk_at dksX6_isBroken_0 15 rfl rfl)
abbrev cX6_wearOf : ByteArray := prog_13_method_77_code
def yX6_wearOf : MethodName := ⟨RX6, "wearOf", "(I)I"⟩
def dkwX6_wearOf_0 : List UInt8 := [42, 27, 4, 182, 0, 158, 172]
abbrev dktX6_wearOf_0 : List UInt8 := dkwX6_wearOf_0 ++ []
theorem dksX6_wearOf_0 : cX6_wearOf.data.toList.drop 0 = dktX6_wearOf_0 := by decide +kernel
theorem dX6_wearOf_0 : decode cX6_wearOf 0 = .ok (.aload_n 0, 1) := dk_42 (dk_at dksX6_wearOf_0 0 rfl rfl)
theorem dX6_wearOf_1 : decode cX6_wearOf 1 = .ok (.iload_n 1, 1) := dk_27 (dk_at dksX6_wearOf_0 1 rfl rfl)
theorem dX6_wearOf_2 : decode cX6_wearOf 2 = .ok (.iconst 1, 1) := dk_4 (dk_at dksX6_wearOf_0 2 rfl rfl)
theorem dX6_wearOf_3 : decode cX6_wearOf 3 = .ok (.invokevirtual 158, 3) := dk_182 0 158 (dk_at dksX6_wearOf_0 3 rfl rfl)
theorem dX6_wearOf_6 : decode cX6_wearOf 6 = .ok (.ireturn, 1) := dk_172 (dk_at dksX6_wearOf_0 6 rfl rfl)
abbrev cX6_milesOfChaise : ByteArray := prog_13_method_78_code
def yX6_milesOfChaise : MethodName := ⟨RX6, "milesOfChaise", "(I)I"⟩
def dkwX6_milesOfChaise_0 : List UInt8 := [42, 27, 6, 182, 0, 158, 172]
abbrev dktX6_milesOfChaise_0 : List UInt8 := dkwX6_milesOfChaise_0 ++ []
theorem dksX6_milesOfChaise_0 : cX6_milesOfChaise.data.toList.drop 0 = dktX6_milesOfChaise_0 := by decide +kernel
theorem dX6_milesOfChaise_0 : decode cX6_milesOfChaise 0 = .ok (.aload_n 0, 1) := dk_42 (dk_at dksX6_milesOfChaise_0 0 rfl rfl)
theorem dX6_milesOfChaise_1 : decode cX6_milesOfChaise 1 = .ok (.iload_n 1, 1) := dk_27 (dk_at dksX6_milesOfChaise_0 1 rfl rfl)
theorem dX6_milesOfChaise_2 : decode cX6_milesOfChaise 2 = .ok (.iconst 3, 1) := dk_6 (dk_at dksX6_milesOfChaise_0 2 rfl rfl)
theorem dX6_milesOfChaise_3 : decode cX6_milesOfChaise 3 = .ok (.invokevirtual 158, 3) := dk_182 0 158 (dk_at dksX6_milesOfChaise_0 3 rfl rfl)
theorem dX6_milesOfChaise_6 : decode cX6_milesOfChaise 6 = .ok (.ireturn, 1) := dk_172 (dk_at dksX6_milesOfChaise_0 6 rfl rfl)
abbrev cX6_guestOf : ByteArray := prog_13_method_80_code
def yX6_guestOf : MethodName := ⟨RX6, "guestOf", "(I)I"⟩
def dkwX6_guestOf_0 : List UInt8 := [42, 27, 7, 182, 0, 161, 172]
abbrev dktX6_guestOf_0 : List UInt8 := dkwX6_guestOf_0 ++ []
theorem dksX6_guestOf_0 : cX6_guestOf.data.toList.drop 0 = dktX6_guestOf_0 := by decide +kernel
theorem dX6_guestOf_0 : decode cX6_guestOf 0 = .ok (.aload_n 0, 1) := dk_42 (dk_at dksX6_guestOf_0 0 rfl rfl)
theorem dX6_guestOf_1 : decode cX6_guestOf 1 = .ok (.iload_n 1, 1) := dk_27 (dk_at dksX6_guestOf_0 1 rfl rfl)
theorem dX6_guestOf_2 : decode cX6_guestOf 2 = .ok (.iconst 4, 1) := dk_7 (dk_at dksX6_guestOf_0 2 rfl rfl)
theorem dX6_guestOf_3 : decode cX6_guestOf 3 = .ok (.invokevirtual 161, 3) := dk_182 0 161 (dk_at dksX6_guestOf_0 3 rfl rfl)
theorem dX6_guestOf_6 : decode cX6_guestOf 6 = .ok (.ireturn, 1) := dk_172 (dk_at dksX6_guestOf_0 6 rfl rfl)
abbrev cX6_toldTrip : ByteArray := prog_13_method_79_code
def yX6_toldTrip : MethodName := ⟨RX6, "toldTrip", "(II)I"⟩
def dkwX6_toldTrip_1 : List UInt8 := [182, 0, 47, 154, 0, 11, 42, 5, 182, 0, 104, 167, 0, 9, 42, 27, 28, 182, 0, 47, 172]
abbrev dktX6_toldTrip_1 : List UInt8 := dkwX6_toldTrip_1 ++ []
def dkwX6_toldTrip_0 : List UInt8 := [42, 3, 181, 0, 25, 27, 184, 0, 132, 154, 0, 11, 42, 4, 182, 0, 104, 167, 0, 26, 42, 27, 3]
abbrev dktX6_toldTrip_0 : List UInt8 := dkwX6_toldTrip_0 ++ dktX6_toldTrip_1
theorem dksX6_toldTrip_0 : cX6_toldTrip.data.toList.drop 0 = dktX6_toldTrip_0 := by decide +kernel
theorem dksX6_toldTrip_1 : cX6_toldTrip.data.toList.drop 23 = dktX6_toldTrip_1 := dk_seg dksX6_toldTrip_0 23 rfl rfl
theorem dX6_toldTrip_0 : decode cX6_toldTrip 0 = .ok (.aload_n 0, 1) := dk_42 (dk_at dksX6_toldTrip_0 0 rfl rfl)
theorem dX6_toldTrip_1 : decode cX6_toldTrip 1 = .ok (.iconst 0, 1) := dk_3 (dk_at dksX6_toldTrip_0 1 rfl rfl)
theorem dX6_toldTrip_2 : decode cX6_toldTrip 2 = .ok (.putfield 25, 3) := dk_181 0 25 (dk_at dksX6_toldTrip_0 2 rfl rfl)
theorem dX6_toldTrip_5 : decode cX6_toldTrip 5 = .ok (.iload_n 1, 1) := dk_27 (dk_at dksX6_toldTrip_0 5 rfl rfl)
theorem dX6_toldTrip_6 : decode cX6_toldTrip 6 = .ok (.invokestatic 132, 3) := dk_184 0 132 (dk_at dksX6_toldTrip_0 6 rfl rfl)
theorem dX6_toldTrip_9 : decode cX6_toldTrip 9 = .ok (.ifCond .ne 11, 3) := dk_154 0 11 (dk_at dksX6_toldTrip_0 9 rfl rfl)
theorem dX6_toldTrip_12 : decode cX6_toldTrip 12 = .ok (.aload_n 0, 1) := dk_42 (dk_at dksX6_toldTrip_0 12 rfl rfl)
theorem dX6_toldTrip_13 : decode cX6_toldTrip 13 = .ok (.iconst 1, 1) := dk_4 (dk_at dksX6_toldTrip_0 13 rfl rfl)
theorem dX6_toldTrip_14 : decode cX6_toldTrip 14 = .ok (.invokevirtual 104, 3) := dk_182 0 104 (dk_at dksX6_toldTrip_0 14 rfl rfl)
theorem dX6_toldTrip_17 : decode cX6_toldTrip 17 = .ok (.goto 26, 3) := dk_167 0 26 (dk_at dksX6_toldTrip_0 17 rfl rfl)
theorem dX6_toldTrip_20 : decode cX6_toldTrip 20 = .ok (.aload_n 0, 1) := dk_42 (dk_at dksX6_toldTrip_0 20 rfl rfl)
theorem dX6_toldTrip_21 : decode cX6_toldTrip 21 = .ok (.iload_n 1, 1) := dk_27 (dk_at dksX6_toldTrip_0 21 rfl rfl)
theorem dX6_toldTrip_22 : decode cX6_toldTrip 22 = .ok (.iconst 0, 1) := dk_3 (dk_at dksX6_toldTrip_0 22 rfl rfl)
theorem dX6_toldTrip_23 : decode cX6_toldTrip 23 = .ok (.invokevirtual 47, 3) := dk_182 0 47 (dk_at dksX6_toldTrip_1 0 rfl rfl)
theorem dX6_toldTrip_26 : decode cX6_toldTrip 26 = .ok (.ifCond .ne 11, 3) := dk_154 0 11 (dk_at dksX6_toldTrip_1 3 rfl rfl)
theorem dX6_toldTrip_29 : decode cX6_toldTrip 29 = .ok (.aload_n 0, 1) := dk_42 (dk_at dksX6_toldTrip_1 6 rfl rfl)
theorem dX6_toldTrip_30 : decode cX6_toldTrip 30 = .ok (.iconst 2, 1) := dk_5 (dk_at dksX6_toldTrip_1 7 rfl rfl)
theorem dX6_toldTrip_31 : decode cX6_toldTrip 31 = .ok (.invokevirtual 104, 3) := dk_182 0 104 (dk_at dksX6_toldTrip_1 8 rfl rfl)
theorem dX6_toldTrip_34 : decode cX6_toldTrip 34 = .ok (.goto 9, 3) := dk_167 0 9 (dk_at dksX6_toldTrip_1 11 rfl rfl)
theorem dX6_toldTrip_37 : decode cX6_toldTrip 37 = .ok (.aload_n 0, 1) := dk_42 (dk_at dksX6_toldTrip_1 14 rfl rfl)
theorem dX6_toldTrip_38 : decode cX6_toldTrip 38 = .ok (.iload_n 1, 1) := dk_27 (dk_at dksX6_toldTrip_1 15 rfl rfl)
theorem dX6_toldTrip_39 : decode cX6_toldTrip 39 = .ok (.iload_n 2, 1) := dk_28 (dk_at dksX6_toldTrip_1 16 rfl rfl)
theorem dX6_toldTrip_40 : decode cX6_toldTrip 40 = .ok (.invokevirtual 47, 3) := dk_182 0 47 (dk_at dksX6_toldTrip_1 17 rfl rfl)
theorem dX6_toldTrip_43 : decode cX6_toldTrip 43 = .ok (.ireturn, 1) := dk_172 (dk_at dksX6_toldTrip_1 20 rfl rfl)
abbrev cX6_quartersLeft : ByteArray := prog_13_method_81_code
def yX6_quartersLeft : MethodName := ⟨RX6, "quartersLeft", "(I)I"⟩
def dkwX6_quartersLeft_0 : List UInt8 := [42, 27, 16, 7, 182, 0, 161, 172]
abbrev dktX6_quartersLeft_0 : List UInt8 := dkwX6_quartersLeft_0 ++ []
theorem dksX6_quartersLeft_0 : cX6_quartersLeft.data.toList.drop 0 = dktX6_quartersLeft_0 := by decide +kernel
theorem dX6_quartersLeft_0 : decode cX6_quartersLeft 0 = .ok (.aload_n 0, 1) := dk_42 (dk_at dksX6_quartersLeft_0 0 rfl rfl)
theorem dX6_quartersLeft_1 : decode cX6_quartersLeft 1 = .ok (.iload_n 1, 1) := dk_27 (dk_at dksX6_quartersLeft_0 1 rfl rfl)
theorem dX6_quartersLeft_2 : decode cX6_quartersLeft 2 = .ok (.bipush 7, 2) := dk_16 7 (dk_at dksX6_quartersLeft_0 2 rfl rfl)
theorem dX6_quartersLeft_4 : decode cX6_quartersLeft 4 = .ok (.invokevirtual 161, 3) := dk_182 0 161 (dk_at dksX6_quartersLeft_0 4 rfl rfl)
theorem dX6_quartersLeft_7 : decode cX6_quartersLeft 7 = .ok (.ireturn, 1) := dk_172 (dk_at dksX6_quartersLeft_0 7 rfl rfl)
abbrev cX6_nextChaise : ByteArray := prog_13_method_82_code
def yX6_nextChaise : MethodName := ⟨RX6, "nextChaise", "()I"⟩
def dkwX6_nextChaise_0 : List UInt8 := [42, 42, 182, 0, 57, 182, 0, 152, 172]
abbrev dktX6_nextChaise_0 : List UInt8 := dkwX6_nextChaise_0 ++ []
theorem dksX6_nextChaise_0 : cX6_nextChaise.data.toList.drop 0 = dktX6_nextChaise_0 := by decide +kernel
theorem dX6_nextChaise_0 : decode cX6_nextChaise 0 = .ok (.aload_n 0, 1) := dk_42 (dk_at dksX6_nextChaise_0 0 rfl rfl)
theorem dX6_nextChaise_1 : decode cX6_nextChaise 1 = .ok (.aload_n 0, 1) := dk_42 (dk_at dksX6_nextChaise_0 1 rfl rfl)
theorem dX6_nextChaise_2 : decode cX6_nextChaise 2 = .ok (.invokevirtual 57, 3) := dk_182 0 57 (dk_at dksX6_nextChaise_0 2 rfl rfl)
theorem dX6_nextChaise_5 : decode cX6_nextChaise 5 = .ok (.invokevirtual 152, 3) := dk_182 0 152 (dk_at dksX6_nextChaise_0 5 rfl rfl)
theorem dX6_nextChaise_8 : decode cX6_nextChaise 8 = .ok (.ireturn, 1) := dk_172 (dk_at dksX6_nextChaise_0 8 rfl rfl)
abbrev cX6_chaiseInRepair : ByteArray := prog_13_method_83_code
def yX6_chaiseInRepair : MethodName := ⟨RX6, "chaiseInRepair", "()I"⟩
def dkwX6_chaiseInRepair_0 : List UInt8 := [42, 42, 180, 0, 7, 16, 9, 46, 182, 0, 152, 172]
abbrev dktX6_chaiseInRepair_0 : List UInt8 := dkwX6_chaiseInRepair_0 ++ []
theorem dksX6_chaiseInRepair_0 : cX6_chaiseInRepair.data.toList.drop 0 = dktX6_chaiseInRepair_0 := by decide +kernel
theorem dX6_chaiseInRepair_0 : decode cX6_chaiseInRepair 0 = .ok (.aload_n 0, 1) := dk_42 (dk_at dksX6_chaiseInRepair_0 0 rfl rfl)
theorem dX6_chaiseInRepair_1 : decode cX6_chaiseInRepair 1 = .ok (.aload_n 0, 1) := dk_42 (dk_at dksX6_chaiseInRepair_0 1 rfl rfl)
theorem dX6_chaiseInRepair_2 : decode cX6_chaiseInRepair 2 = .ok (.getfield 7, 3) := dk_180 0 7 (dk_at dksX6_chaiseInRepair_0 2 rfl rfl)
theorem dX6_chaiseInRepair_5 : decode cX6_chaiseInRepair 5 = .ok (.bipush 9, 2) := dk_16 9 (dk_at dksX6_chaiseInRepair_0 5 rfl rfl)
theorem dX6_chaiseInRepair_7 : decode cX6_chaiseInRepair 7 = .ok (.iaload, 1) := dk_46 (dk_at dksX6_chaiseInRepair_0 7 rfl rfl)
theorem dX6_chaiseInRepair_8 : decode cX6_chaiseInRepair 8 = .ok (.invokevirtual 152, 3) := dk_182 0 152 (dk_at dksX6_chaiseInRepair_0 8 rfl rfl)
theorem dX6_chaiseInRepair_11 : decode cX6_chaiseInRepair 11 = .ok (.ireturn, 1) := dk_172 (dk_at dksX6_chaiseInRepair_0 11 rfl rfl)
abbrev cX6_repairLeft : ByteArray := prog_13_method_84_code
def yX6_repairLeft : MethodName := ⟨RX6, "repairLeft", "()I"⟩
def dkwX6_repairLeft_1 : List UInt8 := [42, 180, 0, 7, 16, 10, 46, 172]
abbrev dktX6_repairLeft_1 : List UInt8 := dkwX6_repairLeft_1 ++ []
def dkwX6_repairLeft_0 : List UInt8 := [42, 3, 181, 0, 25, 42, 180, 0, 7, 16, 9, 46, 2, 160, 0, 11, 42, 4, 182, 0, 104, 167, 0, 10]
abbrev dktX6_repairLeft_0 : List UInt8 := dkwX6_repairLeft_0 ++ dktX6_repairLeft_1
theorem dksX6_repairLeft_0 : cX6_repairLeft.data.toList.drop 0 = dktX6_repairLeft_0 := by decide +kernel
theorem dksX6_repairLeft_1 : cX6_repairLeft.data.toList.drop 24 = dktX6_repairLeft_1 := dk_seg dksX6_repairLeft_0 24 rfl rfl
theorem dX6_repairLeft_0 : decode cX6_repairLeft 0 = .ok (.aload_n 0, 1) := dk_42 (dk_at dksX6_repairLeft_0 0 rfl rfl)
theorem dX6_repairLeft_1 : decode cX6_repairLeft 1 = .ok (.iconst 0, 1) := dk_3 (dk_at dksX6_repairLeft_0 1 rfl rfl)
theorem dX6_repairLeft_2 : decode cX6_repairLeft 2 = .ok (.putfield 25, 3) := dk_181 0 25 (dk_at dksX6_repairLeft_0 2 rfl rfl)
theorem dX6_repairLeft_5 : decode cX6_repairLeft 5 = .ok (.aload_n 0, 1) := dk_42 (dk_at dksX6_repairLeft_0 5 rfl rfl)
theorem dX6_repairLeft_6 : decode cX6_repairLeft 6 = .ok (.getfield 7, 3) := dk_180 0 7 (dk_at dksX6_repairLeft_0 6 rfl rfl)
theorem dX6_repairLeft_9 : decode cX6_repairLeft 9 = .ok (.bipush 9, 2) := dk_16 9 (dk_at dksX6_repairLeft_0 9 rfl rfl)
theorem dX6_repairLeft_11 : decode cX6_repairLeft 11 = .ok (.iaload, 1) := dk_46 (dk_at dksX6_repairLeft_0 11 rfl rfl)
theorem dX6_repairLeft_12 : decode cX6_repairLeft 12 = .ok (.iconst (-1), 1) := dk_2 (dk_at dksX6_repairLeft_0 12 rfl rfl)
theorem dX6_repairLeft_13 : decode cX6_repairLeft 13 = .ok (.if_icmp .ne 11, 3) := dk_160 0 11 (dk_at dksX6_repairLeft_0 13 rfl rfl)
theorem dX6_repairLeft_16 : decode cX6_repairLeft 16 = .ok (.aload_n 0, 1) := dk_42 (dk_at dksX6_repairLeft_0 16 rfl rfl)
theorem dX6_repairLeft_17 : decode cX6_repairLeft 17 = .ok (.iconst 1, 1) := dk_4 (dk_at dksX6_repairLeft_0 17 rfl rfl)
theorem dX6_repairLeft_18 : decode cX6_repairLeft 18 = .ok (.invokevirtual 104, 3) := dk_182 0 104 (dk_at dksX6_repairLeft_0 18 rfl rfl)
theorem dX6_repairLeft_21 : decode cX6_repairLeft 21 = .ok (.goto 10, 3) := dk_167 0 10 (dk_at dksX6_repairLeft_0 21 rfl rfl)
theorem dX6_repairLeft_24 : decode cX6_repairLeft 24 = .ok (.aload_n 0, 1) := dk_42 (dk_at dksX6_repairLeft_1 0 rfl rfl)
theorem dX6_repairLeft_25 : decode cX6_repairLeft 25 = .ok (.getfield 7, 3) := dk_180 0 7 (dk_at dksX6_repairLeft_1 1 rfl rfl)
theorem dX6_repairLeft_28 : decode cX6_repairLeft 28 = .ok (.bipush 10, 2) := dk_16 10 (dk_at dksX6_repairLeft_1 4 rfl rfl)
theorem dX6_repairLeft_30 : decode cX6_repairLeft 30 = .ok (.iaload, 1) := dk_46 (dk_at dksX6_repairLeft_1 6 rfl rfl)
theorem dX6_repairLeft_31 : decode cX6_repairLeft 31 = .ok (.ireturn, 1) := dk_172 (dk_at dksX6_repairLeft_1 7 rfl rfl)
abbrev cX6_whyNoDeparture : ByteArray := prog_13_method_85_code
def yX6_whyNoDeparture : MethodName := ⟨RX6, "whyNoDeparture", "()I"⟩
def dkwX6_whyNoDeparture_0 : List UInt8 := [42, 3, 181, 0, 25, 42, 182, 0, 95, 172]
abbrev dktX6_whyNoDeparture_0 : List UInt8 := dkwX6_whyNoDeparture_0 ++ []
theorem dksX6_whyNoDeparture_0 : cX6_whyNoDeparture.data.toList.drop 0 = dktX6_whyNoDeparture_0 := by decide +kernel
theorem dX6_whyNoDeparture_0 : decode cX6_whyNoDeparture 0 = .ok (.aload_n 0, 1) := dk_42 (dk_at dksX6_whyNoDeparture_0 0 rfl rfl)
theorem dX6_whyNoDeparture_1 : decode cX6_whyNoDeparture 1 = .ok (.iconst 0, 1) := dk_3 (dk_at dksX6_whyNoDeparture_0 1 rfl rfl)
theorem dX6_whyNoDeparture_2 : decode cX6_whyNoDeparture 2 = .ok (.putfield 25, 3) := dk_181 0 25 (dk_at dksX6_whyNoDeparture_0 2 rfl rfl)
theorem dX6_whyNoDeparture_5 : decode cX6_whyNoDeparture 5 = .ok (.aload_n 0, 1) := dk_42 (dk_at dksX6_whyNoDeparture_0 5 rfl rfl)
theorem dX6_whyNoDeparture_6 : decode cX6_whyNoDeparture 6 = .ok (.invokevirtual 95, 3) := dk_182 0 95 (dk_at dksX6_whyNoDeparture_0 6 rfl rfl)
theorem dX6_whyNoDeparture_9 : decode cX6_whyNoDeparture 9 = .ok (.ireturn, 1) := dk_172 (dk_at dksX6_whyNoDeparture_0 9 rfl rfl)
abbrev cX6_quartersToArrival : ByteArray := prog_13_method_88_code
def yX6_quartersToArrival : MethodName := ⟨RX6, "quartersToArrival", "(I)I"⟩
def dkwX6_quartersToArrival_3 : List UInt8 := [182, 0, 104, 172]
abbrev dktX6_quartersToArrival_3 : List UInt8 := dkwX6_quartersToArrival_3 ++ []
def dkwX6_quartersToArrival_2 : List UInt8 := [132, 2, 1, 167, 255, 231, 42, 182, 0, 167, 28, 17, 1, 44, 163, 0, 7, 28, 167, 0, 8, 42, 5]
abbrev dktX6_quartersToArrival_2 : List UInt8 := dkwX6_quartersToArrival_2 ++ dktX6_quartersToArrival_3
def dkwX6_quartersToArrival_1 : List UInt8 := [61, 28, 17, 1, 44, 163, 0, 24, 42, 27, 5, 182, 0, 36, 5, 159, 0, 14, 42, 182, 0, 101, 62]
abbrev dktX6_quartersToArrival_1 : List UInt8 := dkwX6_quartersToArrival_1 ++ dktX6_quartersToArrival_2
def dkwX6_quartersToArrival_0 : List UInt8 := [42, 3, 181, 0, 25, 42, 27, 182, 0, 113, 154, 0, 9, 42, 4, 182, 0, 104, 172, 42, 182, 0, 164, 3]
abbrev dktX6_quartersToArrival_0 : List UInt8 := dkwX6_quartersToArrival_0 ++ dktX6_quartersToArrival_1
theorem dksX6_quartersToArrival_0 : cX6_quartersToArrival.data.toList.drop 0 = dktX6_quartersToArrival_0 := by decide +kernel
theorem dksX6_quartersToArrival_1 : cX6_quartersToArrival.data.toList.drop 24 = dktX6_quartersToArrival_1 := dk_seg dksX6_quartersToArrival_0 24 rfl rfl
theorem dksX6_quartersToArrival_2 : cX6_quartersToArrival.data.toList.drop 47 = dktX6_quartersToArrival_2 := dk_seg dksX6_quartersToArrival_1 23 rfl rfl
theorem dksX6_quartersToArrival_3 : cX6_quartersToArrival.data.toList.drop 70 = dktX6_quartersToArrival_3 := dk_seg dksX6_quartersToArrival_2 23 rfl rfl
theorem dX6_quartersToArrival_0 : decode cX6_quartersToArrival 0 = .ok (.aload_n 0, 1) := dk_42 (dk_at dksX6_quartersToArrival_0 0 rfl rfl)
theorem dX6_quartersToArrival_1 : decode cX6_quartersToArrival 1 = .ok (.iconst 0, 1) := dk_3 (dk_at dksX6_quartersToArrival_0 1 rfl rfl)
theorem dX6_quartersToArrival_2 : decode cX6_quartersToArrival 2 = .ok (.putfield 25, 3) := dk_181 0 25 (dk_at dksX6_quartersToArrival_0 2 rfl rfl)
theorem dX6_quartersToArrival_5 : decode cX6_quartersToArrival 5 = .ok (.aload_n 0, 1) := dk_42 (dk_at dksX6_quartersToArrival_0 5 rfl rfl)
theorem dX6_quartersToArrival_6 : decode cX6_quartersToArrival 6 = .ok (.iload_n 1, 1) := dk_27 (dk_at dksX6_quartersToArrival_0 6 rfl rfl)
theorem dX6_quartersToArrival_7 : decode cX6_quartersToArrival 7 = .ok (.invokevirtual 113, 3) := dk_182 0 113 (dk_at dksX6_quartersToArrival_0 7 rfl rfl)
theorem dX6_quartersToArrival_10 : decode cX6_quartersToArrival 10 = .ok (.ifCond .ne 9, 3) := dk_154 0 9 (dk_at dksX6_quartersToArrival_0 10 rfl rfl)
theorem dX6_quartersToArrival_13 : decode cX6_quartersToArrival 13 = .ok (.aload_n 0, 1) := dk_42 (dk_at dksX6_quartersToArrival_0 13 rfl rfl)
theorem dX6_quartersToArrival_14 : decode cX6_quartersToArrival 14 = .ok (.iconst 1, 1) := dk_4 (dk_at dksX6_quartersToArrival_0 14 rfl rfl)
theorem dX6_quartersToArrival_15 : decode cX6_quartersToArrival 15 = .ok (.invokevirtual 104, 3) := dk_182 0 104 (dk_at dksX6_quartersToArrival_0 15 rfl rfl)
theorem dX6_quartersToArrival_18 : decode cX6_quartersToArrival 18 = .ok (.ireturn, 1) := dk_172 (dk_at dksX6_quartersToArrival_0 18 rfl rfl)
theorem dX6_quartersToArrival_19 : decode cX6_quartersToArrival 19 = .ok (.aload_n 0, 1) := dk_42 (dk_at dksX6_quartersToArrival_0 19 rfl rfl)
theorem dX6_quartersToArrival_20 : decode cX6_quartersToArrival 20 = .ok (.invokevirtual 164, 3) := dk_182 0 164 (dk_at dksX6_quartersToArrival_0 20 rfl rfl)
theorem dX6_quartersToArrival_23 : decode cX6_quartersToArrival 23 = .ok (.iconst 0, 1) := dk_3 (dk_at dksX6_quartersToArrival_0 23 rfl rfl)
theorem dX6_quartersToArrival_24 : decode cX6_quartersToArrival 24 = .ok (.istore_n 2, 1) := dk_61 (dk_at dksX6_quartersToArrival_1 0 rfl rfl)
theorem dX6_quartersToArrival_25 : decode cX6_quartersToArrival 25 = .ok (.iload_n 2, 1) := dk_28 (dk_at dksX6_quartersToArrival_1 1 rfl rfl)
theorem dX6_quartersToArrival_26 : decode cX6_quartersToArrival 26 = .ok (.sipush 300, 3) := dk_17 1 44 (dk_at dksX6_quartersToArrival_1 2 rfl rfl)
theorem dX6_quartersToArrival_29 : decode cX6_quartersToArrival 29 = .ok (.if_icmp .gt 24, 3) := dk_163 0 24 (dk_at dksX6_quartersToArrival_1 5 rfl rfl)
theorem dX6_quartersToArrival_32 : decode cX6_quartersToArrival 32 = .ok (.aload_n 0, 1) := dk_42 (dk_at dksX6_quartersToArrival_1 8 rfl rfl)
theorem dX6_quartersToArrival_33 : decode cX6_quartersToArrival 33 = .ok (.iload_n 1, 1) := dk_27 (dk_at dksX6_quartersToArrival_1 9 rfl rfl)
theorem dX6_quartersToArrival_34 : decode cX6_quartersToArrival 34 = .ok (.iconst 2, 1) := dk_5 (dk_at dksX6_quartersToArrival_1 10 rfl rfl)
theorem dX6_quartersToArrival_35 : decode cX6_quartersToArrival 35 = .ok (.invokevirtual 36, 3) := dk_182 0 36 (dk_at dksX6_quartersToArrival_1 11 rfl rfl)
theorem dX6_quartersToArrival_38 : decode cX6_quartersToArrival 38 = .ok (.iconst 2, 1) := dk_5 (dk_at dksX6_quartersToArrival_1 14 rfl rfl)
theorem dX6_quartersToArrival_39 : decode cX6_quartersToArrival 39 = .ok (.if_icmp .eq 14, 3) := dk_159 0 14 (dk_at dksX6_quartersToArrival_1 15 rfl rfl)
theorem dX6_quartersToArrival_42 : decode cX6_quartersToArrival 42 = .ok (.aload_n 0, 1) := dk_42 (dk_at dksX6_quartersToArrival_1 18 rfl rfl)
theorem dX6_quartersToArrival_43 : decode cX6_quartersToArrival 43 = .ok (.invokevirtual 101, 3) := dk_182 0 101 (dk_at dksX6_quartersToArrival_1 19 rfl rfl)
theorem dX6_quartersToArrival_46 : decode cX6_quartersToArrival 46 = .ok (.istore_n 3, 1) := dk_62 (dk_at dksX6_quartersToArrival_1 22 rfl rfl)
theorem dX6_quartersToArrival_47 : decode cX6_quartersToArrival 47 = .ok (.iinc 2 1, 3) := dk_132 2 1 (dk_at dksX6_quartersToArrival_2 0 rfl rfl)
theorem dX6_quartersToArrival_50 : decode cX6_quartersToArrival 50 = .ok (.goto (-25), 3) := dk_167 255 231 (dk_at dksX6_quartersToArrival_2 3 rfl rfl)
theorem dX6_quartersToArrival_53 : decode cX6_quartersToArrival 53 = .ok (.aload_n 0, 1) := dk_42 (dk_at dksX6_quartersToArrival_2 6 rfl rfl)
theorem dX6_quartersToArrival_54 : decode cX6_quartersToArrival 54 = .ok (.invokevirtual 167, 3) := dk_182 0 167 (dk_at dksX6_quartersToArrival_2 7 rfl rfl)
theorem dX6_quartersToArrival_57 : decode cX6_quartersToArrival 57 = .ok (.iload_n 2, 1) := dk_28 (dk_at dksX6_quartersToArrival_2 10 rfl rfl)
theorem dX6_quartersToArrival_58 : decode cX6_quartersToArrival 58 = .ok (.sipush 300, 3) := dk_17 1 44 (dk_at dksX6_quartersToArrival_2 11 rfl rfl)
theorem dX6_quartersToArrival_61 : decode cX6_quartersToArrival 61 = .ok (.if_icmp .gt 7, 3) := dk_163 0 7 (dk_at dksX6_quartersToArrival_2 14 rfl rfl)
theorem dX6_quartersToArrival_64 : decode cX6_quartersToArrival 64 = .ok (.iload_n 2, 1) := dk_28 (dk_at dksX6_quartersToArrival_2 17 rfl rfl)
theorem dX6_quartersToArrival_65 : decode cX6_quartersToArrival 65 = .ok (.goto 8, 3) := dk_167 0 8 (dk_at dksX6_quartersToArrival_2 18 rfl rfl)
theorem dX6_quartersToArrival_68 : decode cX6_quartersToArrival 68 = .ok (.aload_n 0, 1) := dk_42 (dk_at dksX6_quartersToArrival_2 21 rfl rfl)
theorem dX6_quartersToArrival_69 : decode cX6_quartersToArrival 69 = .ok (.iconst 2, 1) := dk_5 (dk_at dksX6_quartersToArrival_2 22 rfl rfl)
theorem dX6_quartersToArrival_70 : decode cX6_quartersToArrival 70 = .ok (.invokevirtual 104, 3) := dk_182 0 104 (dk_at dksX6_quartersToArrival_3 0 rfl rfl)
theorem dX6_quartersToArrival_73 : decode cX6_quartersToArrival 73 = .ok (.ireturn, 1) := dk_172 (dk_at dksX6_quartersToArrival_3 3 rfl rfl)
abbrev cX6_keepsAside : ByteArray := prog_13_method_86_code
def yX6_keepsAside : MethodName := ⟨RX6, "keepsAside", "()V"⟩
def dkwX6_keepsAside_1 : List UInt8 := [167, 255, 234, 177]
abbrev dktX6_keepsAside_1 : List UInt8 := dkwX6_keepsAside_1 ++ []
def dkwX6_keepsAside_0 : List UInt8 := [3, 60, 27, 17, 1, 14, 162, 0, 21, 42, 180, 0, 19, 27, 42, 180, 0, 7, 27, 46, 79, 132, 1, 1]
abbrev dktX6_keepsAside_0 : List UInt8 := dkwX6_keepsAside_0 ++ dktX6_keepsAside_1
theorem dksX6_keepsAside_0 : cX6_keepsAside.data.toList.drop 0 = dktX6_keepsAside_0 := by decide +kernel
theorem dksX6_keepsAside_1 : cX6_keepsAside.data.toList.drop 24 = dktX6_keepsAside_1 := dk_seg dksX6_keepsAside_0 24 rfl rfl
theorem dX6_keepsAside_0 : decode cX6_keepsAside 0 = .ok (.iconst 0, 1) := dk_3 (dk_at dksX6_keepsAside_0 0 rfl rfl)
theorem dX6_keepsAside_1 : decode cX6_keepsAside 1 = .ok (.istore_n 1, 1) := dk_60 (dk_at dksX6_keepsAside_0 1 rfl rfl)
theorem dX6_keepsAside_2 : decode cX6_keepsAside 2 = .ok (.iload_n 1, 1) := dk_27 (dk_at dksX6_keepsAside_0 2 rfl rfl)
theorem dX6_keepsAside_3 : decode cX6_keepsAside 3 = .ok (.sipush 270, 3) := dk_17 1 14 (dk_at dksX6_keepsAside_0 3 rfl rfl)
theorem dX6_keepsAside_6 : decode cX6_keepsAside 6 = .ok (.if_icmp .ge 21, 3) := dk_162 0 21 (dk_at dksX6_keepsAside_0 6 rfl rfl)
theorem dX6_keepsAside_9 : decode cX6_keepsAside 9 = .ok (.aload_n 0, 1) := dk_42 (dk_at dksX6_keepsAside_0 9 rfl rfl)
theorem dX6_keepsAside_10 : decode cX6_keepsAside 10 = .ok (.getfield 19, 3) := dk_180 0 19 (dk_at dksX6_keepsAside_0 10 rfl rfl)
theorem dX6_keepsAside_13 : decode cX6_keepsAside 13 = .ok (.iload_n 1, 1) := dk_27 (dk_at dksX6_keepsAside_0 13 rfl rfl)
theorem dX6_keepsAside_14 : decode cX6_keepsAside 14 = .ok (.aload_n 0, 1) := dk_42 (dk_at dksX6_keepsAside_0 14 rfl rfl)
theorem dX6_keepsAside_15 : decode cX6_keepsAside 15 = .ok (.getfield 7, 3) := dk_180 0 7 (dk_at dksX6_keepsAside_0 15 rfl rfl)
theorem dX6_keepsAside_18 : decode cX6_keepsAside 18 = .ok (.iload_n 1, 1) := dk_27 (dk_at dksX6_keepsAside_0 18 rfl rfl)
theorem dX6_keepsAside_19 : decode cX6_keepsAside 19 = .ok (.iaload, 1) := dk_46 (dk_at dksX6_keepsAside_0 19 rfl rfl)
theorem dX6_keepsAside_20 : decode cX6_keepsAside 20 = .ok (.iastore, 1) := dk_79 (dk_at dksX6_keepsAside_0 20 rfl rfl)
theorem dX6_keepsAside_21 : decode cX6_keepsAside 21 = .ok (.iinc 1 1, 3) := dk_132 1 1 (dk_at dksX6_keepsAside_0 21 rfl rfl)
theorem dX6_keepsAside_24 : decode cX6_keepsAside 24 = .ok (.goto (-22), 3) := dk_167 255 234 (dk_at dksX6_keepsAside_1 0 rfl rfl)
theorem dX6_keepsAside_27 : decode cX6_keepsAside 27 = .ok (.return_, 1) := dk_177 (dk_at dksX6_keepsAside_1 3 rfl rfl)
abbrev cX6_putsBack : ByteArray := prog_13_method_87_code
def yX6_putsBack : MethodName := ⟨RX6, "putsBack", "()V"⟩
def dkwX6_putsBack_1 : List UInt8 := [167, 255, 234, 177]
abbrev dktX6_putsBack_1 : List UInt8 := dkwX6_putsBack_1 ++ []
def dkwX6_putsBack_0 : List UInt8 := [3, 60, 27, 17, 1, 14, 162, 0, 21, 42, 180, 0, 7, 27, 42, 180, 0, 19, 27, 46, 79, 132, 1, 1]
abbrev dktX6_putsBack_0 : List UInt8 := dkwX6_putsBack_0 ++ dktX6_putsBack_1
theorem dksX6_putsBack_0 : cX6_putsBack.data.toList.drop 0 = dktX6_putsBack_0 := by decide +kernel
theorem dksX6_putsBack_1 : cX6_putsBack.data.toList.drop 24 = dktX6_putsBack_1 := dk_seg dksX6_putsBack_0 24 rfl rfl
theorem dX6_putsBack_0 : decode cX6_putsBack 0 = .ok (.iconst 0, 1) := dk_3 (dk_at dksX6_putsBack_0 0 rfl rfl)
theorem dX6_putsBack_1 : decode cX6_putsBack 1 = .ok (.istore_n 1, 1) := dk_60 (dk_at dksX6_putsBack_0 1 rfl rfl)
theorem dX6_putsBack_2 : decode cX6_putsBack 2 = .ok (.iload_n 1, 1) := dk_27 (dk_at dksX6_putsBack_0 2 rfl rfl)
theorem dX6_putsBack_3 : decode cX6_putsBack 3 = .ok (.sipush 270, 3) := dk_17 1 14 (dk_at dksX6_putsBack_0 3 rfl rfl)
theorem dX6_putsBack_6 : decode cX6_putsBack 6 = .ok (.if_icmp .ge 21, 3) := dk_162 0 21 (dk_at dksX6_putsBack_0 6 rfl rfl)
theorem dX6_putsBack_9 : decode cX6_putsBack 9 = .ok (.aload_n 0, 1) := dk_42 (dk_at dksX6_putsBack_0 9 rfl rfl)
theorem dX6_putsBack_10 : decode cX6_putsBack 10 = .ok (.getfield 7, 3) := dk_180 0 7 (dk_at dksX6_putsBack_0 10 rfl rfl)
theorem dX6_putsBack_13 : decode cX6_putsBack 13 = .ok (.iload_n 1, 1) := dk_27 (dk_at dksX6_putsBack_0 13 rfl rfl)
theorem dX6_putsBack_14 : decode cX6_putsBack 14 = .ok (.aload_n 0, 1) := dk_42 (dk_at dksX6_putsBack_0 14 rfl rfl)
theorem dX6_putsBack_15 : decode cX6_putsBack 15 = .ok (.getfield 19, 3) := dk_180 0 19 (dk_at dksX6_putsBack_0 15 rfl rfl)
theorem dX6_putsBack_18 : decode cX6_putsBack 18 = .ok (.iload_n 1, 1) := dk_27 (dk_at dksX6_putsBack_0 18 rfl rfl)
theorem dX6_putsBack_19 : decode cX6_putsBack 19 = .ok (.iaload, 1) := dk_46 (dk_at dksX6_putsBack_0 19 rfl rfl)
theorem dX6_putsBack_20 : decode cX6_putsBack 20 = .ok (.iastore, 1) := dk_79 (dk_at dksX6_putsBack_0 20 rfl rfl)
theorem dX6_putsBack_21 : decode cX6_putsBack 21 = .ok (.iinc 1 1, 3) := dk_132 1 1 (dk_at dksX6_putsBack_0 21 rfl rfl)
theorem dX6_putsBack_24 : decode cX6_putsBack 24 = .ok (.goto (-22), 3) := dk_167 255 234 (dk_at dksX6_putsBack_1 0 rfl rfl)
theorem dX6_putsBack_27 : decode cX6_putsBack 27 = .ok (.return_, 1) := dk_177 (dk_at dksX6_putsBack_1 3 rfl rfl)
abbrev cX6_departuresIn : ByteArray := prog_13_method_89_code
def yX6_departuresIn : MethodName := ⟨RX6, "departuresIn", "(I)I"⟩
def dkwX6_departuresIn_1 : List UInt8 := [182, 0, 164, 42, 27, 182, 0, 117, 61, 42, 182, 0, 167, 28, 172]
abbrev dktX6_departuresIn_1 : List UInt8 := dkwX6_departuresIn_1 ++ []
def dkwX6_departuresIn_0 : List UInt8 := [42, 3, 181, 0, 25, 27, 4, 16, 99, 184, 0, 29, 154, 0, 9, 42, 4, 182, 0, 104, 172, 42]
abbrev dktX6_departuresIn_0 : List UInt8 := dkwX6_departuresIn_0 ++ dktX6_departuresIn_1
theorem dksX6_departuresIn_0 : cX6_departuresIn.data.toList.drop 0 = dktX6_departuresIn_0 := by decide +kernel
theorem dksX6_departuresIn_1 : cX6_departuresIn.data.toList.drop 22 = dktX6_departuresIn_1 := dk_seg dksX6_departuresIn_0 22 rfl rfl
theorem dX6_departuresIn_0 : decode cX6_departuresIn 0 = .ok (.aload_n 0, 1) := dk_42 (dk_at dksX6_departuresIn_0 0 rfl rfl)
theorem dX6_departuresIn_1 : decode cX6_departuresIn 1 = .ok (.iconst 0, 1) := dk_3 (dk_at dksX6_departuresIn_0 1 rfl rfl)
theorem dX6_departuresIn_2 : decode cX6_departuresIn 2 = .ok (.putfield 25, 3) := dk_181 0 25 (dk_at dksX6_departuresIn_0 2 rfl rfl)
theorem dX6_departuresIn_5 : decode cX6_departuresIn 5 = .ok (.iload_n 1, 1) := dk_27 (dk_at dksX6_departuresIn_0 5 rfl rfl)
theorem dX6_departuresIn_6 : decode cX6_departuresIn 6 = .ok (.iconst 1, 1) := dk_4 (dk_at dksX6_departuresIn_0 6 rfl rfl)
theorem dX6_departuresIn_7 : decode cX6_departuresIn 7 = .ok (.bipush 99, 2) := dk_16 99 (dk_at dksX6_departuresIn_0 7 rfl rfl)
theorem dX6_departuresIn_9 : decode cX6_departuresIn 9 = .ok (.invokestatic 29, 3) := dk_184 0 29 (dk_at dksX6_departuresIn_0 9 rfl rfl)
theorem dX6_departuresIn_12 : decode cX6_departuresIn 12 = .ok (.ifCond .ne 9, 3) := dk_154 0 9 (dk_at dksX6_departuresIn_0 12 rfl rfl)
theorem dX6_departuresIn_15 : decode cX6_departuresIn 15 = .ok (.aload_n 0, 1) := dk_42 (dk_at dksX6_departuresIn_0 15 rfl rfl)
theorem dX6_departuresIn_16 : decode cX6_departuresIn 16 = .ok (.iconst 1, 1) := dk_4 (dk_at dksX6_departuresIn_0 16 rfl rfl)
theorem dX6_departuresIn_17 : decode cX6_departuresIn 17 = .ok (.invokevirtual 104, 3) := dk_182 0 104 (dk_at dksX6_departuresIn_0 17 rfl rfl)
theorem dX6_departuresIn_20 : decode cX6_departuresIn 20 = .ok (.ireturn, 1) := dk_172 (dk_at dksX6_departuresIn_0 20 rfl rfl)
theorem dX6_departuresIn_21 : decode cX6_departuresIn 21 = .ok (.aload_n 0, 1) := dk_42 (dk_at dksX6_departuresIn_0 21 rfl rfl)
theorem dX6_departuresIn_22 : decode cX6_departuresIn 22 = .ok (.invokevirtual 164, 3) := dk_182 0 164 (dk_at dksX6_departuresIn_1 0 rfl rfl)
theorem dX6_departuresIn_25 : decode cX6_departuresIn 25 = .ok (.aload_n 0, 1) := dk_42 (dk_at dksX6_departuresIn_1 3 rfl rfl)
theorem dX6_departuresIn_26 : decode cX6_departuresIn 26 = .ok (.iload_n 1, 1) := dk_27 (dk_at dksX6_departuresIn_1 4 rfl rfl)
theorem dX6_departuresIn_27 : decode cX6_departuresIn 27 = .ok (.invokevirtual 117, 3) := dk_182 0 117 (dk_at dksX6_departuresIn_1 5 rfl rfl)
theorem dX6_departuresIn_30 : decode cX6_departuresIn 30 = .ok (.istore_n 2, 1) := dk_61 (dk_at dksX6_departuresIn_1 8 rfl rfl)
theorem dX6_departuresIn_31 : decode cX6_departuresIn 31 = .ok (.aload_n 0, 1) := dk_42 (dk_at dksX6_departuresIn_1 9 rfl rfl)
theorem dX6_departuresIn_32 : decode cX6_departuresIn 32 = .ok (.invokevirtual 167, 3) := dk_182 0 167 (dk_at dksX6_departuresIn_1 10 rfl rfl)
theorem dX6_departuresIn_35 : decode cX6_departuresIn 35 = .ok (.iload_n 2, 1) := dk_28 (dk_at dksX6_departuresIn_1 13 rfl rfl)
theorem dX6_departuresIn_36 : decode cX6_departuresIn 36 = .ok (.ireturn, 1) := dk_172 (dk_at dksX6_departuresIn_1 14 rfl rfl)
abbrev cX6_incomeByGuests : ByteArray := prog_13_method_91_code
def yX6_incomeByGuests : MethodName := ⟨RX6, "incomeByGuests", "()I"⟩
def dkwX6_incomeByGuests_0 : List UInt8 := [42, 3, 181, 0, 25, 42, 182, 0, 170, 172]
abbrev dktX6_incomeByGuests_0 : List UInt8 := dkwX6_incomeByGuests_0 ++ []
theorem dksX6_incomeByGuests_0 : cX6_incomeByGuests.data.toList.drop 0 = dktX6_incomeByGuests_0 := by decide +kernel
theorem dX6_incomeByGuests_0 : decode cX6_incomeByGuests 0 = .ok (.aload_n 0, 1) := dk_42 (dk_at dksX6_incomeByGuests_0 0 rfl rfl)
theorem dX6_incomeByGuests_1 : decode cX6_incomeByGuests 1 = .ok (.iconst 0, 1) := dk_3 (dk_at dksX6_incomeByGuests_0 1 rfl rfl)
theorem dX6_incomeByGuests_2 : decode cX6_incomeByGuests 2 = .ok (.putfield 25, 3) := dk_181 0 25 (dk_at dksX6_incomeByGuests_0 2 rfl rfl)
theorem dX6_incomeByGuests_5 : decode cX6_incomeByGuests 5 = .ok (.aload_n 0, 1) := dk_42 (dk_at dksX6_incomeByGuests_0 5 rfl rfl)
theorem dX6_incomeByGuests_6 : decode cX6_incomeByGuests 6 = .ok (.invokevirtual 170, 3) := dk_182 0 170 (dk_at dksX6_incomeByGuests_0 6 rfl rfl)
theorem dX6_incomeByGuests_9 : decode cX6_incomeByGuests 9 = .ok (.ireturn, 1) := dk_172 (dk_at dksX6_incomeByGuests_0 9 rfl rfl)
abbrev cX6_income : ByteArray := prog_13_method_90_code
def yX6_income : MethodName := ⟨RX6, "income", "()I"⟩
def dkwX6_income_1 : List UInt8 := [180, 0, 7, 16, 14, 46, 96, 172]
abbrev dktX6_income_1 : List UInt8 := dkwX6_income_1 ++ []
def dkwX6_income_0 : List UInt8 := [42, 180, 0, 7, 16, 11, 46, 42, 180, 0, 7, 16, 12, 46, 96, 42, 180, 0, 7, 16, 13, 46, 96, 42]
abbrev dktX6_income_0 : List UInt8 := dkwX6_income_0 ++ dktX6_income_1
theorem dksX6_income_0 : cX6_income.data.toList.drop 0 = dktX6_income_0 := by decide +kernel
theorem dksX6_income_1 : cX6_income.data.toList.drop 24 = dktX6_income_1 := dk_seg dksX6_income_0 24 rfl rfl
theorem dX6_income_0 : decode cX6_income 0 = .ok (.aload_n 0, 1) := dk_42 (dk_at dksX6_income_0 0 rfl rfl)
theorem dX6_income_1 : decode cX6_income 1 = .ok (.getfield 7, 3) := dk_180 0 7 (dk_at dksX6_income_0 1 rfl rfl)
theorem dX6_income_4 : decode cX6_income 4 = .ok (.bipush 11, 2) := dk_16 11 (dk_at dksX6_income_0 4 rfl rfl)
theorem dX6_income_6 : decode cX6_income 6 = .ok (.iaload, 1) := dk_46 (dk_at dksX6_income_0 6 rfl rfl)
theorem dX6_income_7 : decode cX6_income 7 = .ok (.aload_n 0, 1) := dk_42 (dk_at dksX6_income_0 7 rfl rfl)
theorem dX6_income_8 : decode cX6_income 8 = .ok (.getfield 7, 3) := dk_180 0 7 (dk_at dksX6_income_0 8 rfl rfl)
theorem dX6_income_11 : decode cX6_income 11 = .ok (.bipush 12, 2) := dk_16 12 (dk_at dksX6_income_0 11 rfl rfl)
theorem dX6_income_13 : decode cX6_income 13 = .ok (.iaload, 1) := dk_46 (dk_at dksX6_income_0 13 rfl rfl)
theorem dX6_income_14 : decode cX6_income 14 = .ok (.iadd, 1) := dk_96 (dk_at dksX6_income_0 14 rfl rfl)
theorem dX6_income_15 : decode cX6_income 15 = .ok (.aload_n 0, 1) := dk_42 (dk_at dksX6_income_0 15 rfl rfl)
theorem dX6_income_16 : decode cX6_income 16 = .ok (.getfield 7, 3) := dk_180 0 7 (dk_at dksX6_income_0 16 rfl rfl)
theorem dX6_income_19 : decode cX6_income 19 = .ok (.bipush 13, 2) := dk_16 13 (dk_at dksX6_income_0 19 rfl rfl)
theorem dX6_income_21 : decode cX6_income 21 = .ok (.iaload, 1) := dk_46 (dk_at dksX6_income_0 21 rfl rfl)
theorem dX6_income_22 : decode cX6_income 22 = .ok (.iadd, 1) := dk_96 (dk_at dksX6_income_0 22 rfl rfl)
theorem dX6_income_23 : decode cX6_income 23 = .ok (.aload_n 0, 1) := dk_42 (dk_at dksX6_income_0 23 rfl rfl)
theorem dX6_income_24 : decode cX6_income 24 = .ok (.getfield 7, 3) := dk_180 0 7 (dk_at dksX6_income_1 0 rfl rfl)
theorem dX6_income_27 : decode cX6_income 27 = .ok (.bipush 14, 2) := dk_16 14 (dk_at dksX6_income_1 3 rfl rfl)
theorem dX6_income_29 : decode cX6_income 29 = .ok (.iaload, 1) := dk_46 (dk_at dksX6_income_1 5 rfl rfl)
theorem dX6_income_30 : decode cX6_income 30 = .ok (.iadd, 1) := dk_96 (dk_at dksX6_income_1 6 rfl rfl)
theorem dX6_income_31 : decode cX6_income 31 = .ok (.ireturn, 1) := dk_172 (dk_at dksX6_income_1 7 rfl rfl)
abbrev cX6_incomeByRoads : ByteArray := prog_13_method_92_code
def yX6_incomeByRoads : MethodName := ⟨RX6, "incomeByRoads", "()I"⟩
def dkwX6_incomeByRoads_0 : List UInt8 := [42, 3, 181, 0, 25, 42, 182, 0, 170, 172]
abbrev dktX6_incomeByRoads_0 : List UInt8 := dkwX6_incomeByRoads_0 ++ []
theorem dksX6_incomeByRoads_0 : cX6_incomeByRoads.data.toList.drop 0 = dktX6_incomeByRoads_0 := by decide +kernel
theorem dX6_incomeByRoads_0 : decode cX6_incomeByRoads 0 = .ok (.aload_n 0, 1) := dk_42 (dk_at dksX6_incomeByRoads_0 0 rfl rfl)
theorem dX6_incomeByRoads_1 : decode cX6_incomeByRoads 1 = .ok (.iconst 0, 1) := dk_3 (dk_at dksX6_incomeByRoads_0 1 rfl rfl)
theorem dX6_incomeByRoads_2 : decode cX6_incomeByRoads 2 = .ok (.putfield 25, 3) := dk_181 0 25 (dk_at dksX6_incomeByRoads_0 2 rfl rfl)
theorem dX6_incomeByRoads_5 : decode cX6_incomeByRoads 5 = .ok (.aload_n 0, 1) := dk_42 (dk_at dksX6_incomeByRoads_0 5 rfl rfl)
theorem dX6_incomeByRoads_6 : decode cX6_incomeByRoads 6 = .ok (.invokevirtual 170, 3) := dk_182 0 170 (dk_at dksX6_incomeByRoads_0 6 rfl rfl)
theorem dX6_incomeByRoads_9 : decode cX6_incomeByRoads 9 = .ok (.ireturn, 1) := dk_172 (dk_at dksX6_incomeByRoads_0 9 rfl rfl)
abbrev cX6_incomeFrom : ByteArray := prog_13_method_93_code
def yX6_incomeFrom : MethodName := ⟨RX6, "incomeFrom", "(I)I"⟩
def dkwX6_incomeFrom_1 : List UInt8 := [167, 0, 8, 42, 4, 182, 0, 104, 172]
abbrev dktX6_incomeFrom_1 : List UInt8 := dkwX6_incomeFrom_1 ++ []
def dkwX6_incomeFrom_0 : List UInt8 := [42, 3, 181, 0, 25, 27, 3, 6, 184, 0, 29, 153, 0, 15, 42, 180, 0, 7, 16, 11, 27, 96, 46]
abbrev dktX6_incomeFrom_0 : List UInt8 := dkwX6_incomeFrom_0 ++ dktX6_incomeFrom_1
theorem dksX6_incomeFrom_0 : cX6_incomeFrom.data.toList.drop 0 = dktX6_incomeFrom_0 := by decide +kernel
theorem dksX6_incomeFrom_1 : cX6_incomeFrom.data.toList.drop 23 = dktX6_incomeFrom_1 := dk_seg dksX6_incomeFrom_0 23 rfl rfl
theorem dX6_incomeFrom_0 : decode cX6_incomeFrom 0 = .ok (.aload_n 0, 1) := dk_42 (dk_at dksX6_incomeFrom_0 0 rfl rfl)
theorem dX6_incomeFrom_1 : decode cX6_incomeFrom 1 = .ok (.iconst 0, 1) := dk_3 (dk_at dksX6_incomeFrom_0 1 rfl rfl)
theorem dX6_incomeFrom_2 : decode cX6_incomeFrom 2 = .ok (.putfield 25, 3) := dk_181 0 25 (dk_at dksX6_incomeFrom_0 2 rfl rfl)
theorem dX6_incomeFrom_5 : decode cX6_incomeFrom 5 = .ok (.iload_n 1, 1) := dk_27 (dk_at dksX6_incomeFrom_0 5 rfl rfl)
theorem dX6_incomeFrom_6 : decode cX6_incomeFrom 6 = .ok (.iconst 0, 1) := dk_3 (dk_at dksX6_incomeFrom_0 6 rfl rfl)
theorem dX6_incomeFrom_7 : decode cX6_incomeFrom 7 = .ok (.iconst 3, 1) := dk_6 (dk_at dksX6_incomeFrom_0 7 rfl rfl)
theorem dX6_incomeFrom_8 : decode cX6_incomeFrom 8 = .ok (.invokestatic 29, 3) := dk_184 0 29 (dk_at dksX6_incomeFrom_0 8 rfl rfl)
theorem dX6_incomeFrom_11 : decode cX6_incomeFrom 11 = .ok (.ifCond .eq 15, 3) := dk_153 0 15 (dk_at dksX6_incomeFrom_0 11 rfl rfl)
theorem dX6_incomeFrom_14 : decode cX6_incomeFrom 14 = .ok (.aload_n 0, 1) := dk_42 (dk_at dksX6_incomeFrom_0 14 rfl rfl)
theorem dX6_incomeFrom_15 : decode cX6_incomeFrom 15 = .ok (.getfield 7, 3) := dk_180 0 7 (dk_at dksX6_incomeFrom_0 15 rfl rfl)
theorem dX6_incomeFrom_18 : decode cX6_incomeFrom 18 = .ok (.bipush 11, 2) := dk_16 11 (dk_at dksX6_incomeFrom_0 18 rfl rfl)
theorem dX6_incomeFrom_20 : decode cX6_incomeFrom 20 = .ok (.iload_n 1, 1) := dk_27 (dk_at dksX6_incomeFrom_0 20 rfl rfl)
theorem dX6_incomeFrom_21 : decode cX6_incomeFrom 21 = .ok (.iadd, 1) := dk_96 (dk_at dksX6_incomeFrom_0 21 rfl rfl)
theorem dX6_incomeFrom_22 : decode cX6_incomeFrom 22 = .ok (.iaload, 1) := dk_46 (dk_at dksX6_incomeFrom_0 22 rfl rfl)
theorem dX6_incomeFrom_23 : decode cX6_incomeFrom 23 = .ok (.goto 8, 3) := dk_167 0 8 (dk_at dksX6_incomeFrom_1 0 rfl rfl)
theorem dX6_incomeFrom_26 : decode cX6_incomeFrom 26 = .ok (.aload_n 0, 1) := dk_42 (dk_at dksX6_incomeFrom_1 3 rfl rfl)
theorem dX6_incomeFrom_27 : decode cX6_incomeFrom 27 = .ok (.iconst 1, 1) := dk_4 (dk_at dksX6_incomeFrom_1 4 rfl rfl)
theorem dX6_incomeFrom_28 : decode cX6_incomeFrom 28 = .ok (.invokevirtual 104, 3) := dk_182 0 104 (dk_at dksX6_incomeFrom_1 5 rfl rfl)
theorem dX6_incomeFrom_31 : decode cX6_incomeFrom 31 = .ok (.ireturn, 1) := dk_172 (dk_at dksX6_incomeFrom_1 8 rfl rfl)
abbrev cX6_spentOnPoles : ByteArray := prog_13_method_94_code
def yX6_spentOnPoles : MethodName := ⟨RX6, "spentOnPoles", "()I"⟩
def dkwX6_spentOnPoles_0 : List UInt8 := [42, 3, 181, 0, 25, 42, 180, 0, 7, 16, 15, 46, 172]
abbrev dktX6_spentOnPoles_0 : List UInt8 := dkwX6_spentOnPoles_0 ++ []
theorem dksX6_spentOnPoles_0 : cX6_spentOnPoles.data.toList.drop 0 = dktX6_spentOnPoles_0 := by decide +kernel
theorem dX6_spentOnPoles_0 : decode cX6_spentOnPoles 0 = .ok (.aload_n 0, 1) := dk_42 (dk_at dksX6_spentOnPoles_0 0 rfl rfl)
theorem dX6_spentOnPoles_1 : decode cX6_spentOnPoles 1 = .ok (.iconst 0, 1) := dk_3 (dk_at dksX6_spentOnPoles_0 1 rfl rfl)
theorem dX6_spentOnPoles_2 : decode cX6_spentOnPoles 2 = .ok (.putfield 25, 3) := dk_181 0 25 (dk_at dksX6_spentOnPoles_0 2 rfl rfl)
theorem dX6_spentOnPoles_5 : decode cX6_spentOnPoles 5 = .ok (.aload_n 0, 1) := dk_42 (dk_at dksX6_spentOnPoles_0 5 rfl rfl)
theorem dX6_spentOnPoles_6 : decode cX6_spentOnPoles 6 = .ok (.getfield 7, 3) := dk_180 0 7 (dk_at dksX6_spentOnPoles_0 6 rfl rfl)
theorem dX6_spentOnPoles_9 : decode cX6_spentOnPoles 9 = .ok (.bipush 15, 2) := dk_16 15 (dk_at dksX6_spentOnPoles_0 9 rfl rfl)
theorem dX6_spentOnPoles_11 : decode cX6_spentOnPoles 11 = .ok (.iaload, 1) := dk_46 (dk_at dksX6_spentOnPoles_0 11 rfl rfl)
theorem dX6_spentOnPoles_12 : decode cX6_spentOnPoles 12 = .ok (.ireturn, 1) := dk_172 (dk_at dksX6_spentOnPoles_0 12 rfl rfl)
abbrev cX6_milesByPairs : ByteArray := prog_13_method_96_code
def yX6_milesByPairs : MethodName := ⟨RX6, "milesByPairs", "()I"⟩
def dkwX6_milesByPairs_0 : List UInt8 := [42, 3, 181, 0, 25, 42, 182, 0, 173, 172]
abbrev dktX6_milesByPairs_0 : List UInt8 := dkwX6_milesByPairs_0 ++ []
theorem dksX6_milesByPairs_0 : cX6_milesByPairs.data.toList.drop 0 = dktX6_milesByPairs_0 := by decide +kernel
theorem dX6_milesByPairs_0 : decode cX6_milesByPairs 0 = .ok (.aload_n 0, 1) := dk_42 (dk_at dksX6_milesByPairs_0 0 rfl rfl)
theorem dX6_milesByPairs_1 : decode cX6_milesByPairs 1 = .ok (.iconst 0, 1) := dk_3 (dk_at dksX6_milesByPairs_0 1 rfl rfl)
theorem dX6_milesByPairs_2 : decode cX6_milesByPairs 2 = .ok (.putfield 25, 3) := dk_181 0 25 (dk_at dksX6_milesByPairs_0 2 rfl rfl)
theorem dX6_milesByPairs_5 : decode cX6_milesByPairs 5 = .ok (.aload_n 0, 1) := dk_42 (dk_at dksX6_milesByPairs_0 5 rfl rfl)
theorem dX6_milesByPairs_6 : decode cX6_milesByPairs 6 = .ok (.invokevirtual 173, 3) := dk_182 0 173 (dk_at dksX6_milesByPairs_0 6 rfl rfl)
theorem dX6_milesByPairs_9 : decode cX6_milesByPairs 9 = .ok (.ireturn, 1) := dk_172 (dk_at dksX6_milesByPairs_0 9 rfl rfl)
abbrev cX6_allMiles : ByteArray := prog_13_method_95_code
def yX6_allMiles : MethodName := ⟨RX6, "allMiles", "()I"⟩
def dkwX6_allMiles_0 : List UInt8 := [42, 3, 6, 182, 0, 47, 42, 4, 6, 182, 0, 47, 96, 42, 5, 6, 182, 0, 47, 96, 172]
abbrev dktX6_allMiles_0 : List UInt8 := dkwX6_allMiles_0 ++ []
theorem dksX6_allMiles_0 : cX6_allMiles.data.toList.drop 0 = dktX6_allMiles_0 := by decide +kernel
theorem dX6_allMiles_0 : decode cX6_allMiles 0 = .ok (.aload_n 0, 1) := dk_42 (dk_at dksX6_allMiles_0 0 rfl rfl)
theorem dX6_allMiles_1 : decode cX6_allMiles 1 = .ok (.iconst 0, 1) := dk_3 (dk_at dksX6_allMiles_0 1 rfl rfl)
theorem dX6_allMiles_2 : decode cX6_allMiles 2 = .ok (.iconst 3, 1) := dk_6 (dk_at dksX6_allMiles_0 2 rfl rfl)
theorem dX6_allMiles_3 : decode cX6_allMiles 3 = .ok (.invokevirtual 47, 3) := dk_182 0 47 (dk_at dksX6_allMiles_0 3 rfl rfl)
theorem dX6_allMiles_6 : decode cX6_allMiles 6 = .ok (.aload_n 0, 1) := dk_42 (dk_at dksX6_allMiles_0 6 rfl rfl)
theorem dX6_allMiles_7 : decode cX6_allMiles 7 = .ok (.iconst 1, 1) := dk_4 (dk_at dksX6_allMiles_0 7 rfl rfl)
theorem dX6_allMiles_8 : decode cX6_allMiles 8 = .ok (.iconst 3, 1) := dk_6 (dk_at dksX6_allMiles_0 8 rfl rfl)
theorem dX6_allMiles_9 : decode cX6_allMiles 9 = .ok (.invokevirtual 47, 3) := dk_182 0 47 (dk_at dksX6_allMiles_0 9 rfl rfl)
theorem dX6_allMiles_12 : decode cX6_allMiles 12 = .ok (.iadd, 1) := dk_96 (dk_at dksX6_allMiles_0 12 rfl rfl)
theorem dX6_allMiles_13 : decode cX6_allMiles 13 = .ok (.aload_n 0, 1) := dk_42 (dk_at dksX6_allMiles_0 13 rfl rfl)
theorem dX6_allMiles_14 : decode cX6_allMiles 14 = .ok (.iconst 2, 1) := dk_5 (dk_at dksX6_allMiles_0 14 rfl rfl)
theorem dX6_allMiles_15 : decode cX6_allMiles 15 = .ok (.iconst 3, 1) := dk_6 (dk_at dksX6_allMiles_0 15 rfl rfl)
theorem dX6_allMiles_16 : decode cX6_allMiles 16 = .ok (.invokevirtual 47, 3) := dk_182 0 47 (dk_at dksX6_allMiles_0 16 rfl rfl)
theorem dX6_allMiles_19 : decode cX6_allMiles 19 = .ok (.iadd, 1) := dk_96 (dk_at dksX6_allMiles_0 19 rfl rfl)
theorem dX6_allMiles_20 : decode cX6_allMiles 20 = .ok (.ireturn, 1) := dk_172 (dk_at dksX6_allMiles_0 20 rfl rfl)
abbrev cX6_milesByChaises : ByteArray := prog_13_method_97_code
def yX6_milesByChaises : MethodName := ⟨RX6, "milesByChaises", "()I"⟩
def dkwX6_milesByChaises_0 : List UInt8 := [42, 3, 181, 0, 25, 42, 182, 0, 173, 172]
abbrev dktX6_milesByChaises_0 : List UInt8 := dkwX6_milesByChaises_0 ++ []
theorem dksX6_milesByChaises_0 : cX6_milesByChaises.data.toList.drop 0 = dktX6_milesByChaises_0 := by decide +kernel
theorem dX6_milesByChaises_0 : decode cX6_milesByChaises 0 = .ok (.aload_n 0, 1) := dk_42 (dk_at dksX6_milesByChaises_0 0 rfl rfl)
theorem dX6_milesByChaises_1 : decode cX6_milesByChaises 1 = .ok (.iconst 0, 1) := dk_3 (dk_at dksX6_milesByChaises_0 1 rfl rfl)
theorem dX6_milesByChaises_2 : decode cX6_milesByChaises 2 = .ok (.putfield 25, 3) := dk_181 0 25 (dk_at dksX6_milesByChaises_0 2 rfl rfl)
theorem dX6_milesByChaises_5 : decode cX6_milesByChaises 5 = .ok (.aload_n 0, 1) := dk_42 (dk_at dksX6_milesByChaises_0 5 rfl rfl)
theorem dX6_milesByChaises_6 : decode cX6_milesByChaises 6 = .ok (.invokevirtual 173, 3) := dk_182 0 173 (dk_at dksX6_milesByChaises_0 6 rfl rfl)
theorem dX6_milesByChaises_9 : decode cX6_milesByChaises 9 = .ok (.ireturn, 1) := dk_172 (dk_at dksX6_milesByChaises_0 9 rfl rfl)
abbrev cX6_brokenPoles : ByteArray := prog_13_method_98_code
def yX6_brokenPoles : MethodName := ⟨RX6, "brokenPoles", "()I"⟩
def dkwX6_brokenPoles_0 : List UInt8 := [42, 3, 181, 0, 25, 42, 180, 0, 7, 16, 16, 46, 172]
abbrev dktX6_brokenPoles_0 : List UInt8 := dkwX6_brokenPoles_0 ++ []
theorem dksX6_brokenPoles_0 : cX6_brokenPoles.data.toList.drop 0 = dktX6_brokenPoles_0 := by decide +kernel
theorem dX6_brokenPoles_0 : decode cX6_brokenPoles 0 = .ok (.aload_n 0, 1) := dk_42 (dk_at dksX6_brokenPoles_0 0 rfl rfl)
theorem dX6_brokenPoles_1 : decode cX6_brokenPoles 1 = .ok (.iconst 0, 1) := dk_3 (dk_at dksX6_brokenPoles_0 1 rfl rfl)
theorem dX6_brokenPoles_2 : decode cX6_brokenPoles 2 = .ok (.putfield 25, 3) := dk_181 0 25 (dk_at dksX6_brokenPoles_0 2 rfl rfl)
theorem dX6_brokenPoles_5 : decode cX6_brokenPoles 5 = .ok (.aload_n 0, 1) := dk_42 (dk_at dksX6_brokenPoles_0 5 rfl rfl)
theorem dX6_brokenPoles_6 : decode cX6_brokenPoles 6 = .ok (.getfield 7, 3) := dk_180 0 7 (dk_at dksX6_brokenPoles_0 6 rfl rfl)
theorem dX6_brokenPoles_9 : decode cX6_brokenPoles 9 = .ok (.bipush 16, 2) := dk_16 16 (dk_at dksX6_brokenPoles_0 9 rfl rfl)
theorem dX6_brokenPoles_11 : decode cX6_brokenPoles 11 = .ok (.iaload, 1) := dk_46 (dk_at dksX6_brokenPoles_0 11 rfl rfl)
theorem dX6_brokenPoles_12 : decode cX6_brokenPoles 12 = .ok (.ireturn, 1) := dk_172 (dk_at dksX6_brokenPoles_0 12 rfl rfl)
abbrev cX6_meanWait : ByteArray := prog_13_method_99_code
def yX6_meanWait : MethodName := ⟨RX6, "meanWait", "()D"⟩
def dkwX6_meanWait_4 : List UInt8 := [135, 111, 175]
abbrev dktX6_meanWait_4 : List UInt8 := dkwX6_meanWait_4 ++ []
def dkwX6_meanWait_3 : List UInt8 := [4, 167, 0, 4, 3, 96, 61, 132, 3, 1, 167, 255, 185, 28, 154, 0, 7, 14, 167, 0, 8, 27, 135, 28]
abbrev dktX6_meanWait_3 : List UInt8 := dkwX6_meanWait_3 ++ dktX6_meanWait_4
def dkwX6_meanWait_2 : List UInt8 := [27, 21, 4, 153, 0, 12, 42, 29, 7, 182, 0, 36, 167, 0, 4, 3, 96, 60, 28, 21, 4, 153, 0, 7]
abbrev dktX6_meanWait_2 : List UInt8 := dkwX6_meanWait_2 ++ dktX6_meanWait_3
def dkwX6_meanWait_1 : List UInt8 := [182, 0, 36, 4, 159, 0, 13, 42, 29, 5, 182, 0, 36, 5, 160, 0, 7, 4, 167, 0, 4, 3, 54, 4]
abbrev dktX6_meanWait_1 : List UInt8 := dkwX6_meanWait_1 ++ dktX6_meanWait_2
def dkwX6_meanWait_0 : List UInt8 := [42, 3, 181, 0, 25, 3, 60, 3, 61, 3, 62, 29, 42, 180, 0, 7, 6, 46, 162, 0, 67, 42, 29, 5]
abbrev dktX6_meanWait_0 : List UInt8 := dkwX6_meanWait_0 ++ dktX6_meanWait_1
theorem dksX6_meanWait_0 : cX6_meanWait.data.toList.drop 0 = dktX6_meanWait_0 := by decide +kernel
theorem dksX6_meanWait_1 : cX6_meanWait.data.toList.drop 24 = dktX6_meanWait_1 := dk_seg dksX6_meanWait_0 24 rfl rfl
theorem dksX6_meanWait_2 : cX6_meanWait.data.toList.drop 48 = dktX6_meanWait_2 := dk_seg dksX6_meanWait_1 24 rfl rfl
theorem dksX6_meanWait_3 : cX6_meanWait.data.toList.drop 72 = dktX6_meanWait_3 := dk_seg dksX6_meanWait_2 24 rfl rfl
theorem dksX6_meanWait_4 : cX6_meanWait.data.toList.drop 96 = dktX6_meanWait_4 := dk_seg dksX6_meanWait_3 24 rfl rfl
theorem dX6_meanWait_0 : decode cX6_meanWait 0 = .ok (.aload_n 0, 1) := dk_42 (dk_at dksX6_meanWait_0 0 rfl rfl)
theorem dX6_meanWait_1 : decode cX6_meanWait 1 = .ok (.iconst 0, 1) := dk_3 (dk_at dksX6_meanWait_0 1 rfl rfl)
theorem dX6_meanWait_2 : decode cX6_meanWait 2 = .ok (.putfield 25, 3) := dk_181 0 25 (dk_at dksX6_meanWait_0 2 rfl rfl)
theorem dX6_meanWait_5 : decode cX6_meanWait 5 = .ok (.iconst 0, 1) := dk_3 (dk_at dksX6_meanWait_0 5 rfl rfl)
theorem dX6_meanWait_6 : decode cX6_meanWait 6 = .ok (.istore_n 1, 1) := dk_60 (dk_at dksX6_meanWait_0 6 rfl rfl)
theorem dX6_meanWait_7 : decode cX6_meanWait 7 = .ok (.iconst 0, 1) := dk_3 (dk_at dksX6_meanWait_0 7 rfl rfl)
theorem dX6_meanWait_8 : decode cX6_meanWait 8 = .ok (.istore_n 2, 1) := dk_61 (dk_at dksX6_meanWait_0 8 rfl rfl)
theorem dX6_meanWait_9 : decode cX6_meanWait 9 = .ok (.iconst 0, 1) := dk_3 (dk_at dksX6_meanWait_0 9 rfl rfl)
theorem dX6_meanWait_10 : decode cX6_meanWait 10 = .ok (.istore_n 3, 1) := dk_62 (dk_at dksX6_meanWait_0 10 rfl rfl)
theorem dX6_meanWait_11 : decode cX6_meanWait 11 = .ok (.iload_n 3, 1) := dk_29 (dk_at dksX6_meanWait_0 11 rfl rfl)
theorem dX6_meanWait_12 : decode cX6_meanWait 12 = .ok (.aload_n 0, 1) := dk_42 (dk_at dksX6_meanWait_0 12 rfl rfl)
theorem dX6_meanWait_13 : decode cX6_meanWait 13 = .ok (.getfield 7, 3) := dk_180 0 7 (dk_at dksX6_meanWait_0 13 rfl rfl)
theorem dX6_meanWait_16 : decode cX6_meanWait 16 = .ok (.iconst 3, 1) := dk_6 (dk_at dksX6_meanWait_0 16 rfl rfl)
theorem dX6_meanWait_17 : decode cX6_meanWait 17 = .ok (.iaload, 1) := dk_46 (dk_at dksX6_meanWait_0 17 rfl rfl)
theorem dX6_meanWait_18 : decode cX6_meanWait 18 = .ok (.if_icmp .ge 67, 3) := dk_162 0 67 (dk_at dksX6_meanWait_0 18 rfl rfl)
theorem dX6_meanWait_21 : decode cX6_meanWait 21 = .ok (.aload_n 0, 1) := dk_42 (dk_at dksX6_meanWait_0 21 rfl rfl)
theorem dX6_meanWait_22 : decode cX6_meanWait 22 = .ok (.iload_n 3, 1) := dk_29 (dk_at dksX6_meanWait_0 22 rfl rfl)
theorem dX6_meanWait_23 : decode cX6_meanWait 23 = .ok (.iconst 2, 1) := dk_5 (dk_at dksX6_meanWait_0 23 rfl rfl)
theorem dX6_meanWait_24 : decode cX6_meanWait 24 = .ok (.invokevirtual 36, 3) := dk_182 0 36 (dk_at dksX6_meanWait_1 0 rfl rfl)
theorem dX6_meanWait_27 : decode cX6_meanWait 27 = .ok (.iconst 1, 1) := dk_4 (dk_at dksX6_meanWait_1 3 rfl rfl)
theorem dX6_meanWait_28 : decode cX6_meanWait 28 = .ok (.if_icmp .eq 13, 3) := dk_159 0 13 (dk_at dksX6_meanWait_1 4 rfl rfl)
theorem dX6_meanWait_31 : decode cX6_meanWait 31 = .ok (.aload_n 0, 1) := dk_42 (dk_at dksX6_meanWait_1 7 rfl rfl)
theorem dX6_meanWait_32 : decode cX6_meanWait 32 = .ok (.iload_n 3, 1) := dk_29 (dk_at dksX6_meanWait_1 8 rfl rfl)
theorem dX6_meanWait_33 : decode cX6_meanWait 33 = .ok (.iconst 2, 1) := dk_5 (dk_at dksX6_meanWait_1 9 rfl rfl)
theorem dX6_meanWait_34 : decode cX6_meanWait 34 = .ok (.invokevirtual 36, 3) := dk_182 0 36 (dk_at dksX6_meanWait_1 10 rfl rfl)
theorem dX6_meanWait_37 : decode cX6_meanWait 37 = .ok (.iconst 2, 1) := dk_5 (dk_at dksX6_meanWait_1 13 rfl rfl)
theorem dX6_meanWait_38 : decode cX6_meanWait 38 = .ok (.if_icmp .ne 7, 3) := dk_160 0 7 (dk_at dksX6_meanWait_1 14 rfl rfl)
theorem dX6_meanWait_41 : decode cX6_meanWait 41 = .ok (.iconst 1, 1) := dk_4 (dk_at dksX6_meanWait_1 17 rfl rfl)
theorem dX6_meanWait_42 : decode cX6_meanWait 42 = .ok (.goto 4, 3) := dk_167 0 4 (dk_at dksX6_meanWait_1 18 rfl rfl)
theorem dX6_meanWait_45 : decode cX6_meanWait 45 = .ok (.iconst 0, 1) := dk_3 (dk_at dksX6_meanWait_1 21 rfl rfl)
theorem dX6_meanWait_46 : decode cX6_meanWait 46 = .ok (.istore 4, 2) := dk_54 4 (dk_at dksX6_meanWait_1 22 rfl rfl)
theorem dX6_meanWait_48 : decode cX6_meanWait 48 = .ok (.iload_n 1, 1) := dk_27 (dk_at dksX6_meanWait_2 0 rfl rfl)
theorem dX6_meanWait_49 : decode cX6_meanWait 49 = .ok (.iload 4, 2) := dk_21 4 (dk_at dksX6_meanWait_2 1 rfl rfl)
theorem dX6_meanWait_51 : decode cX6_meanWait 51 = .ok (.ifCond .eq 12, 3) := dk_153 0 12 (dk_at dksX6_meanWait_2 3 rfl rfl)
theorem dX6_meanWait_54 : decode cX6_meanWait 54 = .ok (.aload_n 0, 1) := dk_42 (dk_at dksX6_meanWait_2 6 rfl rfl)
theorem dX6_meanWait_55 : decode cX6_meanWait 55 = .ok (.iload_n 3, 1) := dk_29 (dk_at dksX6_meanWait_2 7 rfl rfl)
theorem dX6_meanWait_56 : decode cX6_meanWait 56 = .ok (.iconst 4, 1) := dk_7 (dk_at dksX6_meanWait_2 8 rfl rfl)
theorem dX6_meanWait_57 : decode cX6_meanWait 57 = .ok (.invokevirtual 36, 3) := dk_182 0 36 (dk_at dksX6_meanWait_2 9 rfl rfl)
theorem dX6_meanWait_60 : decode cX6_meanWait 60 = .ok (.goto 4, 3) := dk_167 0 4 (dk_at dksX6_meanWait_2 12 rfl rfl)
theorem dX6_meanWait_63 : decode cX6_meanWait 63 = .ok (.iconst 0, 1) := dk_3 (dk_at dksX6_meanWait_2 15 rfl rfl)
theorem dX6_meanWait_64 : decode cX6_meanWait 64 = .ok (.iadd, 1) := dk_96 (dk_at dksX6_meanWait_2 16 rfl rfl)
theorem dX6_meanWait_65 : decode cX6_meanWait 65 = .ok (.istore_n 1, 1) := dk_60 (dk_at dksX6_meanWait_2 17 rfl rfl)
theorem dX6_meanWait_66 : decode cX6_meanWait 66 = .ok (.iload_n 2, 1) := dk_28 (dk_at dksX6_meanWait_2 18 rfl rfl)
theorem dX6_meanWait_67 : decode cX6_meanWait 67 = .ok (.iload 4, 2) := dk_21 4 (dk_at dksX6_meanWait_2 19 rfl rfl)
theorem dX6_meanWait_69 : decode cX6_meanWait 69 = .ok (.ifCond .eq 7, 3) := dk_153 0 7 (dk_at dksX6_meanWait_2 21 rfl rfl)
theorem dX6_meanWait_72 : decode cX6_meanWait 72 = .ok (.iconst 1, 1) := dk_4 (dk_at dksX6_meanWait_3 0 rfl rfl)
theorem dX6_meanWait_73 : decode cX6_meanWait 73 = .ok (.goto 4, 3) := dk_167 0 4 (dk_at dksX6_meanWait_3 1 rfl rfl)
theorem dX6_meanWait_76 : decode cX6_meanWait 76 = .ok (.iconst 0, 1) := dk_3 (dk_at dksX6_meanWait_3 4 rfl rfl)
theorem dX6_meanWait_77 : decode cX6_meanWait 77 = .ok (.iadd, 1) := dk_96 (dk_at dksX6_meanWait_3 5 rfl rfl)
theorem dX6_meanWait_78 : decode cX6_meanWait 78 = .ok (.istore_n 2, 1) := dk_61 (dk_at dksX6_meanWait_3 6 rfl rfl)
theorem dX6_meanWait_79 : decode cX6_meanWait 79 = .ok (.iinc 3 1, 3) := dk_132 3 1 (dk_at dksX6_meanWait_3 7 rfl rfl)
theorem dX6_meanWait_82 : decode cX6_meanWait 82 = .ok (.goto (-71), 3) := dk_167 255 185 (dk_at dksX6_meanWait_3 10 rfl rfl)
theorem dX6_meanWait_85 : decode cX6_meanWait 85 = .ok (.iload_n 2, 1) := dk_28 (dk_at dksX6_meanWait_3 13 rfl rfl)
theorem dX6_meanWait_86 : decode cX6_meanWait 86 = .ok (.ifCond .ne 7, 3) := dk_154 0 7 (dk_at dksX6_meanWait_3 14 rfl rfl)
theorem dX6_meanWait_89 : decode cX6_meanWait 89 = .ok (.dconst 0, 1) := dk_14 (dk_at dksX6_meanWait_3 17 rfl rfl)
theorem dX6_meanWait_90 : decode cX6_meanWait 90 = .ok (.goto 8, 3) := dk_167 0 8 (dk_at dksX6_meanWait_3 18 rfl rfl)
theorem dX6_meanWait_93 : decode cX6_meanWait 93 = .ok (.iload_n 1, 1) := dk_27 (dk_at dksX6_meanWait_3 21 rfl rfl)
theorem dX6_meanWait_94 : decode cX6_meanWait 94 = .ok (.i2d, 1) := dk_135 (dk_at dksX6_meanWait_3 22 rfl rfl)
theorem dX6_meanWait_95 : decode cX6_meanWait 95 = .ok (.iload_n 2, 1) := dk_28 (dk_at dksX6_meanWait_3 23 rfl rfl)
theorem dX6_meanWait_96 : decode cX6_meanWait 96 = .ok (.i2d, 1) := dk_135 (dk_at dksX6_meanWait_4 0 rfl rfl)
theorem dX6_meanWait_97 : decode cX6_meanWait 97 = .ok (.ddiv, 1) := dk_111 (dk_at dksX6_meanWait_4 1 rfl rfl)
theorem dX6_meanWait_98 : decode cX6_meanWait 98 = .ok (.dreturn, 1) := dk_175 (dk_at dksX6_meanWait_4 2 rfl rfl)
abbrev cX6_append : ByteArray := prog_13_method_100_code
def yX6_append : MethodName := ⟨RX6, "append", "(I)I"⟩
def dkwX6_append_2 : List UInt8 := [42, 89, 180, 0, 176, 4, 96, 181, 0, 176, 42, 180, 0, 176, 172]
abbrev dktX6_append_2 : List UInt8 := dkwX6_append_2 ++ []
def dkwX6_append_1 : List UInt8 := [180, 0, 176, 16, 60, 160, 0, 9, 42, 5, 182, 0, 104, 172, 42, 180, 0, 22, 42, 180, 0, 176, 27, 79]
abbrev dktX6_append_1 : List UInt8 := dkwX6_append_1 ++ dktX6_append_2
def dkwX6_append_0 : List UInt8 := [42, 3, 181, 0, 25, 27, 16, 32, 16, 126, 184, 0, 29, 154, 0, 9, 42, 4, 182, 0, 104, 172, 42]
abbrev dktX6_append_0 : List UInt8 := dkwX6_append_0 ++ dktX6_append_1
theorem dksX6_append_0 : cX6_append.data.toList.drop 0 = dktX6_append_0 := by decide +kernel
theorem dksX6_append_1 : cX6_append.data.toList.drop 23 = dktX6_append_1 := dk_seg dksX6_append_0 23 rfl rfl
theorem dksX6_append_2 : cX6_append.data.toList.drop 47 = dktX6_append_2 := dk_seg dksX6_append_1 24 rfl rfl
theorem dX6_append_0 : decode cX6_append 0 = .ok (.aload_n 0, 1) := dk_42 (dk_at dksX6_append_0 0 rfl rfl)
theorem dX6_append_1 : decode cX6_append 1 = .ok (.iconst 0, 1) := dk_3 (dk_at dksX6_append_0 1 rfl rfl)
theorem dX6_append_2 : decode cX6_append 2 = .ok (.putfield 25, 3) := dk_181 0 25 (dk_at dksX6_append_0 2 rfl rfl)
theorem dX6_append_5 : decode cX6_append 5 = .ok (.iload_n 1, 1) := dk_27 (dk_at dksX6_append_0 5 rfl rfl)
theorem dX6_append_6 : decode cX6_append 6 = .ok (.bipush 32, 2) := dk_16 32 (dk_at dksX6_append_0 6 rfl rfl)
theorem dX6_append_8 : decode cX6_append 8 = .ok (.bipush 126, 2) := dk_16 126 (dk_at dksX6_append_0 8 rfl rfl)
theorem dX6_append_10 : decode cX6_append 10 = .ok (.invokestatic 29, 3) := dk_184 0 29 (dk_at dksX6_append_0 10 rfl rfl)
theorem dX6_append_13 : decode cX6_append 13 = .ok (.ifCond .ne 9, 3) := dk_154 0 9 (dk_at dksX6_append_0 13 rfl rfl)
theorem dX6_append_16 : decode cX6_append 16 = .ok (.aload_n 0, 1) := dk_42 (dk_at dksX6_append_0 16 rfl rfl)
theorem dX6_append_17 : decode cX6_append 17 = .ok (.iconst 1, 1) := dk_4 (dk_at dksX6_append_0 17 rfl rfl)
theorem dX6_append_18 : decode cX6_append 18 = .ok (.invokevirtual 104, 3) := dk_182 0 104 (dk_at dksX6_append_0 18 rfl rfl)
theorem dX6_append_21 : decode cX6_append 21 = .ok (.ireturn, 1) := dk_172 (dk_at dksX6_append_0 21 rfl rfl)
theorem dX6_append_22 : decode cX6_append 22 = .ok (.aload_n 0, 1) := dk_42 (dk_at dksX6_append_0 22 rfl rfl)
theorem dX6_append_23 : decode cX6_append 23 = .ok (.getfield 176, 3) := dk_180 0 176 (dk_at dksX6_append_1 0 rfl rfl)
theorem dX6_append_26 : decode cX6_append 26 = .ok (.bipush 60, 2) := dk_16 60 (dk_at dksX6_append_1 3 rfl rfl)
theorem dX6_append_28 : decode cX6_append 28 = .ok (.if_icmp .ne 9, 3) := dk_160 0 9 (dk_at dksX6_append_1 5 rfl rfl)
theorem dX6_append_31 : decode cX6_append 31 = .ok (.aload_n 0, 1) := dk_42 (dk_at dksX6_append_1 8 rfl rfl)
theorem dX6_append_32 : decode cX6_append 32 = .ok (.iconst 2, 1) := dk_5 (dk_at dksX6_append_1 9 rfl rfl)
theorem dX6_append_33 : decode cX6_append 33 = .ok (.invokevirtual 104, 3) := dk_182 0 104 (dk_at dksX6_append_1 10 rfl rfl)
theorem dX6_append_36 : decode cX6_append 36 = .ok (.ireturn, 1) := dk_172 (dk_at dksX6_append_1 13 rfl rfl)
theorem dX6_append_37 : decode cX6_append 37 = .ok (.aload_n 0, 1) := dk_42 (dk_at dksX6_append_1 14 rfl rfl)
theorem dX6_append_38 : decode cX6_append 38 = .ok (.getfield 22, 3) := dk_180 0 22 (dk_at dksX6_append_1 15 rfl rfl)
theorem dX6_append_41 : decode cX6_append 41 = .ok (.aload_n 0, 1) := dk_42 (dk_at dksX6_append_1 18 rfl rfl)
theorem dX6_append_42 : decode cX6_append 42 = .ok (.getfield 176, 3) := dk_180 0 176 (dk_at dksX6_append_1 19 rfl rfl)
theorem dX6_append_45 : decode cX6_append 45 = .ok (.iload_n 1, 1) := dk_27 (dk_at dksX6_append_1 22 rfl rfl)
theorem dX6_append_46 : decode cX6_append 46 = .ok (.iastore, 1) := dk_79 (dk_at dksX6_append_1 23 rfl rfl)
theorem dX6_append_47 : decode cX6_append 47 = .ok (.aload_n 0, 1) := dk_42 (dk_at dksX6_append_2 0 rfl rfl)
theorem dX6_append_48 : decode cX6_append 48 = .ok (.dup, 1) := dk_89 (dk_at dksX6_append_2 1 rfl rfl)
theorem dX6_append_49 : decode cX6_append 49 = .ok (.getfield 176, 3) := dk_180 0 176 (dk_at dksX6_append_2 2 rfl rfl)
theorem dX6_append_52 : decode cX6_append 52 = .ok (.iconst 1, 1) := dk_4 (dk_at dksX6_append_2 5 rfl rfl)
theorem dX6_append_53 : decode cX6_append 53 = .ok (.iadd, 1) := dk_96 (dk_at dksX6_append_2 6 rfl rfl)
theorem dX6_append_54 : decode cX6_append 54 = .ok (.putfield 176, 3) := dk_181 0 176 (dk_at dksX6_append_2 7 rfl rfl)
theorem dX6_append_57 : decode cX6_append 57 = .ok (.aload_n 0, 1) := dk_42 (dk_at dksX6_append_2 10 rfl rfl)
theorem dX6_append_58 : decode cX6_append 58 = .ok (.getfield 176, 3) := dk_180 0 176 (dk_at dksX6_append_2 11 rfl rfl)
theorem dX6_append_61 : decode cX6_append 61 = .ok (.ireturn, 1) := dk_172 (dk_at dksX6_append_2 14 rfl rfl)
abbrev cX6_clearText : ByteArray := prog_13_method_101_code
def yX6_clearText : MethodName := ⟨RX6, "clearText", "()I"⟩
def dkwX6_clearText_0 : List UInt8 := [42, 3, 181, 0, 25, 42, 180, 0, 176, 60, 42, 3, 181, 0, 176, 27, 172]
abbrev dktX6_clearText_0 : List UInt8 := dkwX6_clearText_0 ++ []
theorem dksX6_clearText_0 : cX6_clearText.data.toList.drop 0 = dktX6_clearText_0 := by decide +kernel
theorem dX6_clearText_0 : decode cX6_clearText 0 = .ok (.aload_n 0, 1) := dk_42 (dk_at dksX6_clearText_0 0 rfl rfl)
theorem dX6_clearText_1 : decode cX6_clearText 1 = .ok (.iconst 0, 1) := dk_3 (dk_at dksX6_clearText_0 1 rfl rfl)
theorem dX6_clearText_2 : decode cX6_clearText 2 = .ok (.putfield 25, 3) := dk_181 0 25 (dk_at dksX6_clearText_0 2 rfl rfl)
theorem dX6_clearText_5 : decode cX6_clearText 5 = .ok (.aload_n 0, 1) := dk_42 (dk_at dksX6_clearText_0 5 rfl rfl)
theorem dX6_clearText_6 : decode cX6_clearText 6 = .ok (.getfield 176, 3) := dk_180 0 176 (dk_at dksX6_clearText_0 6 rfl rfl)
theorem dX6_clearText_9 : decode cX6_clearText 9 = .ok (.istore_n 1, 1) := dk_60 (dk_at dksX6_clearText_0 9 rfl rfl)
theorem dX6_clearText_10 : decode cX6_clearText 10 = .ok (.aload_n 0, 1) := dk_42 (dk_at dksX6_clearText_0 10 rfl rfl)
theorem dX6_clearText_11 : decode cX6_clearText 11 = .ok (.iconst 0, 1) := dk_3 (dk_at dksX6_clearText_0 11 rfl rfl)
theorem dX6_clearText_12 : decode cX6_clearText 12 = .ok (.putfield 176, 3) := dk_181 0 176 (dk_at dksX6_clearText_0 12 rfl rfl)
theorem dX6_clearText_15 : decode cX6_clearText 15 = .ok (.iload_n 1, 1) := dk_27 (dk_at dksX6_clearText_0 15 rfl rfl)
theorem dX6_clearText_16 : decode cX6_clearText 16 = .ok (.ireturn, 1) := dk_172 (dk_at dksX6_clearText_0 16 rfl rfl)
abbrev cX6_textLength : ByteArray := prog_13_method_102_code
def yX6_textLength : MethodName := ⟨RX6, "textLength", "()I"⟩
def dkwX6_textLength_0 : List UInt8 := [42, 3, 181, 0, 25, 42, 180, 0, 176, 172]
abbrev dktX6_textLength_0 : List UInt8 := dkwX6_textLength_0 ++ []
theorem dksX6_textLength_0 : cX6_textLength.data.toList.drop 0 = dktX6_textLength_0 := by decide +kernel
theorem dX6_textLength_0 : decode cX6_textLength 0 = .ok (.aload_n 0, 1) := dk_42 (dk_at dksX6_textLength_0 0 rfl rfl)
theorem dX6_textLength_1 : decode cX6_textLength 1 = .ok (.iconst 0, 1) := dk_3 (dk_at dksX6_textLength_0 1 rfl rfl)
theorem dX6_textLength_2 : decode cX6_textLength 2 = .ok (.putfield 25, 3) := dk_181 0 25 (dk_at dksX6_textLength_0 2 rfl rfl)
theorem dX6_textLength_5 : decode cX6_textLength 5 = .ok (.aload_n 0, 1) := dk_42 (dk_at dksX6_textLength_0 5 rfl rfl)
theorem dX6_textLength_6 : decode cX6_textLength 6 = .ok (.getfield 176, 3) := dk_180 0 176 (dk_at dksX6_textLength_0 6 rfl rfl)
theorem dX6_textLength_9 : decode cX6_textLength 9 = .ok (.ireturn, 1) := dk_172 (dk_at dksX6_textLength_0 9 rfl rfl)
abbrev cX6_isValid : ByteArray := prog_13_method_108_code
def yX6_isValid : MethodName := ⟨RX6, "isValid", "()Z"⟩
def dkwX6_isValid_0 : List UInt8 := [42, 3, 181, 0, 25, 42, 3, 182, 0, 200, 60, 42, 180, 0, 182, 154, 0, 7, 4, 167, 0, 4, 3, 172]
abbrev dktX6_isValid_0 : List UInt8 := dkwX6_isValid_0 ++ []
theorem dksX6_isValid_0 : cX6_isValid.data.toList.drop 0 = dktX6_isValid_0 := by decide +kernel
theorem dX6_isValid_0 : decode cX6_isValid 0 = .ok (.aload_n 0, 1) := dk_42 (dk_at dksX6_isValid_0 0 rfl rfl)
theorem dX6_isValid_1 : decode cX6_isValid 1 = .ok (.iconst 0, 1) := dk_3 (dk_at dksX6_isValid_0 1 rfl rfl)
theorem dX6_isValid_2 : decode cX6_isValid 2 = .ok (.putfield 25, 3) := dk_181 0 25 (dk_at dksX6_isValid_0 2 rfl rfl)
theorem dX6_isValid_5 : decode cX6_isValid 5 = .ok (.aload_n 0, 1) := dk_42 (dk_at dksX6_isValid_0 5 rfl rfl)
theorem dX6_isValid_6 : decode cX6_isValid 6 = .ok (.iconst 0, 1) := dk_3 (dk_at dksX6_isValid_0 6 rfl rfl)
theorem dX6_isValid_7 : decode cX6_isValid 7 = .ok (.invokevirtual 200, 3) := dk_182 0 200 (dk_at dksX6_isValid_0 7 rfl rfl)
theorem dX6_isValid_10 : decode cX6_isValid 10 = .ok (.istore_n 1, 1) := dk_60 (dk_at dksX6_isValid_0 10 rfl rfl)
theorem dX6_isValid_11 : decode cX6_isValid 11 = .ok (.aload_n 0, 1) := dk_42 (dk_at dksX6_isValid_0 11 rfl rfl)
theorem dX6_isValid_12 : decode cX6_isValid 12 = .ok (.getfield 182, 3) := dk_180 0 182 (dk_at dksX6_isValid_0 12 rfl rfl)
theorem dX6_isValid_15 : decode cX6_isValid 15 = .ok (.ifCond .ne 7, 3) := dk_154 0 7 (dk_at dksX6_isValid_0 15 rfl rfl)
theorem dX6_isValid_18 : decode cX6_isValid 18 = .ok (.iconst 1, 1) := dk_4 (dk_at dksX6_isValid_0 18 rfl rfl)
theorem dX6_isValid_19 : decode cX6_isValid 19 = .ok (.goto 4, 3) := dk_167 0 4 (dk_at dksX6_isValid_0 19 rfl rfl)
theorem dX6_isValid_22 : decode cX6_isValid 22 = .ok (.iconst 0, 1) := dk_3 (dk_at dksX6_isValid_0 22 rfl rfl)
theorem dX6_isValid_23 : decode cX6_isValid 23 = .ok (.ireturn, 1) := dk_172 (dk_at dksX6_isValid_0 23 rfl rfl)
abbrev cX6_go : ByteArray := prog_13_method_107_code
def yX6_go : MethodName := ⟨RX6, "go", "(Z)I"⟩
def dkwX6_go_3 : List UInt8 := [180, 0, 182, 154, 0, 7, 4, 167, 0, 4, 3, 62, 167, 255, 188, 28, 172]
abbrev dktX6_go_3 : List UInt8 := dkwX6_go_3 ++ []
def dkwX6_go_2 : List UInt8 := [162, 0, 7, 4, 167, 0, 4, 3, 62, 29, 153, 255, 214, 42, 16, 59, 16, 59, 182, 0, 186, 54, 4, 42]
abbrev dktX6_go_2 : List UInt8 := dkwX6_go_2 ++ dktX6_go_3
def dkwX6_go_1 : List UInt8 := [154, 0, 5, 28, 172, 132, 2, 1, 42, 180, 0, 182, 154, 0, 18, 42, 180, 0, 179, 42, 180, 0, 176]
abbrev dktX6_go_1 : List UInt8 := dkwX6_go_1 ++ dktX6_go_2
def dkwX6_go_0 : List UInt8 := [42, 3, 181, 0, 179, 42, 3, 181, 0, 182, 3, 61, 4, 62, 29, 153, 0, 70, 42, 27, 182, 0, 196]
abbrev dktX6_go_0 : List UInt8 := dkwX6_go_0 ++ dktX6_go_1
theorem dksX6_go_0 : cX6_go.data.toList.drop 0 = dktX6_go_0 := by decide +kernel
theorem dksX6_go_1 : cX6_go.data.toList.drop 23 = dktX6_go_1 := dk_seg dksX6_go_0 23 rfl rfl
theorem dksX6_go_2 : cX6_go.data.toList.drop 46 = dktX6_go_2 := dk_seg dksX6_go_1 23 rfl rfl
theorem dksX6_go_3 : cX6_go.data.toList.drop 70 = dktX6_go_3 := dk_seg dksX6_go_2 24 rfl rfl
theorem dX6_go_0 : decode cX6_go 0 = .ok (.aload_n 0, 1) := dk_42 (dk_at dksX6_go_0 0 rfl rfl)
theorem dX6_go_1 : decode cX6_go 1 = .ok (.iconst 0, 1) := dk_3 (dk_at dksX6_go_0 1 rfl rfl)
theorem dX6_go_2 : decode cX6_go 2 = .ok (.putfield 179, 3) := dk_181 0 179 (dk_at dksX6_go_0 2 rfl rfl)
theorem dX6_go_5 : decode cX6_go 5 = .ok (.aload_n 0, 1) := dk_42 (dk_at dksX6_go_0 5 rfl rfl)
theorem dX6_go_6 : decode cX6_go 6 = .ok (.iconst 0, 1) := dk_3 (dk_at dksX6_go_0 6 rfl rfl)
theorem dX6_go_7 : decode cX6_go 7 = .ok (.putfield 182, 3) := dk_181 0 182 (dk_at dksX6_go_0 7 rfl rfl)
theorem dX6_go_10 : decode cX6_go 10 = .ok (.iconst 0, 1) := dk_3 (dk_at dksX6_go_0 10 rfl rfl)
theorem dX6_go_11 : decode cX6_go 11 = .ok (.istore_n 2, 1) := dk_61 (dk_at dksX6_go_0 11 rfl rfl)
theorem dX6_go_12 : decode cX6_go 12 = .ok (.iconst 1, 1) := dk_4 (dk_at dksX6_go_0 12 rfl rfl)
theorem dX6_go_13 : decode cX6_go 13 = .ok (.istore_n 3, 1) := dk_62 (dk_at dksX6_go_0 13 rfl rfl)
theorem dX6_go_14 : decode cX6_go 14 = .ok (.iload_n 3, 1) := dk_29 (dk_at dksX6_go_0 14 rfl rfl)
theorem dX6_go_15 : decode cX6_go 15 = .ok (.ifCond .eq 70, 3) := dk_153 0 70 (dk_at dksX6_go_0 15 rfl rfl)
theorem dX6_go_18 : decode cX6_go 18 = .ok (.aload_n 0, 1) := dk_42 (dk_at dksX6_go_0 18 rfl rfl)
theorem dX6_go_19 : decode cX6_go 19 = .ok (.iload_n 1, 1) := dk_27 (dk_at dksX6_go_0 19 rfl rfl)
theorem dX6_go_20 : decode cX6_go 20 = .ok (.invokevirtual 196, 3) := dk_182 0 196 (dk_at dksX6_go_0 20 rfl rfl)
theorem dX6_go_23 : decode cX6_go 23 = .ok (.ifCond .ne 5, 3) := dk_154 0 5 (dk_at dksX6_go_1 0 rfl rfl)
theorem dX6_go_26 : decode cX6_go 26 = .ok (.iload_n 2, 1) := dk_28 (dk_at dksX6_go_1 3 rfl rfl)
theorem dX6_go_27 : decode cX6_go 27 = .ok (.ireturn, 1) := dk_172 (dk_at dksX6_go_1 4 rfl rfl)
theorem dX6_go_28 : decode cX6_go 28 = .ok (.iinc 2 1, 3) := dk_132 2 1 (dk_at dksX6_go_1 5 rfl rfl)
theorem dX6_go_31 : decode cX6_go 31 = .ok (.aload_n 0, 1) := dk_42 (dk_at dksX6_go_1 8 rfl rfl)
theorem dX6_go_32 : decode cX6_go 32 = .ok (.getfield 182, 3) := dk_180 0 182 (dk_at dksX6_go_1 9 rfl rfl)
theorem dX6_go_35 : decode cX6_go 35 = .ok (.ifCond .ne 18, 3) := dk_154 0 18 (dk_at dksX6_go_1 12 rfl rfl)
theorem dX6_go_38 : decode cX6_go 38 = .ok (.aload_n 0, 1) := dk_42 (dk_at dksX6_go_1 15 rfl rfl)
theorem dX6_go_39 : decode cX6_go 39 = .ok (.getfield 179, 3) := dk_180 0 179 (dk_at dksX6_go_1 16 rfl rfl)
theorem dX6_go_42 : decode cX6_go 42 = .ok (.aload_n 0, 1) := dk_42 (dk_at dksX6_go_1 19 rfl rfl)
theorem dX6_go_43 : decode cX6_go 43 = .ok (.getfield 176, 3) := dk_180 0 176 (dk_at dksX6_go_1 20 rfl rfl)
theorem dX6_go_46 : decode cX6_go 46 = .ok (.if_icmp .ge 7, 3) := dk_162 0 7 (dk_at dksX6_go_2 0 rfl rfl)
theorem dX6_go_49 : decode cX6_go 49 = .ok (.iconst 1, 1) := dk_4 (dk_at dksX6_go_2 3 rfl rfl)
theorem dX6_go_50 : decode cX6_go 50 = .ok (.goto 4, 3) := dk_167 0 4 (dk_at dksX6_go_2 4 rfl rfl)
theorem dX6_go_53 : decode cX6_go 53 = .ok (.iconst 0, 1) := dk_3 (dk_at dksX6_go_2 7 rfl rfl)
theorem dX6_go_54 : decode cX6_go 54 = .ok (.istore_n 3, 1) := dk_62 (dk_at dksX6_go_2 8 rfl rfl)
theorem dX6_go_55 : decode cX6_go 55 = .ok (.iload_n 3, 1) := dk_29 (dk_at dksX6_go_2 9 rfl rfl)
theorem dX6_go_56 : decode cX6_go 56 = .ok (.ifCond .eq (-42), 3) := dk_153 255 214 (dk_at dksX6_go_2 10 rfl rfl)
theorem dX6_go_59 : decode cX6_go 59 = .ok (.aload_n 0, 1) := dk_42 (dk_at dksX6_go_2 13 rfl rfl)
theorem dX6_go_60 : decode cX6_go 60 = .ok (.bipush 59, 2) := dk_16 59 (dk_at dksX6_go_2 14 rfl rfl)
theorem dX6_go_62 : decode cX6_go 62 = .ok (.bipush 59, 2) := dk_16 59 (dk_at dksX6_go_2 16 rfl rfl)
theorem dX6_go_64 : decode cX6_go 64 = .ok (.invokevirtual 186, 3) := dk_182 0 186 (dk_at dksX6_go_2 18 rfl rfl)
theorem dX6_go_67 : decode cX6_go 67 = .ok (.istore 4, 2) := dk_54 4 (dk_at dksX6_go_2 21 rfl rfl)
theorem dX6_go_69 : decode cX6_go 69 = .ok (.aload_n 0, 1) := dk_42 (dk_at dksX6_go_2 23 rfl rfl)
theorem dX6_go_70 : decode cX6_go 70 = .ok (.getfield 182, 3) := dk_180 0 182 (dk_at dksX6_go_3 0 rfl rfl)
theorem dX6_go_73 : decode cX6_go 73 = .ok (.ifCond .ne 7, 3) := dk_154 0 7 (dk_at dksX6_go_3 3 rfl rfl)
theorem dX6_go_76 : decode cX6_go 76 = .ok (.iconst 1, 1) := dk_4 (dk_at dksX6_go_3 6 rfl rfl)
theorem dX6_go_77 : decode cX6_go 77 = .ok (.goto 4, 3) := dk_167 0 4 (dk_at dksX6_go_3 7 rfl rfl)
theorem dX6_go_80 : decode cX6_go 80 = .ok (.iconst 0, 1) := dk_3 (dk_at dksX6_go_3 10 rfl rfl)
theorem dX6_go_81 : decode cX6_go 81 = .ok (.istore_n 3, 1) := dk_62 (dk_at dksX6_go_3 11 rfl rfl)
theorem dX6_go_82 : decode cX6_go 82 = .ok (.goto (-68), 3) := dk_167 255 188 (dk_at dksX6_go_3 12 rfl rfl)
theorem dX6_go_85 : decode cX6_go 85 = .ok (.iload_n 2, 1) := dk_28 (dk_at dksX6_go_3 15 rfl rfl)
theorem dX6_go_86 : decode cX6_go 86 = .ok (.ireturn, 1) := dk_172 (dk_at dksX6_go_3 16 rfl rfl)
abbrev cX6_order : ByteArray := prog_13_method_106_code
def yX6_order : MethodName := ⟨RX6, "order", "(Z)Z"⟩
def dkwX6_order_13 : List UInt8 := [167, 0, 9, 42, 21, 4, 182, 0, 135, 54, 6, 21, 5, 172]
abbrev dktX6_order_13 : List UInt8 := dkwX6_order_13 ++ []
def dkwX6_order_12 : List UInt8 := [160, 0, 12, 42, 21, 4, 182, 0, 126, 167, 0, 23, 28, 8, 160, 0, 12, 42, 21, 4, 182, 0, 129]
abbrev dktX6_order_12 : List UInt8 := dkwX6_order_12 ++ dktX6_order_13
def dkwX6_order_11 : List UInt8 := [182, 0, 110, 167, 0, 51, 28, 6, 160, 0, 12, 42, 21, 4, 182, 0, 117, 167, 0, 37, 28, 7]
abbrev dktX6_order_11 : List UInt8 := dkwX6_order_11 ++ dktX6_order_12
def dkwX6_order_10 : List UInt8 := [154, 0, 7, 4, 167, 0, 4, 3, 54, 5, 21, 5, 153, 0, 68, 28, 6, 162, 0, 13, 42, 28, 21, 4]
abbrev dktX6_order_10 : List UInt8 := dkwX6_order_10 ++ dktX6_order_11
def dkwX6_order_9 : List UInt8 := [182, 0, 79, 4, 160, 0, 7, 4, 167, 0, 22, 3, 167, 0, 18, 42, 21, 4, 3, 182, 0, 47]
abbrev dktX6_order_9 : List UInt8 := dkwX6_order_9 ++ dktX6_order_10
def dkwX6_order_8 : List UInt8 := [182, 0, 79, 154, 0, 7, 4, 167, 0, 46, 3, 167, 0, 42, 28, 8, 160, 0, 22, 42, 21, 4, 3]
abbrev dktX6_order_8 : List UInt8 := dkwX6_order_8 ++ dktX6_order_9
def dkwX6_order_7 : List UInt8 := [96, 17, 39, 15, 163, 0, 7, 4, 167, 0, 69, 3, 167, 0, 65, 28, 7, 160, 0, 21, 42, 21, 4, 3]
abbrev dktX6_order_7 : List UInt8 := dkwX6_order_7 ++ dktX6_order_8
def dkwX6_order_6 : List UInt8 := [162, 0, 7, 4, 167, 0, 97, 3, 167, 0, 93, 28, 6, 160, 0, 26, 42, 180, 0, 7, 3, 46, 21, 4]
abbrev dktX6_order_6 : List UInt8 := dkwX6_order_6 ++ dktX6_order_7
def dkwX6_order_5 : List UInt8 := [16, 48, 100, 54, 4, 27, 154, 0, 5, 4, 172, 28, 6, 162, 0, 22, 42, 180, 0, 7, 6, 46, 16, 40]
abbrev dktX6_order_5 : List UInt8 := dkwX6_order_5 ++ dktX6_order_6
def dkwX6_order_4 : List UInt8 := [16, 48, 16, 57, 184, 0, 29, 153, 0, 22, 16, 10, 21, 4, 104, 42, 16, 48, 16, 57, 182, 0, 186, 96]
abbrev dktX6_order_4 : List UInt8 := dkwX6_order_4 ++ dktX6_order_5
def dkwX6_order_3 : List UInt8 := [154, 0, 52, 42, 180, 0, 179, 42, 180, 0, 176, 162, 0, 41, 42, 180, 0, 22, 42, 180, 0, 179, 46]
abbrev dktX6_order_3 : List UInt8 := dkwX6_order_3 ++ dktX6_order_4
def dkwX6_order_2 : List UInt8 := [167, 0, 5, 16, 51, 182, 0, 186, 16, 48, 100, 54, 4, 28, 6, 160, 0, 59, 42, 180, 0, 182]
abbrev dktX6_order_2 : List UInt8 := dkwX6_order_2 ++ dktX6_order_3
def dkwX6_order_1 : List UInt8 := [167, 0, 5, 16, 48, 28, 6, 160, 0, 8, 16, 57, 167, 0, 16, 28, 16, 6, 160, 0, 8, 16, 50]
abbrev dktX6_order_1 : List UInt8 := dkwX6_order_1 ++ dktX6_order_2
def dkwX6_order_0 : List UInt8 := [42, 182, 0, 193, 61, 42, 16, 32, 16, 32, 182, 0, 186, 62, 42, 28, 6, 160, 0, 8, 16, 49]
abbrev dktX6_order_0 : List UInt8 := dkwX6_order_0 ++ dktX6_order_1
theorem dksX6_order_0 : cX6_order.data.toList.drop 0 = dktX6_order_0 := by decide +kernel
theorem dksX6_order_1 : cX6_order.data.toList.drop 22 = dktX6_order_1 := dk_seg dksX6_order_0 22 rfl rfl
theorem dksX6_order_2 : cX6_order.data.toList.drop 45 = dktX6_order_2 := dk_seg dksX6_order_1 23 rfl rfl
theorem dksX6_order_3 : cX6_order.data.toList.drop 67 = dktX6_order_3 := dk_seg dksX6_order_2 22 rfl rfl
theorem dksX6_order_4 : cX6_order.data.toList.drop 90 = dktX6_order_4 := dk_seg dksX6_order_3 23 rfl rfl
theorem dksX6_order_5 : cX6_order.data.toList.drop 114 = dktX6_order_5 := dk_seg dksX6_order_4 24 rfl rfl
theorem dksX6_order_6 : cX6_order.data.toList.drop 138 = dktX6_order_6 := dk_seg dksX6_order_5 24 rfl rfl
theorem dksX6_order_7 : cX6_order.data.toList.drop 162 = dktX6_order_7 := dk_seg dksX6_order_6 24 rfl rfl
theorem dksX6_order_8 : cX6_order.data.toList.drop 186 = dktX6_order_8 := dk_seg dksX6_order_7 24 rfl rfl
theorem dksX6_order_9 : cX6_order.data.toList.drop 209 = dktX6_order_9 := dk_seg dksX6_order_8 23 rfl rfl
theorem dksX6_order_10 : cX6_order.data.toList.drop 231 = dktX6_order_10 := dk_seg dksX6_order_9 22 rfl rfl
theorem dksX6_order_11 : cX6_order.data.toList.drop 255 = dktX6_order_11 := dk_seg dksX6_order_10 24 rfl rfl
theorem dksX6_order_12 : cX6_order.data.toList.drop 277 = dktX6_order_12 := dk_seg dksX6_order_11 22 rfl rfl
theorem dksX6_order_13 : cX6_order.data.toList.drop 300 = dktX6_order_13 := dk_seg dksX6_order_12 23 rfl rfl
theorem dX6_order_0 : decode cX6_order 0 = .ok (.aload_n 0, 1) := dk_42 (dk_at dksX6_order_0 0 rfl rfl)
theorem dX6_order_1 : decode cX6_order 1 = .ok (.invokevirtual 193, 3) := dk_182 0 193 (dk_at dksX6_order_0 1 rfl rfl)
theorem dX6_order_4 : decode cX6_order 4 = .ok (.istore_n 2, 1) := dk_61 (dk_at dksX6_order_0 4 rfl rfl)
theorem dX6_order_5 : decode cX6_order 5 = .ok (.aload_n 0, 1) := dk_42 (dk_at dksX6_order_0 5 rfl rfl)
theorem dX6_order_6 : decode cX6_order 6 = .ok (.bipush 32, 2) := dk_16 32 (dk_at dksX6_order_0 6 rfl rfl)
theorem dX6_order_8 : decode cX6_order 8 = .ok (.bipush 32, 2) := dk_16 32 (dk_at dksX6_order_0 8 rfl rfl)
theorem dX6_order_10 : decode cX6_order 10 = .ok (.invokevirtual 186, 3) := dk_182 0 186 (dk_at dksX6_order_0 10 rfl rfl)
theorem dX6_order_13 : decode cX6_order 13 = .ok (.istore_n 3, 1) := dk_62 (dk_at dksX6_order_0 13 rfl rfl)
theorem dX6_order_14 : decode cX6_order 14 = .ok (.aload_n 0, 1) := dk_42 (dk_at dksX6_order_0 14 rfl rfl)
theorem dX6_order_15 : decode cX6_order 15 = .ok (.iload_n 2, 1) := dk_28 (dk_at dksX6_order_0 15 rfl rfl)
theorem dX6_order_16 : decode cX6_order 16 = .ok (.iconst 3, 1) := dk_6 (dk_at dksX6_order_0 16 rfl rfl)
theorem dX6_order_17 : decode cX6_order 17 = .ok (.if_icmp .ne 8, 3) := dk_160 0 8 (dk_at dksX6_order_0 17 rfl rfl)
theorem dX6_order_20 : decode cX6_order 20 = .ok (.bipush 49, 2) := dk_16 49 (dk_at dksX6_order_0 20 rfl rfl)
theorem dX6_order_22 : decode cX6_order 22 = .ok (.goto 5, 3) := dk_167 0 5 (dk_at dksX6_order_1 0 rfl rfl)
theorem dX6_order_25 : decode cX6_order 25 = .ok (.bipush 48, 2) := dk_16 48 (dk_at dksX6_order_1 3 rfl rfl)
theorem dX6_order_27 : decode cX6_order 27 = .ok (.iload_n 2, 1) := dk_28 (dk_at dksX6_order_1 5 rfl rfl)
theorem dX6_order_28 : decode cX6_order 28 = .ok (.iconst 3, 1) := dk_6 (dk_at dksX6_order_1 6 rfl rfl)
theorem dX6_order_29 : decode cX6_order 29 = .ok (.if_icmp .ne 8, 3) := dk_160 0 8 (dk_at dksX6_order_1 7 rfl rfl)
theorem dX6_order_32 : decode cX6_order 32 = .ok (.bipush 57, 2) := dk_16 57 (dk_at dksX6_order_1 10 rfl rfl)
theorem dX6_order_34 : decode cX6_order 34 = .ok (.goto 16, 3) := dk_167 0 16 (dk_at dksX6_order_1 12 rfl rfl)
theorem dX6_order_37 : decode cX6_order 37 = .ok (.iload_n 2, 1) := dk_28 (dk_at dksX6_order_1 15 rfl rfl)
theorem dX6_order_38 : decode cX6_order 38 = .ok (.bipush 6, 2) := dk_16 6 (dk_at dksX6_order_1 16 rfl rfl)
theorem dX6_order_40 : decode cX6_order 40 = .ok (.if_icmp .ne 8, 3) := dk_160 0 8 (dk_at dksX6_order_1 18 rfl rfl)
theorem dX6_order_43 : decode cX6_order 43 = .ok (.bipush 50, 2) := dk_16 50 (dk_at dksX6_order_1 21 rfl rfl)
theorem dX6_order_45 : decode cX6_order 45 = .ok (.goto 5, 3) := dk_167 0 5 (dk_at dksX6_order_2 0 rfl rfl)
theorem dX6_order_48 : decode cX6_order 48 = .ok (.bipush 51, 2) := dk_16 51 (dk_at dksX6_order_2 3 rfl rfl)
theorem dX6_order_50 : decode cX6_order 50 = .ok (.invokevirtual 186, 3) := dk_182 0 186 (dk_at dksX6_order_2 5 rfl rfl)
theorem dX6_order_53 : decode cX6_order 53 = .ok (.bipush 48, 2) := dk_16 48 (dk_at dksX6_order_2 8 rfl rfl)
theorem dX6_order_55 : decode cX6_order 55 = .ok (.isub, 1) := dk_100 (dk_at dksX6_order_2 10 rfl rfl)
theorem dX6_order_56 : decode cX6_order 56 = .ok (.istore 4, 2) := dk_54 4 (dk_at dksX6_order_2 11 rfl rfl)
theorem dX6_order_58 : decode cX6_order 58 = .ok (.iload_n 2, 1) := dk_28 (dk_at dksX6_order_2 13 rfl rfl)
theorem dX6_order_59 : decode cX6_order 59 = .ok (.iconst 3, 1) := dk_6 (dk_at dksX6_order_2 14 rfl rfl)
theorem dX6_order_60 : decode cX6_order 60 = .ok (.if_icmp .ne 59, 3) := dk_160 0 59 (dk_at dksX6_order_2 15 rfl rfl)
theorem dX6_order_63 : decode cX6_order 63 = .ok (.aload_n 0, 1) := dk_42 (dk_at dksX6_order_2 18 rfl rfl)
theorem dX6_order_64 : decode cX6_order 64 = .ok (.getfield 182, 3) := dk_180 0 182 (dk_at dksX6_order_2 19 rfl rfl)
theorem dX6_order_67 : decode cX6_order 67 = .ok (.ifCond .ne 52, 3) := dk_154 0 52 (dk_at dksX6_order_3 0 rfl rfl)
theorem dX6_order_70 : decode cX6_order 70 = .ok (.aload_n 0, 1) := dk_42 (dk_at dksX6_order_3 3 rfl rfl)
theorem dX6_order_71 : decode cX6_order 71 = .ok (.getfield 179, 3) := dk_180 0 179 (dk_at dksX6_order_3 4 rfl rfl)
theorem dX6_order_74 : decode cX6_order 74 = .ok (.aload_n 0, 1) := dk_42 (dk_at dksX6_order_3 7 rfl rfl)
theorem dX6_order_75 : decode cX6_order 75 = .ok (.getfield 176, 3) := dk_180 0 176 (dk_at dksX6_order_3 8 rfl rfl)
theorem dX6_order_78 : decode cX6_order 78 = .ok (.if_icmp .ge 41, 3) := dk_162 0 41 (dk_at dksX6_order_3 11 rfl rfl)
theorem dX6_order_81 : decode cX6_order 81 = .ok (.aload_n 0, 1) := dk_42 (dk_at dksX6_order_3 14 rfl rfl)
theorem dX6_order_82 : decode cX6_order 82 = .ok (.getfield 22, 3) := dk_180 0 22 (dk_at dksX6_order_3 15 rfl rfl)
theorem dX6_order_85 : decode cX6_order 85 = .ok (.aload_n 0, 1) := dk_42 (dk_at dksX6_order_3 18 rfl rfl)
theorem dX6_order_86 : decode cX6_order 86 = .ok (.getfield 179, 3) := dk_180 0 179 (dk_at dksX6_order_3 19 rfl rfl)
theorem dX6_order_89 : decode cX6_order 89 = .ok (.iaload, 1) := dk_46 (dk_at dksX6_order_3 22 rfl rfl)
theorem dX6_order_90 : decode cX6_order 90 = .ok (.bipush 48, 2) := dk_16 48 (dk_at dksX6_order_4 0 rfl rfl)
theorem dX6_order_92 : decode cX6_order 92 = .ok (.bipush 57, 2) := dk_16 57 (dk_at dksX6_order_4 2 rfl rfl)
theorem dX6_order_94 : decode cX6_order 94 = .ok (.invokestatic 29, 3) := dk_184 0 29 (dk_at dksX6_order_4 4 rfl rfl)
theorem dX6_order_97 : decode cX6_order 97 = .ok (.ifCond .eq 22, 3) := dk_153 0 22 (dk_at dksX6_order_4 7 rfl rfl)
theorem dX6_order_100 : decode cX6_order 100 = .ok (.bipush 10, 2) := dk_16 10 (dk_at dksX6_order_4 10 rfl rfl)
theorem dX6_order_102 : decode cX6_order 102 = .ok (.iload 4, 2) := dk_21 4 (dk_at dksX6_order_4 12 rfl rfl)
theorem dX6_order_104 : decode cX6_order 104 = .ok (.imul, 1) := dk_104 (dk_at dksX6_order_4 14 rfl rfl)
theorem dX6_order_105 : decode cX6_order 105 = .ok (.aload_n 0, 1) := dk_42 (dk_at dksX6_order_4 15 rfl rfl)
theorem dX6_order_106 : decode cX6_order 106 = .ok (.bipush 48, 2) := dk_16 48 (dk_at dksX6_order_4 16 rfl rfl)
theorem dX6_order_108 : decode cX6_order 108 = .ok (.bipush 57, 2) := dk_16 57 (dk_at dksX6_order_4 18 rfl rfl)
theorem dX6_order_110 : decode cX6_order 110 = .ok (.invokevirtual 186, 3) := dk_182 0 186 (dk_at dksX6_order_4 20 rfl rfl)
theorem dX6_order_113 : decode cX6_order 113 = .ok (.iadd, 1) := dk_96 (dk_at dksX6_order_4 23 rfl rfl)
theorem dX6_order_114 : decode cX6_order 114 = .ok (.bipush 48, 2) := dk_16 48 (dk_at dksX6_order_5 0 rfl rfl)
theorem dX6_order_116 : decode cX6_order 116 = .ok (.isub, 1) := dk_100 (dk_at dksX6_order_5 2 rfl rfl)
theorem dX6_order_117 : decode cX6_order 117 = .ok (.istore 4, 2) := dk_54 4 (dk_at dksX6_order_5 3 rfl rfl)
theorem dX6_order_119 : decode cX6_order 119 = .ok (.iload_n 1, 1) := dk_27 (dk_at dksX6_order_5 5 rfl rfl)
theorem dX6_order_120 : decode cX6_order 120 = .ok (.ifCond .ne 5, 3) := dk_154 0 5 (dk_at dksX6_order_5 6 rfl rfl)
theorem dX6_order_123 : decode cX6_order 123 = .ok (.iconst 1, 1) := dk_4 (dk_at dksX6_order_5 9 rfl rfl)
theorem dX6_order_124 : decode cX6_order 124 = .ok (.ireturn, 1) := dk_172 (dk_at dksX6_order_5 10 rfl rfl)
theorem dX6_order_125 : decode cX6_order 125 = .ok (.iload_n 2, 1) := dk_28 (dk_at dksX6_order_5 11 rfl rfl)
theorem dX6_order_126 : decode cX6_order 126 = .ok (.iconst 3, 1) := dk_6 (dk_at dksX6_order_5 12 rfl rfl)
theorem dX6_order_127 : decode cX6_order 127 = .ok (.if_icmp .ge 22, 3) := dk_162 0 22 (dk_at dksX6_order_5 13 rfl rfl)
theorem dX6_order_130 : decode cX6_order 130 = .ok (.aload_n 0, 1) := dk_42 (dk_at dksX6_order_5 16 rfl rfl)
theorem dX6_order_131 : decode cX6_order 131 = .ok (.getfield 7, 3) := dk_180 0 7 (dk_at dksX6_order_5 17 rfl rfl)
theorem dX6_order_134 : decode cX6_order 134 = .ok (.iconst 3, 1) := dk_6 (dk_at dksX6_order_5 20 rfl rfl)
theorem dX6_order_135 : decode cX6_order 135 = .ok (.iaload, 1) := dk_46 (dk_at dksX6_order_5 21 rfl rfl)
theorem dX6_order_136 : decode cX6_order 136 = .ok (.bipush 40, 2) := dk_16 40 (dk_at dksX6_order_5 22 rfl rfl)
theorem dX6_order_138 : decode cX6_order 138 = .ok (.if_icmp .ge 7, 3) := dk_162 0 7 (dk_at dksX6_order_6 0 rfl rfl)
theorem dX6_order_141 : decode cX6_order 141 = .ok (.iconst 1, 1) := dk_4 (dk_at dksX6_order_6 3 rfl rfl)
theorem dX6_order_142 : decode cX6_order 142 = .ok (.goto 97, 3) := dk_167 0 97 (dk_at dksX6_order_6 4 rfl rfl)
theorem dX6_order_145 : decode cX6_order 145 = .ok (.iconst 0, 1) := dk_3 (dk_at dksX6_order_6 7 rfl rfl)
theorem dX6_order_146 : decode cX6_order 146 = .ok (.goto 93, 3) := dk_167 0 93 (dk_at dksX6_order_6 8 rfl rfl)
theorem dX6_order_149 : decode cX6_order 149 = .ok (.iload_n 2, 1) := dk_28 (dk_at dksX6_order_6 11 rfl rfl)
theorem dX6_order_150 : decode cX6_order 150 = .ok (.iconst 3, 1) := dk_6 (dk_at dksX6_order_6 12 rfl rfl)
theorem dX6_order_151 : decode cX6_order 151 = .ok (.if_icmp .ne 26, 3) := dk_160 0 26 (dk_at dksX6_order_6 13 rfl rfl)
theorem dX6_order_154 : decode cX6_order 154 = .ok (.aload_n 0, 1) := dk_42 (dk_at dksX6_order_6 16 rfl rfl)
theorem dX6_order_155 : decode cX6_order 155 = .ok (.getfield 7, 3) := dk_180 0 7 (dk_at dksX6_order_6 17 rfl rfl)
theorem dX6_order_158 : decode cX6_order 158 = .ok (.iconst 0, 1) := dk_3 (dk_at dksX6_order_6 20 rfl rfl)
theorem dX6_order_159 : decode cX6_order 159 = .ok (.iaload, 1) := dk_46 (dk_at dksX6_order_6 21 rfl rfl)
theorem dX6_order_160 : decode cX6_order 160 = .ok (.iload 4, 2) := dk_21 4 (dk_at dksX6_order_6 22 rfl rfl)
theorem dX6_order_162 : decode cX6_order 162 = .ok (.iadd, 1) := dk_96 (dk_at dksX6_order_7 0 rfl rfl)
theorem dX6_order_163 : decode cX6_order 163 = .ok (.sipush 9999, 3) := dk_17 39 15 (dk_at dksX6_order_7 1 rfl rfl)
theorem dX6_order_166 : decode cX6_order 166 = .ok (.if_icmp .gt 7, 3) := dk_163 0 7 (dk_at dksX6_order_7 4 rfl rfl)
theorem dX6_order_169 : decode cX6_order 169 = .ok (.iconst 1, 1) := dk_4 (dk_at dksX6_order_7 7 rfl rfl)
theorem dX6_order_170 : decode cX6_order 170 = .ok (.goto 69, 3) := dk_167 0 69 (dk_at dksX6_order_7 8 rfl rfl)
theorem dX6_order_173 : decode cX6_order 173 = .ok (.iconst 0, 1) := dk_3 (dk_at dksX6_order_7 11 rfl rfl)
theorem dX6_order_174 : decode cX6_order 174 = .ok (.goto 65, 3) := dk_167 0 65 (dk_at dksX6_order_7 12 rfl rfl)
theorem dX6_order_177 : decode cX6_order 177 = .ok (.iload_n 2, 1) := dk_28 (dk_at dksX6_order_7 15 rfl rfl)
theorem dX6_order_178 : decode cX6_order 178 = .ok (.iconst 4, 1) := dk_7 (dk_at dksX6_order_7 16 rfl rfl)
theorem dX6_order_179 : decode cX6_order 179 = .ok (.if_icmp .ne 21, 3) := dk_160 0 21 (dk_at dksX6_order_7 17 rfl rfl)
theorem dX6_order_182 : decode cX6_order 182 = .ok (.aload_n 0, 1) := dk_42 (dk_at dksX6_order_7 20 rfl rfl)
theorem dX6_order_183 : decode cX6_order 183 = .ok (.iload 4, 2) := dk_21 4 (dk_at dksX6_order_7 21 rfl rfl)
theorem dX6_order_185 : decode cX6_order 185 = .ok (.iconst 0, 1) := dk_3 (dk_at dksX6_order_7 23 rfl rfl)
theorem dX6_order_186 : decode cX6_order 186 = .ok (.invokevirtual 79, 3) := dk_182 0 79 (dk_at dksX6_order_8 0 rfl rfl)
theorem dX6_order_189 : decode cX6_order 189 = .ok (.ifCond .ne 7, 3) := dk_154 0 7 (dk_at dksX6_order_8 3 rfl rfl)
theorem dX6_order_192 : decode cX6_order 192 = .ok (.iconst 1, 1) := dk_4 (dk_at dksX6_order_8 6 rfl rfl)
theorem dX6_order_193 : decode cX6_order 193 = .ok (.goto 46, 3) := dk_167 0 46 (dk_at dksX6_order_8 7 rfl rfl)
theorem dX6_order_196 : decode cX6_order 196 = .ok (.iconst 0, 1) := dk_3 (dk_at dksX6_order_8 10 rfl rfl)
theorem dX6_order_197 : decode cX6_order 197 = .ok (.goto 42, 3) := dk_167 0 42 (dk_at dksX6_order_8 11 rfl rfl)
theorem dX6_order_200 : decode cX6_order 200 = .ok (.iload_n 2, 1) := dk_28 (dk_at dksX6_order_8 14 rfl rfl)
theorem dX6_order_201 : decode cX6_order 201 = .ok (.iconst 5, 1) := dk_8 (dk_at dksX6_order_8 15 rfl rfl)
theorem dX6_order_202 : decode cX6_order 202 = .ok (.if_icmp .ne 22, 3) := dk_160 0 22 (dk_at dksX6_order_8 16 rfl rfl)
theorem dX6_order_205 : decode cX6_order 205 = .ok (.aload_n 0, 1) := dk_42 (dk_at dksX6_order_8 19 rfl rfl)
theorem dX6_order_206 : decode cX6_order 206 = .ok (.iload 4, 2) := dk_21 4 (dk_at dksX6_order_8 20 rfl rfl)
theorem dX6_order_208 : decode cX6_order 208 = .ok (.iconst 0, 1) := dk_3 (dk_at dksX6_order_8 22 rfl rfl)
theorem dX6_order_209 : decode cX6_order 209 = .ok (.invokevirtual 79, 3) := dk_182 0 79 (dk_at dksX6_order_9 0 rfl rfl)
theorem dX6_order_212 : decode cX6_order 212 = .ok (.iconst 1, 1) := dk_4 (dk_at dksX6_order_9 3 rfl rfl)
theorem dX6_order_213 : decode cX6_order 213 = .ok (.if_icmp .ne 7, 3) := dk_160 0 7 (dk_at dksX6_order_9 4 rfl rfl)
theorem dX6_order_216 : decode cX6_order 216 = .ok (.iconst 1, 1) := dk_4 (dk_at dksX6_order_9 7 rfl rfl)
theorem dX6_order_217 : decode cX6_order 217 = .ok (.goto 22, 3) := dk_167 0 22 (dk_at dksX6_order_9 8 rfl rfl)
theorem dX6_order_220 : decode cX6_order 220 = .ok (.iconst 0, 1) := dk_3 (dk_at dksX6_order_9 11 rfl rfl)
theorem dX6_order_221 : decode cX6_order 221 = .ok (.goto 18, 3) := dk_167 0 18 (dk_at dksX6_order_9 12 rfl rfl)
theorem dX6_order_224 : decode cX6_order 224 = .ok (.aload_n 0, 1) := dk_42 (dk_at dksX6_order_9 15 rfl rfl)
theorem dX6_order_225 : decode cX6_order 225 = .ok (.iload 4, 2) := dk_21 4 (dk_at dksX6_order_9 16 rfl rfl)
theorem dX6_order_227 : decode cX6_order 227 = .ok (.iconst 0, 1) := dk_3 (dk_at dksX6_order_9 18 rfl rfl)
theorem dX6_order_228 : decode cX6_order 228 = .ok (.invokevirtual 47, 3) := dk_182 0 47 (dk_at dksX6_order_9 19 rfl rfl)
theorem dX6_order_231 : decode cX6_order 231 = .ok (.ifCond .ne 7, 3) := dk_154 0 7 (dk_at dksX6_order_10 0 rfl rfl)
theorem dX6_order_234 : decode cX6_order 234 = .ok (.iconst 1, 1) := dk_4 (dk_at dksX6_order_10 3 rfl rfl)
theorem dX6_order_235 : decode cX6_order 235 = .ok (.goto 4, 3) := dk_167 0 4 (dk_at dksX6_order_10 4 rfl rfl)
theorem dX6_order_238 : decode cX6_order 238 = .ok (.iconst 0, 1) := dk_3 (dk_at dksX6_order_10 7 rfl rfl)
theorem dX6_order_239 : decode cX6_order 239 = .ok (.istore 5, 2) := dk_54 5 (dk_at dksX6_order_10 8 rfl rfl)
theorem dX6_order_241 : decode cX6_order 241 = .ok (.iload 5, 2) := dk_21 5 (dk_at dksX6_order_10 10 rfl rfl)
theorem dX6_order_243 : decode cX6_order 243 = .ok (.ifCond .eq 68, 3) := dk_153 0 68 (dk_at dksX6_order_10 12 rfl rfl)
theorem dX6_order_246 : decode cX6_order 246 = .ok (.iload_n 2, 1) := dk_28 (dk_at dksX6_order_10 15 rfl rfl)
theorem dX6_order_247 : decode cX6_order 247 = .ok (.iconst 3, 1) := dk_6 (dk_at dksX6_order_10 16 rfl rfl)
theorem dX6_order_248 : decode cX6_order 248 = .ok (.if_icmp .ge 13, 3) := dk_162 0 13 (dk_at dksX6_order_10 17 rfl rfl)
theorem dX6_order_251 : decode cX6_order 251 = .ok (.aload_n 0, 1) := dk_42 (dk_at dksX6_order_10 20 rfl rfl)
theorem dX6_order_252 : decode cX6_order 252 = .ok (.iload_n 2, 1) := dk_28 (dk_at dksX6_order_10 21 rfl rfl)
theorem dX6_order_253 : decode cX6_order 253 = .ok (.iload 4, 2) := dk_21 4 (dk_at dksX6_order_10 22 rfl rfl)
theorem dX6_order_255 : decode cX6_order 255 = .ok (.invokevirtual 110, 3) := dk_182 0 110 (dk_at dksX6_order_11 0 rfl rfl)
theorem dX6_order_258 : decode cX6_order 258 = .ok (.goto 51, 3) := dk_167 0 51 (dk_at dksX6_order_11 3 rfl rfl)
theorem dX6_order_261 : decode cX6_order 261 = .ok (.iload_n 2, 1) := dk_28 (dk_at dksX6_order_11 6 rfl rfl)
theorem dX6_order_262 : decode cX6_order 262 = .ok (.iconst 3, 1) := dk_6 (dk_at dksX6_order_11 7 rfl rfl)
theorem dX6_order_263 : decode cX6_order 263 = .ok (.if_icmp .ne 12, 3) := dk_160 0 12 (dk_at dksX6_order_11 8 rfl rfl)
theorem dX6_order_266 : decode cX6_order 266 = .ok (.aload_n 0, 1) := dk_42 (dk_at dksX6_order_11 11 rfl rfl)
theorem dX6_order_267 : decode cX6_order 267 = .ok (.iload 4, 2) := dk_21 4 (dk_at dksX6_order_11 12 rfl rfl)
theorem dX6_order_269 : decode cX6_order 269 = .ok (.invokevirtual 117, 3) := dk_182 0 117 (dk_at dksX6_order_11 14 rfl rfl)
theorem dX6_order_272 : decode cX6_order 272 = .ok (.goto 37, 3) := dk_167 0 37 (dk_at dksX6_order_11 17 rfl rfl)
theorem dX6_order_275 : decode cX6_order 275 = .ok (.iload_n 2, 1) := dk_28 (dk_at dksX6_order_11 20 rfl rfl)
theorem dX6_order_276 : decode cX6_order 276 = .ok (.iconst 4, 1) := dk_7 (dk_at dksX6_order_11 21 rfl rfl)
theorem dX6_order_277 : decode cX6_order 277 = .ok (.if_icmp .ne 12, 3) := dk_160 0 12 (dk_at dksX6_order_12 0 rfl rfl)
theorem dX6_order_280 : decode cX6_order 280 = .ok (.aload_n 0, 1) := dk_42 (dk_at dksX6_order_12 3 rfl rfl)
theorem dX6_order_281 : decode cX6_order 281 = .ok (.iload 4, 2) := dk_21 4 (dk_at dksX6_order_12 4 rfl rfl)
theorem dX6_order_283 : decode cX6_order 283 = .ok (.invokevirtual 126, 3) := dk_182 0 126 (dk_at dksX6_order_12 6 rfl rfl)
theorem dX6_order_286 : decode cX6_order 286 = .ok (.goto 23, 3) := dk_167 0 23 (dk_at dksX6_order_12 9 rfl rfl)
theorem dX6_order_289 : decode cX6_order 289 = .ok (.iload_n 2, 1) := dk_28 (dk_at dksX6_order_12 12 rfl rfl)
theorem dX6_order_290 : decode cX6_order 290 = .ok (.iconst 5, 1) := dk_8 (dk_at dksX6_order_12 13 rfl rfl)
theorem dX6_order_291 : decode cX6_order 291 = .ok (.if_icmp .ne 12, 3) := dk_160 0 12 (dk_at dksX6_order_12 14 rfl rfl)
theorem dX6_order_294 : decode cX6_order 294 = .ok (.aload_n 0, 1) := dk_42 (dk_at dksX6_order_12 17 rfl rfl)
theorem dX6_order_295 : decode cX6_order 295 = .ok (.iload 4, 2) := dk_21 4 (dk_at dksX6_order_12 18 rfl rfl)
theorem dX6_order_297 : decode cX6_order 297 = .ok (.invokevirtual 129, 3) := dk_182 0 129 (dk_at dksX6_order_12 20 rfl rfl)
theorem dX6_order_300 : decode cX6_order 300 = .ok (.goto 9, 3) := dk_167 0 9 (dk_at dksX6_order_13 0 rfl rfl)
theorem dX6_order_303 : decode cX6_order 303 = .ok (.aload_n 0, 1) := dk_42 (dk_at dksX6_order_13 3 rfl rfl)
theorem dX6_order_304 : decode cX6_order 304 = .ok (.iload 4, 2) := dk_21 4 (dk_at dksX6_order_13 4 rfl rfl)
theorem dX6_order_306 : decode cX6_order 306 = .ok (.invokevirtual 135, 3) := dk_182 0 135 (dk_at dksX6_order_13 6 rfl rfl)
theorem dX6_order_309 : decode cX6_order 309 = .ok (.istore 6, 2) := dk_54 6 (dk_at dksX6_order_13 9 rfl rfl)
theorem dX6_order_311 : decode cX6_order 311 = .ok (.iload 5, 2) := dk_21 5 (dk_at dksX6_order_13 11 rfl rfl)
theorem dX6_order_313 : decode cX6_order 313 = .ok (.ireturn, 1) := dk_172 (dk_at dksX6_order_13 13 rfl rfl)
abbrev cX6_kind : ByteArray := prog_13_method_105_code
def yX6_kind : MethodName := ⟨RX6, "kind", "()I"⟩
def dkwX6_kind_11 : List UInt8 := [16, 97, 16, 108, 16, 108, 3, 3, 3, 182, 0, 189, 8, 172]
abbrev dktX6_kind_11 : List UInt8 := dkwX6_kind_11 ++ []
def dkwX6_kind_10 : List UInt8 := [6, 172, 27, 16, 98, 160, 0, 17, 42, 16, 101, 16, 100, 3, 3, 3, 3, 182, 0, 189, 7, 172, 42]
abbrev dktX6_kind_10 : List UInt8 := dkwX6_kind_10 ++ dktX6_kind_11
def dkwX6_kind_9 : List UInt8 := [182, 0, 189, 5, 172, 27, 16, 119, 160, 0, 18, 42, 16, 97, 16, 105, 16, 116, 3, 3, 3, 182, 0, 189]
abbrev dktX6_kind_9 : List UInt8 := dkwX6_kind_9 ++ dktX6_kind_10
def dkwX6_kind_8 : List UInt8 := [16, 108, 16, 101, 3, 3, 3, 182, 0, 189, 16, 6, 172, 42, 16, 108, 16, 97, 16, 105, 16, 110, 3, 3]
abbrev dktX6_kind_8 : List UInt8 := dkwX6_kind_8 ++ dktX6_kind_9
def dkwX6_kind_7 : List UInt8 := [42, 180, 0, 22, 42, 180, 0, 179, 46, 167, 0, 4, 3, 61, 28, 16, 111, 160, 0, 19, 42, 16, 111]
abbrev dktX6_kind_7 : List UInt8 := dkwX6_kind_7 ++ dktX6_kind_8
def dkwX6_kind_6 : List UInt8 := [3, 3, 182, 0, 189, 4, 172, 27, 16, 112, 160, 0, 66, 42, 180, 0, 179, 42, 180, 0, 176, 162, 0, 15]
abbrev dktX6_kind_6 : List UInt8 := dkwX6_kind_6 ++ dktX6_kind_7
def dkwX6_kind_5 : List UInt8 := [16, 115, 16, 115, 182, 0, 189, 3, 172, 27, 16, 110, 160, 0, 19, 42, 16, 111, 16, 98, 16, 108, 16, 101]
abbrev dktX6_kind_5 : List UInt8 := dkwX6_kind_5 ++ dktX6_kind_6
def dkwX6_kind_4 : List UInt8 := [42, 180, 0, 182, 153, 0, 5, 3, 172, 27, 16, 101, 160, 0, 21, 42, 16, 120, 16, 112, 16, 114, 16, 101]
abbrev dktX6_kind_4 : List UInt8 := dkwX6_kind_4 ++ dktX6_kind_5
def dkwX6_kind_3 : List UInt8 := [153, 0, 19, 27, 16, 98, 161, 0, 13, 27, 16, 119, 163, 0, 7, 4, 167, 0, 4, 3, 100, 181, 0, 179]
abbrev dktX6_kind_3 : List UInt8 := dkwX6_kind_3 ++ dktX6_kind_4
def dkwX6_kind_2 : List UInt8 := [16, 99, 159, 0, 7, 4, 167, 0, 4, 3, 181, 0, 182, 42, 89, 180, 0, 179, 42, 180, 0, 182]
abbrev dktX6_kind_2 : List UInt8 := dkwX6_kind_2 ++ dktX6_kind_3
def dkwX6_kind_1 : List UInt8 := [16, 110, 159, 0, 31, 27, 16, 112, 159, 0, 25, 27, 16, 119, 159, 0, 19, 27, 16, 98, 159, 0, 13, 27]
abbrev dktX6_kind_1 : List UInt8 := dkwX6_kind_1 ++ dktX6_kind_2
def dkwX6_kind_0 : List UInt8 := [42, 16, 98, 16, 119, 182, 0, 186, 60, 42, 42, 180, 0, 182, 154, 0, 39, 27, 16, 101, 159, 0, 37, 27]
abbrev dktX6_kind_0 : List UInt8 := dkwX6_kind_0 ++ dktX6_kind_1
theorem dksX6_kind_0 : cX6_kind.data.toList.drop 0 = dktX6_kind_0 := by decide +kernel
theorem dksX6_kind_1 : cX6_kind.data.toList.drop 24 = dktX6_kind_1 := dk_seg dksX6_kind_0 24 rfl rfl
theorem dksX6_kind_2 : cX6_kind.data.toList.drop 48 = dktX6_kind_2 := dk_seg dksX6_kind_1 24 rfl rfl
theorem dksX6_kind_3 : cX6_kind.data.toList.drop 70 = dktX6_kind_3 := dk_seg dksX6_kind_2 22 rfl rfl
theorem dksX6_kind_4 : cX6_kind.data.toList.drop 94 = dktX6_kind_4 := dk_seg dksX6_kind_3 24 rfl rfl
theorem dksX6_kind_5 : cX6_kind.data.toList.drop 118 = dktX6_kind_5 := dk_seg dksX6_kind_4 24 rfl rfl
theorem dksX6_kind_6 : cX6_kind.data.toList.drop 142 = dktX6_kind_6 := dk_seg dksX6_kind_5 24 rfl rfl
theorem dksX6_kind_7 : cX6_kind.data.toList.drop 166 = dktX6_kind_7 := dk_seg dksX6_kind_6 24 rfl rfl
theorem dksX6_kind_8 : cX6_kind.data.toList.drop 189 = dktX6_kind_8 := dk_seg dksX6_kind_7 23 rfl rfl
theorem dksX6_kind_9 : cX6_kind.data.toList.drop 213 = dktX6_kind_9 := dk_seg dksX6_kind_8 24 rfl rfl
theorem dksX6_kind_10 : cX6_kind.data.toList.drop 237 = dktX6_kind_10 := dk_seg dksX6_kind_9 24 rfl rfl
theorem dksX6_kind_11 : cX6_kind.data.toList.drop 260 = dktX6_kind_11 := dk_seg dksX6_kind_10 23 rfl rfl
theorem dX6_kind_0 : decode cX6_kind 0 = .ok (.aload_n 0, 1) := dk_42 (dk_at dksX6_kind_0 0 rfl rfl)
theorem dX6_kind_1 : decode cX6_kind 1 = .ok (.bipush 98, 2) := dk_16 98 (dk_at dksX6_kind_0 1 rfl rfl)
theorem dX6_kind_3 : decode cX6_kind 3 = .ok (.bipush 119, 2) := dk_16 119 (dk_at dksX6_kind_0 3 rfl rfl)
theorem dX6_kind_5 : decode cX6_kind 5 = .ok (.invokevirtual 186, 3) := dk_182 0 186 (dk_at dksX6_kind_0 5 rfl rfl)
theorem dX6_kind_8 : decode cX6_kind 8 = .ok (.istore_n 1, 1) := dk_60 (dk_at dksX6_kind_0 8 rfl rfl)
theorem dX6_kind_9 : decode cX6_kind 9 = .ok (.aload_n 0, 1) := dk_42 (dk_at dksX6_kind_0 9 rfl rfl)
theorem dX6_kind_10 : decode cX6_kind 10 = .ok (.aload_n 0, 1) := dk_42 (dk_at dksX6_kind_0 10 rfl rfl)
theorem dX6_kind_11 : decode cX6_kind 11 = .ok (.getfield 182, 3) := dk_180 0 182 (dk_at dksX6_kind_0 11 rfl rfl)
theorem dX6_kind_14 : decode cX6_kind 14 = .ok (.ifCond .ne 39, 3) := dk_154 0 39 (dk_at dksX6_kind_0 14 rfl rfl)
theorem dX6_kind_17 : decode cX6_kind 17 = .ok (.iload_n 1, 1) := dk_27 (dk_at dksX6_kind_0 17 rfl rfl)
theorem dX6_kind_18 : decode cX6_kind 18 = .ok (.bipush 101, 2) := dk_16 101 (dk_at dksX6_kind_0 18 rfl rfl)
theorem dX6_kind_20 : decode cX6_kind 20 = .ok (.if_icmp .eq 37, 3) := dk_159 0 37 (dk_at dksX6_kind_0 20 rfl rfl)
theorem dX6_kind_23 : decode cX6_kind 23 = .ok (.iload_n 1, 1) := dk_27 (dk_at dksX6_kind_0 23 rfl rfl)
theorem dX6_kind_24 : decode cX6_kind 24 = .ok (.bipush 110, 2) := dk_16 110 (dk_at dksX6_kind_1 0 rfl rfl)
theorem dX6_kind_26 : decode cX6_kind 26 = .ok (.if_icmp .eq 31, 3) := dk_159 0 31 (dk_at dksX6_kind_1 2 rfl rfl)
theorem dX6_kind_29 : decode cX6_kind 29 = .ok (.iload_n 1, 1) := dk_27 (dk_at dksX6_kind_1 5 rfl rfl)
theorem dX6_kind_30 : decode cX6_kind 30 = .ok (.bipush 112, 2) := dk_16 112 (dk_at dksX6_kind_1 6 rfl rfl)
theorem dX6_kind_32 : decode cX6_kind 32 = .ok (.if_icmp .eq 25, 3) := dk_159 0 25 (dk_at dksX6_kind_1 8 rfl rfl)
theorem dX6_kind_35 : decode cX6_kind 35 = .ok (.iload_n 1, 1) := dk_27 (dk_at dksX6_kind_1 11 rfl rfl)
theorem dX6_kind_36 : decode cX6_kind 36 = .ok (.bipush 119, 2) := dk_16 119 (dk_at dksX6_kind_1 12 rfl rfl)
theorem dX6_kind_38 : decode cX6_kind 38 = .ok (.if_icmp .eq 19, 3) := dk_159 0 19 (dk_at dksX6_kind_1 14 rfl rfl)
theorem dX6_kind_41 : decode cX6_kind 41 = .ok (.iload_n 1, 1) := dk_27 (dk_at dksX6_kind_1 17 rfl rfl)
theorem dX6_kind_42 : decode cX6_kind 42 = .ok (.bipush 98, 2) := dk_16 98 (dk_at dksX6_kind_1 18 rfl rfl)
theorem dX6_kind_44 : decode cX6_kind 44 = .ok (.if_icmp .eq 13, 3) := dk_159 0 13 (dk_at dksX6_kind_1 20 rfl rfl)
theorem dX6_kind_47 : decode cX6_kind 47 = .ok (.iload_n 1, 1) := dk_27 (dk_at dksX6_kind_1 23 rfl rfl)
theorem dX6_kind_48 : decode cX6_kind 48 = .ok (.bipush 99, 2) := dk_16 99 (dk_at dksX6_kind_2 0 rfl rfl)
theorem dX6_kind_50 : decode cX6_kind 50 = .ok (.if_icmp .eq 7, 3) := dk_159 0 7 (dk_at dksX6_kind_2 2 rfl rfl)
theorem dX6_kind_53 : decode cX6_kind 53 = .ok (.iconst 1, 1) := dk_4 (dk_at dksX6_kind_2 5 rfl rfl)
theorem dX6_kind_54 : decode cX6_kind 54 = .ok (.goto 4, 3) := dk_167 0 4 (dk_at dksX6_kind_2 6 rfl rfl)
theorem dX6_kind_57 : decode cX6_kind 57 = .ok (.iconst 0, 1) := dk_3 (dk_at dksX6_kind_2 9 rfl rfl)
theorem dX6_kind_58 : decode cX6_kind 58 = .ok (.putfield 182, 3) := dk_181 0 182 (dk_at dksX6_kind_2 10 rfl rfl)
theorem dX6_kind_61 : decode cX6_kind 61 = .ok (.aload_n 0, 1) := dk_42 (dk_at dksX6_kind_2 13 rfl rfl)
theorem dX6_kind_62 : decode cX6_kind 62 = .ok (.dup, 1) := dk_89 (dk_at dksX6_kind_2 14 rfl rfl)
theorem dX6_kind_63 : decode cX6_kind 63 = .ok (.getfield 179, 3) := dk_180 0 179 (dk_at dksX6_kind_2 15 rfl rfl)
theorem dX6_kind_66 : decode cX6_kind 66 = .ok (.aload_n 0, 1) := dk_42 (dk_at dksX6_kind_2 18 rfl rfl)
theorem dX6_kind_67 : decode cX6_kind 67 = .ok (.getfield 182, 3) := dk_180 0 182 (dk_at dksX6_kind_2 19 rfl rfl)
theorem dX6_kind_70 : decode cX6_kind 70 = .ok (.ifCond .eq 19, 3) := dk_153 0 19 (dk_at dksX6_kind_3 0 rfl rfl)
theorem dX6_kind_73 : decode cX6_kind 73 = .ok (.iload_n 1, 1) := dk_27 (dk_at dksX6_kind_3 3 rfl rfl)
theorem dX6_kind_74 : decode cX6_kind 74 = .ok (.bipush 98, 2) := dk_16 98 (dk_at dksX6_kind_3 4 rfl rfl)
theorem dX6_kind_76 : decode cX6_kind 76 = .ok (.if_icmp .lt 13, 3) := dk_161 0 13 (dk_at dksX6_kind_3 6 rfl rfl)
theorem dX6_kind_79 : decode cX6_kind 79 = .ok (.iload_n 1, 1) := dk_27 (dk_at dksX6_kind_3 9 rfl rfl)
theorem dX6_kind_80 : decode cX6_kind 80 = .ok (.bipush 119, 2) := dk_16 119 (dk_at dksX6_kind_3 10 rfl rfl)
theorem dX6_kind_82 : decode cX6_kind 82 = .ok (.if_icmp .gt 7, 3) := dk_163 0 7 (dk_at dksX6_kind_3 12 rfl rfl)
theorem dX6_kind_85 : decode cX6_kind 85 = .ok (.iconst 1, 1) := dk_4 (dk_at dksX6_kind_3 15 rfl rfl)
theorem dX6_kind_86 : decode cX6_kind 86 = .ok (.goto 4, 3) := dk_167 0 4 (dk_at dksX6_kind_3 16 rfl rfl)
theorem dX6_kind_89 : decode cX6_kind 89 = .ok (.iconst 0, 1) := dk_3 (dk_at dksX6_kind_3 19 rfl rfl)
theorem dX6_kind_90 : decode cX6_kind 90 = .ok (.isub, 1) := dk_100 (dk_at dksX6_kind_3 20 rfl rfl)
theorem dX6_kind_91 : decode cX6_kind 91 = .ok (.putfield 179, 3) := dk_181 0 179 (dk_at dksX6_kind_3 21 rfl rfl)
theorem dX6_kind_94 : decode cX6_kind 94 = .ok (.aload_n 0, 1) := dk_42 (dk_at dksX6_kind_4 0 rfl rfl)
theorem dX6_kind_95 : decode cX6_kind 95 = .ok (.getfield 182, 3) := dk_180 0 182 (dk_at dksX6_kind_4 1 rfl rfl)
theorem dX6_kind_98 : decode cX6_kind 98 = .ok (.ifCond .eq 5, 3) := dk_153 0 5 (dk_at dksX6_kind_4 4 rfl rfl)
theorem dX6_kind_101 : decode cX6_kind 101 = .ok (.iconst 0, 1) := dk_3 (dk_at dksX6_kind_4 7 rfl rfl)
theorem dX6_kind_102 : decode cX6_kind 102 = .ok (.ireturn, 1) := dk_172 (dk_at dksX6_kind_4 8 rfl rfl)
theorem dX6_kind_103 : decode cX6_kind 103 = .ok (.iload_n 1, 1) := dk_27 (dk_at dksX6_kind_4 9 rfl rfl)
theorem dX6_kind_104 : decode cX6_kind 104 = .ok (.bipush 101, 2) := dk_16 101 (dk_at dksX6_kind_4 10 rfl rfl)
theorem dX6_kind_106 : decode cX6_kind 106 = .ok (.if_icmp .ne 21, 3) := dk_160 0 21 (dk_at dksX6_kind_4 12 rfl rfl)
theorem dX6_kind_109 : decode cX6_kind 109 = .ok (.aload_n 0, 1) := dk_42 (dk_at dksX6_kind_4 15 rfl rfl)
theorem dX6_kind_110 : decode cX6_kind 110 = .ok (.bipush 120, 2) := dk_16 120 (dk_at dksX6_kind_4 16 rfl rfl)
theorem dX6_kind_112 : decode cX6_kind 112 = .ok (.bipush 112, 2) := dk_16 112 (dk_at dksX6_kind_4 18 rfl rfl)
theorem dX6_kind_114 : decode cX6_kind 114 = .ok (.bipush 114, 2) := dk_16 114 (dk_at dksX6_kind_4 20 rfl rfl)
theorem dX6_kind_116 : decode cX6_kind 116 = .ok (.bipush 101, 2) := dk_16 101 (dk_at dksX6_kind_4 22 rfl rfl)
theorem dX6_kind_118 : decode cX6_kind 118 = .ok (.bipush 115, 2) := dk_16 115 (dk_at dksX6_kind_5 0 rfl rfl)
theorem dX6_kind_120 : decode cX6_kind 120 = .ok (.bipush 115, 2) := dk_16 115 (dk_at dksX6_kind_5 2 rfl rfl)
theorem dX6_kind_122 : decode cX6_kind 122 = .ok (.invokevirtual 189, 3) := dk_182 0 189 (dk_at dksX6_kind_5 4 rfl rfl)
theorem dX6_kind_125 : decode cX6_kind 125 = .ok (.iconst 0, 1) := dk_3 (dk_at dksX6_kind_5 7 rfl rfl)
theorem dX6_kind_126 : decode cX6_kind 126 = .ok (.ireturn, 1) := dk_172 (dk_at dksX6_kind_5 8 rfl rfl)
theorem dX6_kind_127 : decode cX6_kind 127 = .ok (.iload_n 1, 1) := dk_27 (dk_at dksX6_kind_5 9 rfl rfl)
theorem dX6_kind_128 : decode cX6_kind 128 = .ok (.bipush 110, 2) := dk_16 110 (dk_at dksX6_kind_5 10 rfl rfl)
theorem dX6_kind_130 : decode cX6_kind 130 = .ok (.if_icmp .ne 19, 3) := dk_160 0 19 (dk_at dksX6_kind_5 12 rfl rfl)
theorem dX6_kind_133 : decode cX6_kind 133 = .ok (.aload_n 0, 1) := dk_42 (dk_at dksX6_kind_5 15 rfl rfl)
theorem dX6_kind_134 : decode cX6_kind 134 = .ok (.bipush 111, 2) := dk_16 111 (dk_at dksX6_kind_5 16 rfl rfl)
theorem dX6_kind_136 : decode cX6_kind 136 = .ok (.bipush 98, 2) := dk_16 98 (dk_at dksX6_kind_5 18 rfl rfl)
theorem dX6_kind_138 : decode cX6_kind 138 = .ok (.bipush 108, 2) := dk_16 108 (dk_at dksX6_kind_5 20 rfl rfl)
theorem dX6_kind_140 : decode cX6_kind 140 = .ok (.bipush 101, 2) := dk_16 101 (dk_at dksX6_kind_5 22 rfl rfl)
theorem dX6_kind_142 : decode cX6_kind 142 = .ok (.iconst 0, 1) := dk_3 (dk_at dksX6_kind_6 0 rfl rfl)
theorem dX6_kind_143 : decode cX6_kind 143 = .ok (.iconst 0, 1) := dk_3 (dk_at dksX6_kind_6 1 rfl rfl)
theorem dX6_kind_144 : decode cX6_kind 144 = .ok (.invokevirtual 189, 3) := dk_182 0 189 (dk_at dksX6_kind_6 2 rfl rfl)
theorem dX6_kind_147 : decode cX6_kind 147 = .ok (.iconst 1, 1) := dk_4 (dk_at dksX6_kind_6 5 rfl rfl)
theorem dX6_kind_148 : decode cX6_kind 148 = .ok (.ireturn, 1) := dk_172 (dk_at dksX6_kind_6 6 rfl rfl)
theorem dX6_kind_149 : decode cX6_kind 149 = .ok (.iload_n 1, 1) := dk_27 (dk_at dksX6_kind_6 7 rfl rfl)
theorem dX6_kind_150 : decode cX6_kind 150 = .ok (.bipush 112, 2) := dk_16 112 (dk_at dksX6_kind_6 8 rfl rfl)
theorem dX6_kind_152 : decode cX6_kind 152 = .ok (.if_icmp .ne 66, 3) := dk_160 0 66 (dk_at dksX6_kind_6 10 rfl rfl)
theorem dX6_kind_155 : decode cX6_kind 155 = .ok (.aload_n 0, 1) := dk_42 (dk_at dksX6_kind_6 13 rfl rfl)
theorem dX6_kind_156 : decode cX6_kind 156 = .ok (.getfield 179, 3) := dk_180 0 179 (dk_at dksX6_kind_6 14 rfl rfl)
theorem dX6_kind_159 : decode cX6_kind 159 = .ok (.aload_n 0, 1) := dk_42 (dk_at dksX6_kind_6 17 rfl rfl)
theorem dX6_kind_160 : decode cX6_kind 160 = .ok (.getfield 176, 3) := dk_180 0 176 (dk_at dksX6_kind_6 18 rfl rfl)
theorem dX6_kind_163 : decode cX6_kind 163 = .ok (.if_icmp .ge 15, 3) := dk_162 0 15 (dk_at dksX6_kind_6 21 rfl rfl)
theorem dX6_kind_166 : decode cX6_kind 166 = .ok (.aload_n 0, 1) := dk_42 (dk_at dksX6_kind_7 0 rfl rfl)
theorem dX6_kind_167 : decode cX6_kind 167 = .ok (.getfield 22, 3) := dk_180 0 22 (dk_at dksX6_kind_7 1 rfl rfl)
theorem dX6_kind_170 : decode cX6_kind 170 = .ok (.aload_n 0, 1) := dk_42 (dk_at dksX6_kind_7 4 rfl rfl)
theorem dX6_kind_171 : decode cX6_kind 171 = .ok (.getfield 179, 3) := dk_180 0 179 (dk_at dksX6_kind_7 5 rfl rfl)
theorem dX6_kind_174 : decode cX6_kind 174 = .ok (.iaload, 1) := dk_46 (dk_at dksX6_kind_7 8 rfl rfl)
theorem dX6_kind_175 : decode cX6_kind 175 = .ok (.goto 4, 3) := dk_167 0 4 (dk_at dksX6_kind_7 9 rfl rfl)
theorem dX6_kind_178 : decode cX6_kind 178 = .ok (.iconst 0, 1) := dk_3 (dk_at dksX6_kind_7 12 rfl rfl)
theorem dX6_kind_179 : decode cX6_kind 179 = .ok (.istore_n 2, 1) := dk_61 (dk_at dksX6_kind_7 13 rfl rfl)
theorem dX6_kind_180 : decode cX6_kind 180 = .ok (.iload_n 2, 1) := dk_28 (dk_at dksX6_kind_7 14 rfl rfl)
theorem dX6_kind_181 : decode cX6_kind 181 = .ok (.bipush 111, 2) := dk_16 111 (dk_at dksX6_kind_7 15 rfl rfl)
theorem dX6_kind_183 : decode cX6_kind 183 = .ok (.if_icmp .ne 19, 3) := dk_160 0 19 (dk_at dksX6_kind_7 17 rfl rfl)
theorem dX6_kind_186 : decode cX6_kind 186 = .ok (.aload_n 0, 1) := dk_42 (dk_at dksX6_kind_7 20 rfl rfl)
theorem dX6_kind_187 : decode cX6_kind 187 = .ok (.bipush 111, 2) := dk_16 111 (dk_at dksX6_kind_7 21 rfl rfl)
theorem dX6_kind_189 : decode cX6_kind 189 = .ok (.bipush 108, 2) := dk_16 108 (dk_at dksX6_kind_8 0 rfl rfl)
theorem dX6_kind_191 : decode cX6_kind 191 = .ok (.bipush 101, 2) := dk_16 101 (dk_at dksX6_kind_8 2 rfl rfl)
theorem dX6_kind_193 : decode cX6_kind 193 = .ok (.iconst 0, 1) := dk_3 (dk_at dksX6_kind_8 4 rfl rfl)
theorem dX6_kind_194 : decode cX6_kind 194 = .ok (.iconst 0, 1) := dk_3 (dk_at dksX6_kind_8 5 rfl rfl)
theorem dX6_kind_195 : decode cX6_kind 195 = .ok (.iconst 0, 1) := dk_3 (dk_at dksX6_kind_8 6 rfl rfl)
theorem dX6_kind_196 : decode cX6_kind 196 = .ok (.invokevirtual 189, 3) := dk_182 0 189 (dk_at dksX6_kind_8 7 rfl rfl)
theorem dX6_kind_199 : decode cX6_kind 199 = .ok (.bipush 6, 2) := dk_16 6 (dk_at dksX6_kind_8 10 rfl rfl)
theorem dX6_kind_201 : decode cX6_kind 201 = .ok (.ireturn, 1) := dk_172 (dk_at dksX6_kind_8 12 rfl rfl)
theorem dX6_kind_202 : decode cX6_kind 202 = .ok (.aload_n 0, 1) := dk_42 (dk_at dksX6_kind_8 13 rfl rfl)
theorem dX6_kind_203 : decode cX6_kind 203 = .ok (.bipush 108, 2) := dk_16 108 (dk_at dksX6_kind_8 14 rfl rfl)
theorem dX6_kind_205 : decode cX6_kind 205 = .ok (.bipush 97, 2) := dk_16 97 (dk_at dksX6_kind_8 16 rfl rfl)
theorem dX6_kind_207 : decode cX6_kind 207 = .ok (.bipush 105, 2) := dk_16 105 (dk_at dksX6_kind_8 18 rfl rfl)
theorem dX6_kind_209 : decode cX6_kind 209 = .ok (.bipush 110, 2) := dk_16 110 (dk_at dksX6_kind_8 20 rfl rfl)
theorem dX6_kind_211 : decode cX6_kind 211 = .ok (.iconst 0, 1) := dk_3 (dk_at dksX6_kind_8 22 rfl rfl)
theorem dX6_kind_212 : decode cX6_kind 212 = .ok (.iconst 0, 1) := dk_3 (dk_at dksX6_kind_8 23 rfl rfl)
theorem dX6_kind_213 : decode cX6_kind 213 = .ok (.invokevirtual 189, 3) := dk_182 0 189 (dk_at dksX6_kind_9 0 rfl rfl)
theorem dX6_kind_216 : decode cX6_kind 216 = .ok (.iconst 2, 1) := dk_5 (dk_at dksX6_kind_9 3 rfl rfl)
theorem dX6_kind_217 : decode cX6_kind 217 = .ok (.ireturn, 1) := dk_172 (dk_at dksX6_kind_9 4 rfl rfl)
theorem dX6_kind_218 : decode cX6_kind 218 = .ok (.iload_n 1, 1) := dk_27 (dk_at dksX6_kind_9 5 rfl rfl)
theorem dX6_kind_219 : decode cX6_kind 219 = .ok (.bipush 119, 2) := dk_16 119 (dk_at dksX6_kind_9 6 rfl rfl)
theorem dX6_kind_221 : decode cX6_kind 221 = .ok (.if_icmp .ne 18, 3) := dk_160 0 18 (dk_at dksX6_kind_9 8 rfl rfl)
theorem dX6_kind_224 : decode cX6_kind 224 = .ok (.aload_n 0, 1) := dk_42 (dk_at dksX6_kind_9 11 rfl rfl)
theorem dX6_kind_225 : decode cX6_kind 225 = .ok (.bipush 97, 2) := dk_16 97 (dk_at dksX6_kind_9 12 rfl rfl)
theorem dX6_kind_227 : decode cX6_kind 227 = .ok (.bipush 105, 2) := dk_16 105 (dk_at dksX6_kind_9 14 rfl rfl)
theorem dX6_kind_229 : decode cX6_kind 229 = .ok (.bipush 116, 2) := dk_16 116 (dk_at dksX6_kind_9 16 rfl rfl)
theorem dX6_kind_231 : decode cX6_kind 231 = .ok (.iconst 0, 1) := dk_3 (dk_at dksX6_kind_9 18 rfl rfl)
theorem dX6_kind_232 : decode cX6_kind 232 = .ok (.iconst 0, 1) := dk_3 (dk_at dksX6_kind_9 19 rfl rfl)
theorem dX6_kind_233 : decode cX6_kind 233 = .ok (.iconst 0, 1) := dk_3 (dk_at dksX6_kind_9 20 rfl rfl)
theorem dX6_kind_234 : decode cX6_kind 234 = .ok (.invokevirtual 189, 3) := dk_182 0 189 (dk_at dksX6_kind_9 21 rfl rfl)
theorem dX6_kind_237 : decode cX6_kind 237 = .ok (.iconst 3, 1) := dk_6 (dk_at dksX6_kind_10 0 rfl rfl)
theorem dX6_kind_238 : decode cX6_kind 238 = .ok (.ireturn, 1) := dk_172 (dk_at dksX6_kind_10 1 rfl rfl)
theorem dX6_kind_239 : decode cX6_kind 239 = .ok (.iload_n 1, 1) := dk_27 (dk_at dksX6_kind_10 2 rfl rfl)
theorem dX6_kind_240 : decode cX6_kind 240 = .ok (.bipush 98, 2) := dk_16 98 (dk_at dksX6_kind_10 3 rfl rfl)
theorem dX6_kind_242 : decode cX6_kind 242 = .ok (.if_icmp .ne 17, 3) := dk_160 0 17 (dk_at dksX6_kind_10 5 rfl rfl)
theorem dX6_kind_245 : decode cX6_kind 245 = .ok (.aload_n 0, 1) := dk_42 (dk_at dksX6_kind_10 8 rfl rfl)
theorem dX6_kind_246 : decode cX6_kind 246 = .ok (.bipush 101, 2) := dk_16 101 (dk_at dksX6_kind_10 9 rfl rfl)
theorem dX6_kind_248 : decode cX6_kind 248 = .ok (.bipush 100, 2) := dk_16 100 (dk_at dksX6_kind_10 11 rfl rfl)
theorem dX6_kind_250 : decode cX6_kind 250 = .ok (.iconst 0, 1) := dk_3 (dk_at dksX6_kind_10 13 rfl rfl)
theorem dX6_kind_251 : decode cX6_kind 251 = .ok (.iconst 0, 1) := dk_3 (dk_at dksX6_kind_10 14 rfl rfl)
theorem dX6_kind_252 : decode cX6_kind 252 = .ok (.iconst 0, 1) := dk_3 (dk_at dksX6_kind_10 15 rfl rfl)
theorem dX6_kind_253 : decode cX6_kind 253 = .ok (.iconst 0, 1) := dk_3 (dk_at dksX6_kind_10 16 rfl rfl)
theorem dX6_kind_254 : decode cX6_kind 254 = .ok (.invokevirtual 189, 3) := dk_182 0 189 (dk_at dksX6_kind_10 17 rfl rfl)
theorem dX6_kind_257 : decode cX6_kind 257 = .ok (.iconst 4, 1) := dk_7 (dk_at dksX6_kind_10 20 rfl rfl)
theorem dX6_kind_258 : decode cX6_kind 258 = .ok (.ireturn, 1) := dk_172 (dk_at dksX6_kind_10 21 rfl rfl)
theorem dX6_kind_259 : decode cX6_kind 259 = .ok (.aload_n 0, 1) := dk_42 (dk_at dksX6_kind_10 22 rfl rfl)
theorem dX6_kind_260 : decode cX6_kind 260 = .ok (.bipush 97, 2) := dk_16 97 (dk_at dksX6_kind_11 0 rfl rfl)
theorem dX6_kind_262 : decode cX6_kind 262 = .ok (.bipush 108, 2) := dk_16 108 (dk_at dksX6_kind_11 2 rfl rfl)
theorem dX6_kind_264 : decode cX6_kind 264 = .ok (.bipush 108, 2) := dk_16 108 (dk_at dksX6_kind_11 4 rfl rfl)
theorem dX6_kind_266 : decode cX6_kind 266 = .ok (.iconst 0, 1) := dk_3 (dk_at dksX6_kind_11 6 rfl rfl)
theorem dX6_kind_267 : decode cX6_kind 267 = .ok (.iconst 0, 1) := dk_3 (dk_at dksX6_kind_11 7 rfl rfl)
theorem dX6_kind_268 : decode cX6_kind 268 = .ok (.iconst 0, 1) := dk_3 (dk_at dksX6_kind_11 8 rfl rfl)
theorem dX6_kind_269 : decode cX6_kind 269 = .ok (.invokevirtual 189, 3) := dk_182 0 189 (dk_at dksX6_kind_11 9 rfl rfl)
theorem dX6_kind_272 : decode cX6_kind 272 = .ok (.iconst 5, 1) := dk_8 (dk_at dksX6_kind_11 12 rfl rfl)
theorem dX6_kind_273 : decode cX6_kind 273 = .ok (.ireturn, 1) := dk_172 (dk_at dksX6_kind_11 13 rfl rfl)
abbrev cX6_sign : ByteArray := prog_13_method_103_code
def yX6_sign : MethodName := ⟨RX6, "sign", "(II)I"⟩
def dkwX6_sign_3 : List UInt8 := [167, 0, 4, 4, 96, 181, 0, 179, 29, 172]
abbrev dktX6_sign_3 : List UInt8 := dkwX6_sign_3 ++ []
def dkwX6_sign_2 : List UInt8 := [154, 0, 7, 4, 167, 0, 4, 3, 181, 0, 182, 42, 89, 180, 0, 179, 42, 180, 0, 182, 153, 0, 7, 3]
abbrev dktX6_sign_2 : List UInt8 := dkwX6_sign_2 ++ dktX6_sign_3
def dkwX6_sign_1 : List UInt8 := [180, 0, 179, 46, 167, 0, 4, 3, 62, 42, 42, 180, 0, 182, 154, 0, 12, 29, 27, 28, 184, 0, 29]
abbrev dktX6_sign_1 : List UInt8 := dkwX6_sign_1 ++ dktX6_sign_2
def dkwX6_sign_0 : List UInt8 := [42, 180, 0, 179, 42, 180, 0, 176, 162, 0, 22, 42, 180, 0, 182, 154, 0, 15, 42, 180, 0, 22, 42]
abbrev dktX6_sign_0 : List UInt8 := dkwX6_sign_0 ++ dktX6_sign_1
theorem dksX6_sign_0 : cX6_sign.data.toList.drop 0 = dktX6_sign_0 := by decide +kernel
theorem dksX6_sign_1 : cX6_sign.data.toList.drop 23 = dktX6_sign_1 := dk_seg dksX6_sign_0 23 rfl rfl
theorem dksX6_sign_2 : cX6_sign.data.toList.drop 46 = dktX6_sign_2 := dk_seg dksX6_sign_1 23 rfl rfl
theorem dksX6_sign_3 : cX6_sign.data.toList.drop 70 = dktX6_sign_3 := dk_seg dksX6_sign_2 24 rfl rfl
theorem dX6_sign_0 : decode cX6_sign 0 = .ok (.aload_n 0, 1) := dk_42 (dk_at dksX6_sign_0 0 rfl rfl)
theorem dX6_sign_1 : decode cX6_sign 1 = .ok (.getfield 179, 3) := dk_180 0 179 (dk_at dksX6_sign_0 1 rfl rfl)
theorem dX6_sign_4 : decode cX6_sign 4 = .ok (.aload_n 0, 1) := dk_42 (dk_at dksX6_sign_0 4 rfl rfl)
theorem dX6_sign_5 : decode cX6_sign 5 = .ok (.getfield 176, 3) := dk_180 0 176 (dk_at dksX6_sign_0 5 rfl rfl)
theorem dX6_sign_8 : decode cX6_sign 8 = .ok (.if_icmp .ge 22, 3) := dk_162 0 22 (dk_at dksX6_sign_0 8 rfl rfl)
theorem dX6_sign_11 : decode cX6_sign 11 = .ok (.aload_n 0, 1) := dk_42 (dk_at dksX6_sign_0 11 rfl rfl)
theorem dX6_sign_12 : decode cX6_sign 12 = .ok (.getfield 182, 3) := dk_180 0 182 (dk_at dksX6_sign_0 12 rfl rfl)
theorem dX6_sign_15 : decode cX6_sign 15 = .ok (.ifCond .ne 15, 3) := dk_154 0 15 (dk_at dksX6_sign_0 15 rfl rfl)
theorem dX6_sign_18 : decode cX6_sign 18 = .ok (.aload_n 0, 1) := dk_42 (dk_at dksX6_sign_0 18 rfl rfl)
theorem dX6_sign_19 : decode cX6_sign 19 = .ok (.getfield 22, 3) := dk_180 0 22 (dk_at dksX6_sign_0 19 rfl rfl)
theorem dX6_sign_22 : decode cX6_sign 22 = .ok (.aload_n 0, 1) := dk_42 (dk_at dksX6_sign_0 22 rfl rfl)
theorem dX6_sign_23 : decode cX6_sign 23 = .ok (.getfield 179, 3) := dk_180 0 179 (dk_at dksX6_sign_1 0 rfl rfl)
theorem dX6_sign_26 : decode cX6_sign 26 = .ok (.iaload, 1) := dk_46 (dk_at dksX6_sign_1 3 rfl rfl)
theorem dX6_sign_27 : decode cX6_sign 27 = .ok (.goto 4, 3) := dk_167 0 4 (dk_at dksX6_sign_1 4 rfl rfl)
theorem dX6_sign_30 : decode cX6_sign 30 = .ok (.iconst 0, 1) := dk_3 (dk_at dksX6_sign_1 7 rfl rfl)
theorem dX6_sign_31 : decode cX6_sign 31 = .ok (.istore_n 3, 1) := dk_62 (dk_at dksX6_sign_1 8 rfl rfl)
theorem dX6_sign_32 : decode cX6_sign 32 = .ok (.aload_n 0, 1) := dk_42 (dk_at dksX6_sign_1 9 rfl rfl)
theorem dX6_sign_33 : decode cX6_sign 33 = .ok (.aload_n 0, 1) := dk_42 (dk_at dksX6_sign_1 10 rfl rfl)
theorem dX6_sign_34 : decode cX6_sign 34 = .ok (.getfield 182, 3) := dk_180 0 182 (dk_at dksX6_sign_1 11 rfl rfl)
theorem dX6_sign_37 : decode cX6_sign 37 = .ok (.ifCond .ne 12, 3) := dk_154 0 12 (dk_at dksX6_sign_1 14 rfl rfl)
theorem dX6_sign_40 : decode cX6_sign 40 = .ok (.iload_n 3, 1) := dk_29 (dk_at dksX6_sign_1 17 rfl rfl)
theorem dX6_sign_41 : decode cX6_sign 41 = .ok (.iload_n 1, 1) := dk_27 (dk_at dksX6_sign_1 18 rfl rfl)
theorem dX6_sign_42 : decode cX6_sign 42 = .ok (.iload_n 2, 1) := dk_28 (dk_at dksX6_sign_1 19 rfl rfl)
theorem dX6_sign_43 : decode cX6_sign 43 = .ok (.invokestatic 29, 3) := dk_184 0 29 (dk_at dksX6_sign_1 20 rfl rfl)
theorem dX6_sign_46 : decode cX6_sign 46 = .ok (.ifCond .ne 7, 3) := dk_154 0 7 (dk_at dksX6_sign_2 0 rfl rfl)
theorem dX6_sign_49 : decode cX6_sign 49 = .ok (.iconst 1, 1) := dk_4 (dk_at dksX6_sign_2 3 rfl rfl)
theorem dX6_sign_50 : decode cX6_sign 50 = .ok (.goto 4, 3) := dk_167 0 4 (dk_at dksX6_sign_2 4 rfl rfl)
theorem dX6_sign_53 : decode cX6_sign 53 = .ok (.iconst 0, 1) := dk_3 (dk_at dksX6_sign_2 7 rfl rfl)
theorem dX6_sign_54 : decode cX6_sign 54 = .ok (.putfield 182, 3) := dk_181 0 182 (dk_at dksX6_sign_2 8 rfl rfl)
theorem dX6_sign_57 : decode cX6_sign 57 = .ok (.aload_n 0, 1) := dk_42 (dk_at dksX6_sign_2 11 rfl rfl)
theorem dX6_sign_58 : decode cX6_sign 58 = .ok (.dup, 1) := dk_89 (dk_at dksX6_sign_2 12 rfl rfl)
theorem dX6_sign_59 : decode cX6_sign 59 = .ok (.getfield 179, 3) := dk_180 0 179 (dk_at dksX6_sign_2 13 rfl rfl)
theorem dX6_sign_62 : decode cX6_sign 62 = .ok (.aload_n 0, 1) := dk_42 (dk_at dksX6_sign_2 16 rfl rfl)
theorem dX6_sign_63 : decode cX6_sign 63 = .ok (.getfield 182, 3) := dk_180 0 182 (dk_at dksX6_sign_2 17 rfl rfl)
theorem dX6_sign_66 : decode cX6_sign 66 = .ok (.ifCond .eq 7, 3) := dk_153 0 7 (dk_at dksX6_sign_2 20 rfl rfl)
theorem dX6_sign_69 : decode cX6_sign 69 = .ok (.iconst 0, 1) := dk_3 (dk_at dksX6_sign_2 23 rfl rfl)
theorem dX6_sign_70 : decode cX6_sign 70 = .ok (.goto 4, 3) := dk_167 0 4 (dk_at dksX6_sign_3 0 rfl rfl)
theorem dX6_sign_73 : decode cX6_sign 73 = .ok (.iconst 1, 1) := dk_4 (dk_at dksX6_sign_3 3 rfl rfl)
theorem dX6_sign_74 : decode cX6_sign 74 = .ok (.iadd, 1) := dk_96 (dk_at dksX6_sign_3 4 rfl rfl)
theorem dX6_sign_75 : decode cX6_sign 75 = .ok (.putfield 179, 3) := dk_181 0 179 (dk_at dksX6_sign_3 5 rfl rfl)
theorem dX6_sign_78 : decode cX6_sign 78 = .ok (.iload_n 3, 1) := dk_29 (dk_at dksX6_sign_3 8 rfl rfl)
theorem dX6_sign_79 : decode cX6_sign 79 = .ok (.ireturn, 1) := dk_172 (dk_at dksX6_sign_3 9 rfl rfl)
abbrev cX6_word : ByteArray := prog_13_method_104_code
def yX6_word : MethodName := ⟨RX6, "word", "(IIIIII)V"⟩
def dkwX6_word_4 : List UInt8 := [21, 6, 21, 6, 182, 0, 186, 54, 7, 177]
abbrev dktX6_word_4 : List UInt8 := dkwX6_word_4 ++ []
def dkwX6_word_3 : List UInt8 := [167, 0, 11, 42, 21, 5, 21, 5, 182, 0, 186, 54, 7, 21, 6, 154, 0, 8, 21, 7, 167, 0, 11, 42]
abbrev dktX6_word_3 : List UInt8 := dkwX6_word_3 ++ dktX6_word_4
def dkwX6_word_2 : List UInt8 := [21, 7, 167, 0, 11, 42, 21, 4, 21, 4, 182, 0, 186, 54, 7, 21, 5, 154, 0, 8, 21, 7]
abbrev dktX6_word_2 : List UInt8 := dkwX6_word_2 ++ dktX6_word_3
def dkwX6_word_1 : List UInt8 := [54, 7, 29, 154, 0, 8, 21, 7, 167, 0, 9, 42, 29, 29, 182, 0, 186, 54, 7, 21, 4, 154, 0, 8]
abbrev dktX6_word_1 : List UInt8 := dkwX6_word_1 ++ dktX6_word_2
def dkwX6_word_0 : List UInt8 := [42, 27, 27, 182, 0, 186, 54, 7, 28, 154, 0, 8, 21, 7, 167, 0, 9, 42, 28, 28, 182, 0, 186]
abbrev dktX6_word_0 : List UInt8 := dkwX6_word_0 ++ dktX6_word_1
theorem dksX6_word_0 : cX6_word.data.toList.drop 0 = dktX6_word_0 := by decide +kernel
theorem dksX6_word_1 : cX6_word.data.toList.drop 23 = dktX6_word_1 := dk_seg dksX6_word_0 23 rfl rfl
theorem dksX6_word_2 : cX6_word.data.toList.drop 47 = dktX6_word_2 := dk_seg dksX6_word_1 24 rfl rfl
theorem dksX6_word_3 : cX6_word.data.toList.drop 69 = dktX6_word_3 := dk_seg dksX6_word_2 22 rfl rfl
theorem dksX6_word_4 : cX6_word.data.toList.drop 93 = dktX6_word_4 := dk_seg dksX6_word_3 24 rfl rfl
theorem dX6_word_0 : decode cX6_word 0 = .ok (.aload_n 0, 1) := dk_42 (dk_at dksX6_word_0 0 rfl rfl)
theorem dX6_word_1 : decode cX6_word 1 = .ok (.iload_n 1, 1) := dk_27 (dk_at dksX6_word_0 1 rfl rfl)
theorem dX6_word_2 : decode cX6_word 2 = .ok (.iload_n 1, 1) := dk_27 (dk_at dksX6_word_0 2 rfl rfl)
theorem dX6_word_3 : decode cX6_word 3 = .ok (.invokevirtual 186, 3) := dk_182 0 186 (dk_at dksX6_word_0 3 rfl rfl)
theorem dX6_word_6 : decode cX6_word 6 = .ok (.istore 7, 2) := dk_54 7 (dk_at dksX6_word_0 6 rfl rfl)
theorem dX6_word_8 : decode cX6_word 8 = .ok (.iload_n 2, 1) := dk_28 (dk_at dksX6_word_0 8 rfl rfl)
theorem dX6_word_9 : decode cX6_word 9 = .ok (.ifCond .ne 8, 3) := dk_154 0 8 (dk_at dksX6_word_0 9 rfl rfl)
theorem dX6_word_12 : decode cX6_word 12 = .ok (.iload 7, 2) := dk_21 7 (dk_at dksX6_word_0 12 rfl rfl)
theorem dX6_word_14 : decode cX6_word 14 = .ok (.goto 9, 3) := dk_167 0 9 (dk_at dksX6_word_0 14 rfl rfl)
theorem dX6_word_17 : decode cX6_word 17 = .ok (.aload_n 0, 1) := dk_42 (dk_at dksX6_word_0 17 rfl rfl)
theorem dX6_word_18 : decode cX6_word 18 = .ok (.iload_n 2, 1) := dk_28 (dk_at dksX6_word_0 18 rfl rfl)
theorem dX6_word_19 : decode cX6_word 19 = .ok (.iload_n 2, 1) := dk_28 (dk_at dksX6_word_0 19 rfl rfl)
theorem dX6_word_20 : decode cX6_word 20 = .ok (.invokevirtual 186, 3) := dk_182 0 186 (dk_at dksX6_word_0 20 rfl rfl)
theorem dX6_word_23 : decode cX6_word 23 = .ok (.istore 7, 2) := dk_54 7 (dk_at dksX6_word_1 0 rfl rfl)
theorem dX6_word_25 : decode cX6_word 25 = .ok (.iload_n 3, 1) := dk_29 (dk_at dksX6_word_1 2 rfl rfl)
theorem dX6_word_26 : decode cX6_word 26 = .ok (.ifCond .ne 8, 3) := dk_154 0 8 (dk_at dksX6_word_1 3 rfl rfl)
theorem dX6_word_29 : decode cX6_word 29 = .ok (.iload 7, 2) := dk_21 7 (dk_at dksX6_word_1 6 rfl rfl)
theorem dX6_word_31 : decode cX6_word 31 = .ok (.goto 9, 3) := dk_167 0 9 (dk_at dksX6_word_1 8 rfl rfl)
theorem dX6_word_34 : decode cX6_word 34 = .ok (.aload_n 0, 1) := dk_42 (dk_at dksX6_word_1 11 rfl rfl)
theorem dX6_word_35 : decode cX6_word 35 = .ok (.iload_n 3, 1) := dk_29 (dk_at dksX6_word_1 12 rfl rfl)
theorem dX6_word_36 : decode cX6_word 36 = .ok (.iload_n 3, 1) := dk_29 (dk_at dksX6_word_1 13 rfl rfl)
theorem dX6_word_37 : decode cX6_word 37 = .ok (.invokevirtual 186, 3) := dk_182 0 186 (dk_at dksX6_word_1 14 rfl rfl)
theorem dX6_word_40 : decode cX6_word 40 = .ok (.istore 7, 2) := dk_54 7 (dk_at dksX6_word_1 17 rfl rfl)
theorem dX6_word_42 : decode cX6_word 42 = .ok (.iload 4, 2) := dk_21 4 (dk_at dksX6_word_1 19 rfl rfl)
theorem dX6_word_44 : decode cX6_word 44 = .ok (.ifCond .ne 8, 3) := dk_154 0 8 (dk_at dksX6_word_1 21 rfl rfl)
theorem dX6_word_47 : decode cX6_word 47 = .ok (.iload 7, 2) := dk_21 7 (dk_at dksX6_word_2 0 rfl rfl)
theorem dX6_word_49 : decode cX6_word 49 = .ok (.goto 11, 3) := dk_167 0 11 (dk_at dksX6_word_2 2 rfl rfl)
theorem dX6_word_52 : decode cX6_word 52 = .ok (.aload_n 0, 1) := dk_42 (dk_at dksX6_word_2 5 rfl rfl)
theorem dX6_word_53 : decode cX6_word 53 = .ok (.iload 4, 2) := dk_21 4 (dk_at dksX6_word_2 6 rfl rfl)
theorem dX6_word_55 : decode cX6_word 55 = .ok (.iload 4, 2) := dk_21 4 (dk_at dksX6_word_2 8 rfl rfl)
theorem dX6_word_57 : decode cX6_word 57 = .ok (.invokevirtual 186, 3) := dk_182 0 186 (dk_at dksX6_word_2 10 rfl rfl)
theorem dX6_word_60 : decode cX6_word 60 = .ok (.istore 7, 2) := dk_54 7 (dk_at dksX6_word_2 13 rfl rfl)
theorem dX6_word_62 : decode cX6_word 62 = .ok (.iload 5, 2) := dk_21 5 (dk_at dksX6_word_2 15 rfl rfl)
theorem dX6_word_64 : decode cX6_word 64 = .ok (.ifCond .ne 8, 3) := dk_154 0 8 (dk_at dksX6_word_2 17 rfl rfl)
theorem dX6_word_67 : decode cX6_word 67 = .ok (.iload 7, 2) := dk_21 7 (dk_at dksX6_word_2 20 rfl rfl)
theorem dX6_word_69 : decode cX6_word 69 = .ok (.goto 11, 3) := dk_167 0 11 (dk_at dksX6_word_3 0 rfl rfl)
theorem dX6_word_72 : decode cX6_word 72 = .ok (.aload_n 0, 1) := dk_42 (dk_at dksX6_word_3 3 rfl rfl)
theorem dX6_word_73 : decode cX6_word 73 = .ok (.iload 5, 2) := dk_21 5 (dk_at dksX6_word_3 4 rfl rfl)
theorem dX6_word_75 : decode cX6_word 75 = .ok (.iload 5, 2) := dk_21 5 (dk_at dksX6_word_3 6 rfl rfl)
theorem dX6_word_77 : decode cX6_word 77 = .ok (.invokevirtual 186, 3) := dk_182 0 186 (dk_at dksX6_word_3 8 rfl rfl)
theorem dX6_word_80 : decode cX6_word 80 = .ok (.istore 7, 2) := dk_54 7 (dk_at dksX6_word_3 11 rfl rfl)
theorem dX6_word_82 : decode cX6_word 82 = .ok (.iload 6, 2) := dk_21 6 (dk_at dksX6_word_3 13 rfl rfl)
theorem dX6_word_84 : decode cX6_word 84 = .ok (.ifCond .ne 8, 3) := dk_154 0 8 (dk_at dksX6_word_3 15 rfl rfl)
theorem dX6_word_87 : decode cX6_word 87 = .ok (.iload 7, 2) := dk_21 7 (dk_at dksX6_word_3 18 rfl rfl)
theorem dX6_word_89 : decode cX6_word 89 = .ok (.goto 11, 3) := dk_167 0 11 (dk_at dksX6_word_3 20 rfl rfl)
theorem dX6_word_92 : decode cX6_word 92 = .ok (.aload_n 0, 1) := dk_42 (dk_at dksX6_word_3 23 rfl rfl)
theorem dX6_word_93 : decode cX6_word 93 = .ok (.iload 6, 2) := dk_21 6 (dk_at dksX6_word_4 0 rfl rfl)
theorem dX6_word_95 : decode cX6_word 95 = .ok (.iload 6, 2) := dk_21 6 (dk_at dksX6_word_4 2 rfl rfl)
theorem dX6_word_97 : decode cX6_word 97 = .ok (.invokevirtual 186, 3) := dk_182 0 186 (dk_at dksX6_word_4 4 rfl rfl)
theorem dX6_word_100 : decode cX6_word 100 = .ok (.istore 7, 2) := dk_54 7 (dk_at dksX6_word_4 7 rfl rfl)
theorem dX6_word_102 : decode cX6_word 102 = .ok (.return_, 1) := dk_177 (dk_at dksX6_word_4 9 rfl rfl)
abbrev cX6_errorPosition : ByteArray := prog_13_method_109_code
def yX6_errorPosition : MethodName := ⟨RX6, "errorPosition", "()I"⟩
def dkwX6_errorPosition_1 : List UInt8 := [167, 0, 7, 42, 180, 0, 176, 172]
abbrev dktX6_errorPosition_1 : List UInt8 := dkwX6_errorPosition_1 ++ []
def dkwX6_errorPosition_0 : List UInt8 := [42, 3, 181, 0, 25, 42, 3, 182, 0, 200, 60, 42, 180, 0, 182, 153, 0, 10, 42, 180, 0, 179]
abbrev dktX6_errorPosition_0 : List UInt8 := dkwX6_errorPosition_0 ++ dktX6_errorPosition_1
theorem dksX6_errorPosition_0 : cX6_errorPosition.data.toList.drop 0 = dktX6_errorPosition_0 := by decide +kernel
theorem dksX6_errorPosition_1 : cX6_errorPosition.data.toList.drop 22 = dktX6_errorPosition_1 := dk_seg dksX6_errorPosition_0 22 rfl rfl
theorem dX6_errorPosition_0 : decode cX6_errorPosition 0 = .ok (.aload_n 0, 1) := dk_42 (dk_at dksX6_errorPosition_0 0 rfl rfl)
theorem dX6_errorPosition_1 : decode cX6_errorPosition 1 = .ok (.iconst 0, 1) := dk_3 (dk_at dksX6_errorPosition_0 1 rfl rfl)
theorem dX6_errorPosition_2 : decode cX6_errorPosition 2 = .ok (.putfield 25, 3) := dk_181 0 25 (dk_at dksX6_errorPosition_0 2 rfl rfl)
theorem dX6_errorPosition_5 : decode cX6_errorPosition 5 = .ok (.aload_n 0, 1) := dk_42 (dk_at dksX6_errorPosition_0 5 rfl rfl)
theorem dX6_errorPosition_6 : decode cX6_errorPosition 6 = .ok (.iconst 0, 1) := dk_3 (dk_at dksX6_errorPosition_0 6 rfl rfl)
theorem dX6_errorPosition_7 : decode cX6_errorPosition 7 = .ok (.invokevirtual 200, 3) := dk_182 0 200 (dk_at dksX6_errorPosition_0 7 rfl rfl)
theorem dX6_errorPosition_10 : decode cX6_errorPosition 10 = .ok (.istore_n 1, 1) := dk_60 (dk_at dksX6_errorPosition_0 10 rfl rfl)
theorem dX6_errorPosition_11 : decode cX6_errorPosition 11 = .ok (.aload_n 0, 1) := dk_42 (dk_at dksX6_errorPosition_0 11 rfl rfl)
theorem dX6_errorPosition_12 : decode cX6_errorPosition 12 = .ok (.getfield 182, 3) := dk_180 0 182 (dk_at dksX6_errorPosition_0 12 rfl rfl)
theorem dX6_errorPosition_15 : decode cX6_errorPosition 15 = .ok (.ifCond .eq 10, 3) := dk_153 0 10 (dk_at dksX6_errorPosition_0 15 rfl rfl)
theorem dX6_errorPosition_18 : decode cX6_errorPosition 18 = .ok (.aload_n 0, 1) := dk_42 (dk_at dksX6_errorPosition_0 18 rfl rfl)
theorem dX6_errorPosition_19 : decode cX6_errorPosition 19 = .ok (.getfield 179, 3) := dk_180 0 179 (dk_at dksX6_errorPosition_0 19 rfl rfl)
theorem dX6_errorPosition_22 : decode cX6_errorPosition 22 = .ok (.goto 7, 3) := dk_167 0 7 (dk_at dksX6_errorPosition_1 0 rfl rfl)
theorem dX6_errorPosition_25 : decode cX6_errorPosition 25 = .ok (.aload_n 0, 1) := dk_42 (dk_at dksX6_errorPosition_1 3 rfl rfl)
theorem dX6_errorPosition_26 : decode cX6_errorPosition 26 = .ok (.getfield 176, 3) := dk_180 0 176 (dk_at dksX6_errorPosition_1 4 rfl rfl)
theorem dX6_errorPosition_29 : decode cX6_errorPosition 29 = .ok (.ireturn, 1) := dk_172 (dk_at dksX6_errorPosition_1 7 rfl rfl)
abbrev cX6_runText : ByteArray := prog_13_method_110_code
def yX6_runText : MethodName := ⟨RX6, "runText", "()I"⟩
def dkwX6_runText_1 : List UInt8 := [42, 182, 0, 107, 42, 4, 182, 0, 200, 172]
abbrev dktX6_runText_1 : List UInt8 := dkwX6_runText_1 ++ []
def dkwX6_runText_0 : List UInt8 := [42, 3, 181, 0, 25, 42, 3, 182, 0, 200, 60, 42, 180, 0, 182, 153, 0, 9, 42, 4, 182, 0, 104, 172]
abbrev dktX6_runText_0 : List UInt8 := dkwX6_runText_0 ++ dktX6_runText_1
theorem dksX6_runText_0 : cX6_runText.data.toList.drop 0 = dktX6_runText_0 := by decide +kernel
theorem dksX6_runText_1 : cX6_runText.data.toList.drop 24 = dktX6_runText_1 := dk_seg dksX6_runText_0 24 rfl rfl
theorem dX6_runText_0 : decode cX6_runText 0 = .ok (.aload_n 0, 1) := dk_42 (dk_at dksX6_runText_0 0 rfl rfl)
theorem dX6_runText_1 : decode cX6_runText 1 = .ok (.iconst 0, 1) := dk_3 (dk_at dksX6_runText_0 1 rfl rfl)
theorem dX6_runText_2 : decode cX6_runText 2 = .ok (.putfield 25, 3) := dk_181 0 25 (dk_at dksX6_runText_0 2 rfl rfl)
theorem dX6_runText_5 : decode cX6_runText 5 = .ok (.aload_n 0, 1) := dk_42 (dk_at dksX6_runText_0 5 rfl rfl)
theorem dX6_runText_6 : decode cX6_runText 6 = .ok (.iconst 0, 1) := dk_3 (dk_at dksX6_runText_0 6 rfl rfl)
theorem dX6_runText_7 : decode cX6_runText 7 = .ok (.invokevirtual 200, 3) := dk_182 0 200 (dk_at dksX6_runText_0 7 rfl rfl)
theorem dX6_runText_10 : decode cX6_runText 10 = .ok (.istore_n 1, 1) := dk_60 (dk_at dksX6_runText_0 10 rfl rfl)
theorem dX6_runText_11 : decode cX6_runText 11 = .ok (.aload_n 0, 1) := dk_42 (dk_at dksX6_runText_0 11 rfl rfl)
theorem dX6_runText_12 : decode cX6_runText 12 = .ok (.getfield 182, 3) := dk_180 0 182 (dk_at dksX6_runText_0 12 rfl rfl)
theorem dX6_runText_15 : decode cX6_runText 15 = .ok (.ifCond .eq 9, 3) := dk_153 0 9 (dk_at dksX6_runText_0 15 rfl rfl)
theorem dX6_runText_18 : decode cX6_runText 18 = .ok (.aload_n 0, 1) := dk_42 (dk_at dksX6_runText_0 18 rfl rfl)
theorem dX6_runText_19 : decode cX6_runText 19 = .ok (.iconst 1, 1) := dk_4 (dk_at dksX6_runText_0 19 rfl rfl)
theorem dX6_runText_20 : decode cX6_runText 20 = .ok (.invokevirtual 104, 3) := dk_182 0 104 (dk_at dksX6_runText_0 20 rfl rfl)
theorem dX6_runText_23 : decode cX6_runText 23 = .ok (.ireturn, 1) := dk_172 (dk_at dksX6_runText_0 23 rfl rfl)
theorem dX6_runText_24 : decode cX6_runText 24 = .ok (.aload_n 0, 1) := dk_42 (dk_at dksX6_runText_1 0 rfl rfl)
theorem dX6_runText_25 : decode cX6_runText 25 = .ok (.invokevirtual 107, 3) := dk_182 0 107 (dk_at dksX6_runText_1 1 rfl rfl)
theorem dX6_runText_28 : decode cX6_runText 28 = .ok (.aload_n 0, 1) := dk_42 (dk_at dksX6_runText_1 4 rfl rfl)
theorem dX6_runText_29 : decode cX6_runText 29 = .ok (.iconst 1, 1) := dk_4 (dk_at dksX6_runText_1 5 rfl rfl)
theorem dX6_runText_30 : decode cX6_runText 30 = .ok (.invokevirtual 200, 3) := dk_182 0 200 (dk_at dksX6_runText_1 6 rfl rfl)
theorem dX6_runText_33 : decode cX6_runText 33 = .ok (.ireturn, 1) := dk_172 (dk_at dksX6_runText_1 9 rfl rfl)
abbrev cX6_undo : ByteArray := prog_13_method_111_code
def yX6_undo : MethodName := ⟨RX6, "undo", "()I"⟩
def dkwX6_undo_2 : List UInt8 := [17, 1, 14, 42, 180, 0, 33, 104, 27, 96, 46, 79, 132, 1, 1, 167, 255, 225, 42, 180, 0, 33, 172]
abbrev dktX6_undo_2 : List UInt8 := dkwX6_undo_2 ++ []
def dkwX6_undo_1 : List UInt8 := [100, 181, 0, 33, 3, 60, 27, 17, 1, 14, 162, 0, 30, 42, 180, 0, 7, 27, 42, 180, 0, 13]
abbrev dktX6_undo_1 : List UInt8 := dkwX6_undo_1 ++ dktX6_undo_2
def dkwX6_undo_0 : List UInt8 := [42, 3, 181, 0, 25, 42, 180, 0, 33, 154, 0, 9, 42, 4, 182, 0, 104, 172, 42, 89, 180, 0, 33, 4]
abbrev dktX6_undo_0 : List UInt8 := dkwX6_undo_0 ++ dktX6_undo_1
theorem dksX6_undo_0 : cX6_undo.data.toList.drop 0 = dktX6_undo_0 := by decide +kernel
theorem dksX6_undo_1 : cX6_undo.data.toList.drop 24 = dktX6_undo_1 := dk_seg dksX6_undo_0 24 rfl rfl
theorem dksX6_undo_2 : cX6_undo.data.toList.drop 46 = dktX6_undo_2 := dk_seg dksX6_undo_1 22 rfl rfl
theorem dX6_undo_0 : decode cX6_undo 0 = .ok (.aload_n 0, 1) := dk_42 (dk_at dksX6_undo_0 0 rfl rfl)
theorem dX6_undo_1 : decode cX6_undo 1 = .ok (.iconst 0, 1) := dk_3 (dk_at dksX6_undo_0 1 rfl rfl)
theorem dX6_undo_2 : decode cX6_undo 2 = .ok (.putfield 25, 3) := dk_181 0 25 (dk_at dksX6_undo_0 2 rfl rfl)
theorem dX6_undo_5 : decode cX6_undo 5 = .ok (.aload_n 0, 1) := dk_42 (dk_at dksX6_undo_0 5 rfl rfl)
theorem dX6_undo_6 : decode cX6_undo 6 = .ok (.getfield 33, 3) := dk_180 0 33 (dk_at dksX6_undo_0 6 rfl rfl)
theorem dX6_undo_9 : decode cX6_undo 9 = .ok (.ifCond .ne 9, 3) := dk_154 0 9 (dk_at dksX6_undo_0 9 rfl rfl)
theorem dX6_undo_12 : decode cX6_undo 12 = .ok (.aload_n 0, 1) := dk_42 (dk_at dksX6_undo_0 12 rfl rfl)
theorem dX6_undo_13 : decode cX6_undo 13 = .ok (.iconst 1, 1) := dk_4 (dk_at dksX6_undo_0 13 rfl rfl)
theorem dX6_undo_14 : decode cX6_undo 14 = .ok (.invokevirtual 104, 3) := dk_182 0 104 (dk_at dksX6_undo_0 14 rfl rfl)
theorem dX6_undo_17 : decode cX6_undo 17 = .ok (.ireturn, 1) := dk_172 (dk_at dksX6_undo_0 17 rfl rfl)
theorem dX6_undo_18 : decode cX6_undo 18 = .ok (.aload_n 0, 1) := dk_42 (dk_at dksX6_undo_0 18 rfl rfl)
theorem dX6_undo_19 : decode cX6_undo 19 = .ok (.dup, 1) := dk_89 (dk_at dksX6_undo_0 19 rfl rfl)
theorem dX6_undo_20 : decode cX6_undo 20 = .ok (.getfield 33, 3) := dk_180 0 33 (dk_at dksX6_undo_0 20 rfl rfl)
theorem dX6_undo_23 : decode cX6_undo 23 = .ok (.iconst 1, 1) := dk_4 (dk_at dksX6_undo_0 23 rfl rfl)
theorem dX6_undo_24 : decode cX6_undo 24 = .ok (.isub, 1) := dk_100 (dk_at dksX6_undo_1 0 rfl rfl)
theorem dX6_undo_25 : decode cX6_undo 25 = .ok (.putfield 33, 3) := dk_181 0 33 (dk_at dksX6_undo_1 1 rfl rfl)
theorem dX6_undo_28 : decode cX6_undo 28 = .ok (.iconst 0, 1) := dk_3 (dk_at dksX6_undo_1 4 rfl rfl)
theorem dX6_undo_29 : decode cX6_undo 29 = .ok (.istore_n 1, 1) := dk_60 (dk_at dksX6_undo_1 5 rfl rfl)
theorem dX6_undo_30 : decode cX6_undo 30 = .ok (.iload_n 1, 1) := dk_27 (dk_at dksX6_undo_1 6 rfl rfl)
theorem dX6_undo_31 : decode cX6_undo 31 = .ok (.sipush 270, 3) := dk_17 1 14 (dk_at dksX6_undo_1 7 rfl rfl)
theorem dX6_undo_34 : decode cX6_undo 34 = .ok (.if_icmp .ge 30, 3) := dk_162 0 30 (dk_at dksX6_undo_1 10 rfl rfl)
theorem dX6_undo_37 : decode cX6_undo 37 = .ok (.aload_n 0, 1) := dk_42 (dk_at dksX6_undo_1 13 rfl rfl)
theorem dX6_undo_38 : decode cX6_undo 38 = .ok (.getfield 7, 3) := dk_180 0 7 (dk_at dksX6_undo_1 14 rfl rfl)
theorem dX6_undo_41 : decode cX6_undo 41 = .ok (.iload_n 1, 1) := dk_27 (dk_at dksX6_undo_1 17 rfl rfl)
theorem dX6_undo_42 : decode cX6_undo 42 = .ok (.aload_n 0, 1) := dk_42 (dk_at dksX6_undo_1 18 rfl rfl)
theorem dX6_undo_43 : decode cX6_undo 43 = .ok (.getfield 13, 3) := dk_180 0 13 (dk_at dksX6_undo_1 19 rfl rfl)
theorem dX6_undo_46 : decode cX6_undo 46 = .ok (.sipush 270, 3) := dk_17 1 14 (dk_at dksX6_undo_2 0 rfl rfl)
theorem dX6_undo_49 : decode cX6_undo 49 = .ok (.aload_n 0, 1) := dk_42 (dk_at dksX6_undo_2 3 rfl rfl)
theorem dX6_undo_50 : decode cX6_undo 50 = .ok (.getfield 33, 3) := dk_180 0 33 (dk_at dksX6_undo_2 4 rfl rfl)
theorem dX6_undo_53 : decode cX6_undo 53 = .ok (.imul, 1) := dk_104 (dk_at dksX6_undo_2 7 rfl rfl)
theorem dX6_undo_54 : decode cX6_undo 54 = .ok (.iload_n 1, 1) := dk_27 (dk_at dksX6_undo_2 8 rfl rfl)
theorem dX6_undo_55 : decode cX6_undo 55 = .ok (.iadd, 1) := dk_96 (dk_at dksX6_undo_2 9 rfl rfl)
theorem dX6_undo_56 : decode cX6_undo 56 = .ok (.iaload, 1) := dk_46 (dk_at dksX6_undo_2 10 rfl rfl)
theorem dX6_undo_57 : decode cX6_undo 57 = .ok (.iastore, 1) := dk_79 (dk_at dksX6_undo_2 11 rfl rfl)
theorem dX6_undo_58 : decode cX6_undo 58 = .ok (.iinc 1 1, 3) := dk_132 1 1 (dk_at dksX6_undo_2 12 rfl rfl)
theorem dX6_undo_61 : decode cX6_undo 61 = .ok (.goto (-31), 3) := dk_167 255 225 (dk_at dksX6_undo_2 15 rfl rfl)
theorem dX6_undo_64 : decode cX6_undo 64 = .ok (.aload_n 0, 1) := dk_42 (dk_at dksX6_undo_2 18 rfl rfl)
theorem dX6_undo_65 : decode cX6_undo 65 = .ok (.getfield 33, 3) := dk_180 0 33 (dk_at dksX6_undo_2 19 rfl rfl)
theorem dX6_undo_68 : decode cX6_undo 68 = .ok (.ireturn, 1) := dk_172 (dk_at dksX6_undo_2 22 rfl rfl)
abbrev cX6_savedStates : ByteArray := prog_13_method_112_code
def yX6_savedStates : MethodName := ⟨RX6, "savedStates", "()I"⟩
def dkwX6_savedStates_0 : List UInt8 := [42, 3, 181, 0, 25, 42, 180, 0, 33, 172]
abbrev dktX6_savedStates_0 : List UInt8 := dkwX6_savedStates_0 ++ []
theorem dksX6_savedStates_0 : cX6_savedStates.data.toList.drop 0 = dktX6_savedStates_0 := by decide +kernel
theorem dX6_savedStates_0 : decode cX6_savedStates 0 = .ok (.aload_n 0, 1) := dk_42 (dk_at dksX6_savedStates_0 0 rfl rfl)
theorem dX6_savedStates_1 : decode cX6_savedStates 1 = .ok (.iconst 0, 1) := dk_3 (dk_at dksX6_savedStates_0 1 rfl rfl)
theorem dX6_savedStates_2 : decode cX6_savedStates 2 = .ok (.putfield 25, 3) := dk_181 0 25 (dk_at dksX6_savedStates_0 2 rfl rfl)
theorem dX6_savedStates_5 : decode cX6_savedStates 5 = .ok (.aload_n 0, 1) := dk_42 (dk_at dksX6_savedStates_0 5 rfl rfl)
theorem dX6_savedStates_6 : decode cX6_savedStates 6 = .ok (.getfield 33, 3) := dk_180 0 33 (dk_at dksX6_savedStates_0 6 rfl rfl)
theorem dX6_savedStates_9 : decode cX6_savedStates 9 = .ok (.ireturn, 1) := dk_172 (dk_at dksX6_savedStates_0 9 rfl rfl)
abbrev cX6_takeSnapshot : ByteArray := prog_13_method_113_code
def yX6_takeSnapshot : MethodName := ⟨RX6, "takeSnapshot", "()I"⟩
def dkwX6_takeSnapshot_1 : List UInt8 := [46, 79, 132, 1, 1, 167, 255, 234, 42, 4, 181, 0, 204, 42, 180, 0, 7, 3, 46, 172]
abbrev dktX6_takeSnapshot_1 : List UInt8 := dkwX6_takeSnapshot_1 ++ []
def dkwX6_takeSnapshot_0 : List UInt8 := [42, 3, 181, 0, 25, 3, 60, 27, 17, 1, 14, 162, 0, 21, 42, 180, 0, 16, 27, 42, 180, 0, 7, 27]
abbrev dktX6_takeSnapshot_0 : List UInt8 := dkwX6_takeSnapshot_0 ++ dktX6_takeSnapshot_1
theorem dksX6_takeSnapshot_0 : cX6_takeSnapshot.data.toList.drop 0 = dktX6_takeSnapshot_0 := by decide +kernel
theorem dksX6_takeSnapshot_1 : cX6_takeSnapshot.data.toList.drop 24 = dktX6_takeSnapshot_1 := dk_seg dksX6_takeSnapshot_0 24 rfl rfl
theorem dX6_takeSnapshot_0 : decode cX6_takeSnapshot 0 = .ok (.aload_n 0, 1) := dk_42 (dk_at dksX6_takeSnapshot_0 0 rfl rfl)
theorem dX6_takeSnapshot_1 : decode cX6_takeSnapshot 1 = .ok (.iconst 0, 1) := dk_3 (dk_at dksX6_takeSnapshot_0 1 rfl rfl)
theorem dX6_takeSnapshot_2 : decode cX6_takeSnapshot 2 = .ok (.putfield 25, 3) := dk_181 0 25 (dk_at dksX6_takeSnapshot_0 2 rfl rfl)
theorem dX6_takeSnapshot_5 : decode cX6_takeSnapshot 5 = .ok (.iconst 0, 1) := dk_3 (dk_at dksX6_takeSnapshot_0 5 rfl rfl)
theorem dX6_takeSnapshot_6 : decode cX6_takeSnapshot 6 = .ok (.istore_n 1, 1) := dk_60 (dk_at dksX6_takeSnapshot_0 6 rfl rfl)
theorem dX6_takeSnapshot_7 : decode cX6_takeSnapshot 7 = .ok (.iload_n 1, 1) := dk_27 (dk_at dksX6_takeSnapshot_0 7 rfl rfl)
theorem dX6_takeSnapshot_8 : decode cX6_takeSnapshot 8 = .ok (.sipush 270, 3) := dk_17 1 14 (dk_at dksX6_takeSnapshot_0 8 rfl rfl)
theorem dX6_takeSnapshot_11 : decode cX6_takeSnapshot 11 = .ok (.if_icmp .ge 21, 3) := dk_162 0 21 (dk_at dksX6_takeSnapshot_0 11 rfl rfl)
theorem dX6_takeSnapshot_14 : decode cX6_takeSnapshot 14 = .ok (.aload_n 0, 1) := dk_42 (dk_at dksX6_takeSnapshot_0 14 rfl rfl)
theorem dX6_takeSnapshot_15 : decode cX6_takeSnapshot 15 = .ok (.getfield 16, 3) := dk_180 0 16 (dk_at dksX6_takeSnapshot_0 15 rfl rfl)
theorem dX6_takeSnapshot_18 : decode cX6_takeSnapshot 18 = .ok (.iload_n 1, 1) := dk_27 (dk_at dksX6_takeSnapshot_0 18 rfl rfl)
theorem dX6_takeSnapshot_19 : decode cX6_takeSnapshot 19 = .ok (.aload_n 0, 1) := dk_42 (dk_at dksX6_takeSnapshot_0 19 rfl rfl)
theorem dX6_takeSnapshot_20 : decode cX6_takeSnapshot 20 = .ok (.getfield 7, 3) := dk_180 0 7 (dk_at dksX6_takeSnapshot_0 20 rfl rfl)
theorem dX6_takeSnapshot_23 : decode cX6_takeSnapshot 23 = .ok (.iload_n 1, 1) := dk_27 (dk_at dksX6_takeSnapshot_0 23 rfl rfl)
theorem dX6_takeSnapshot_24 : decode cX6_takeSnapshot 24 = .ok (.iaload, 1) := dk_46 (dk_at dksX6_takeSnapshot_1 0 rfl rfl)
theorem dX6_takeSnapshot_25 : decode cX6_takeSnapshot 25 = .ok (.iastore, 1) := dk_79 (dk_at dksX6_takeSnapshot_1 1 rfl rfl)
theorem dX6_takeSnapshot_26 : decode cX6_takeSnapshot 26 = .ok (.iinc 1 1, 3) := dk_132 1 1 (dk_at dksX6_takeSnapshot_1 2 rfl rfl)
theorem dX6_takeSnapshot_29 : decode cX6_takeSnapshot 29 = .ok (.goto (-22), 3) := dk_167 255 234 (dk_at dksX6_takeSnapshot_1 5 rfl rfl)
theorem dX6_takeSnapshot_32 : decode cX6_takeSnapshot 32 = .ok (.aload_n 0, 1) := dk_42 (dk_at dksX6_takeSnapshot_1 8 rfl rfl)
theorem dX6_takeSnapshot_33 : decode cX6_takeSnapshot 33 = .ok (.iconst 1, 1) := dk_4 (dk_at dksX6_takeSnapshot_1 9 rfl rfl)
theorem dX6_takeSnapshot_34 : decode cX6_takeSnapshot 34 = .ok (.putfield 204, 3) := dk_181 0 204 (dk_at dksX6_takeSnapshot_1 10 rfl rfl)
theorem dX6_takeSnapshot_37 : decode cX6_takeSnapshot 37 = .ok (.aload_n 0, 1) := dk_42 (dk_at dksX6_takeSnapshot_1 13 rfl rfl)
theorem dX6_takeSnapshot_38 : decode cX6_takeSnapshot 38 = .ok (.getfield 7, 3) := dk_180 0 7 (dk_at dksX6_takeSnapshot_1 14 rfl rfl)
theorem dX6_takeSnapshot_41 : decode cX6_takeSnapshot 41 = .ok (.iconst 0, 1) := dk_3 (dk_at dksX6_takeSnapshot_1 17 rfl rfl)
theorem dX6_takeSnapshot_42 : decode cX6_takeSnapshot 42 = .ok (.iaload, 1) := dk_46 (dk_at dksX6_takeSnapshot_1 18 rfl rfl)
theorem dX6_takeSnapshot_43 : decode cX6_takeSnapshot 43 = .ok (.ireturn, 1) := dk_172 (dk_at dksX6_takeSnapshot_1 19 rfl rfl)
abbrev cX6_restoreSnapshot : ByteArray := prog_13_method_114_code
def yX6_restoreSnapshot : MethodName := ⟨RX6, "restoreSnapshot", "()I"⟩
def dkwX6_restoreSnapshot_2 : List UInt8 := [167, 255, 234, 42, 180, 0, 7, 3, 46, 172]
abbrev dktX6_restoreSnapshot_2 : List UInt8 := dkwX6_restoreSnapshot_2 ++ []
def dkwX6_restoreSnapshot_1 : List UInt8 := [27, 17, 1, 14, 162, 0, 21, 42, 180, 0, 7, 27, 42, 180, 0, 16, 27, 46, 79, 132, 1, 1]
abbrev dktX6_restoreSnapshot_1 : List UInt8 := dkwX6_restoreSnapshot_1 ++ dktX6_restoreSnapshot_2
def dkwX6_restoreSnapshot_0 : List UInt8 := [42, 3, 181, 0, 25, 42, 180, 0, 204, 154, 0, 9, 42, 4, 182, 0, 104, 172, 42, 182, 0, 107, 3, 60]
abbrev dktX6_restoreSnapshot_0 : List UInt8 := dkwX6_restoreSnapshot_0 ++ dktX6_restoreSnapshot_1
theorem dksX6_restoreSnapshot_0 : cX6_restoreSnapshot.data.toList.drop 0 = dktX6_restoreSnapshot_0 := by decide +kernel
theorem dksX6_restoreSnapshot_1 : cX6_restoreSnapshot.data.toList.drop 24 = dktX6_restoreSnapshot_1 := dk_seg dksX6_restoreSnapshot_0 24 rfl rfl
theorem dksX6_restoreSnapshot_2 : cX6_restoreSnapshot.data.toList.drop 46 = dktX6_restoreSnapshot_2 := dk_seg dksX6_restoreSnapshot_1 22 rfl rfl
theorem dX6_restoreSnapshot_0 : decode cX6_restoreSnapshot 0 = .ok (.aload_n 0, 1) := dk_42 (dk_at dksX6_restoreSnapshot_0 0 rfl rfl)
theorem dX6_restoreSnapshot_1 : decode cX6_restoreSnapshot 1 = .ok (.iconst 0, 1) := dk_3 (dk_at dksX6_restoreSnapshot_0 1 rfl rfl)
theorem dX6_restoreSnapshot_2 : decode cX6_restoreSnapshot 2 = .ok (.putfield 25, 3) := dk_181 0 25 (dk_at dksX6_restoreSnapshot_0 2 rfl rfl)
theorem dX6_restoreSnapshot_5 : decode cX6_restoreSnapshot 5 = .ok (.aload_n 0, 1) := dk_42 (dk_at dksX6_restoreSnapshot_0 5 rfl rfl)
theorem dX6_restoreSnapshot_6 : decode cX6_restoreSnapshot 6 = .ok (.getfield 204, 3) := dk_180 0 204 (dk_at dksX6_restoreSnapshot_0 6 rfl rfl)
theorem dX6_restoreSnapshot_9 : decode cX6_restoreSnapshot 9 = .ok (.ifCond .ne 9, 3) := dk_154 0 9 (dk_at dksX6_restoreSnapshot_0 9 rfl rfl)
theorem dX6_restoreSnapshot_12 : decode cX6_restoreSnapshot 12 = .ok (.aload_n 0, 1) := dk_42 (dk_at dksX6_restoreSnapshot_0 12 rfl rfl)
theorem dX6_restoreSnapshot_13 : decode cX6_restoreSnapshot 13 = .ok (.iconst 1, 1) := dk_4 (dk_at dksX6_restoreSnapshot_0 13 rfl rfl)
theorem dX6_restoreSnapshot_14 : decode cX6_restoreSnapshot 14 = .ok (.invokevirtual 104, 3) := dk_182 0 104 (dk_at dksX6_restoreSnapshot_0 14 rfl rfl)
theorem dX6_restoreSnapshot_17 : decode cX6_restoreSnapshot 17 = .ok (.ireturn, 1) := dk_172 (dk_at dksX6_restoreSnapshot_0 17 rfl rfl)
theorem dX6_restoreSnapshot_18 : decode cX6_restoreSnapshot 18 = .ok (.aload_n 0, 1) := dk_42 (dk_at dksX6_restoreSnapshot_0 18 rfl rfl)
theorem dX6_restoreSnapshot_19 : decode cX6_restoreSnapshot 19 = .ok (.invokevirtual 107, 3) := dk_182 0 107 (dk_at dksX6_restoreSnapshot_0 19 rfl rfl)
theorem dX6_restoreSnapshot_22 : decode cX6_restoreSnapshot 22 = .ok (.iconst 0, 1) := dk_3 (dk_at dksX6_restoreSnapshot_0 22 rfl rfl)
theorem dX6_restoreSnapshot_23 : decode cX6_restoreSnapshot 23 = .ok (.istore_n 1, 1) := dk_60 (dk_at dksX6_restoreSnapshot_0 23 rfl rfl)
theorem dX6_restoreSnapshot_24 : decode cX6_restoreSnapshot 24 = .ok (.iload_n 1, 1) := dk_27 (dk_at dksX6_restoreSnapshot_1 0 rfl rfl)
theorem dX6_restoreSnapshot_25 : decode cX6_restoreSnapshot 25 = .ok (.sipush 270, 3) := dk_17 1 14 (dk_at dksX6_restoreSnapshot_1 1 rfl rfl)
theorem dX6_restoreSnapshot_28 : decode cX6_restoreSnapshot 28 = .ok (.if_icmp .ge 21, 3) := dk_162 0 21 (dk_at dksX6_restoreSnapshot_1 4 rfl rfl)
theorem dX6_restoreSnapshot_31 : decode cX6_restoreSnapshot 31 = .ok (.aload_n 0, 1) := dk_42 (dk_at dksX6_restoreSnapshot_1 7 rfl rfl)
theorem dX6_restoreSnapshot_32 : decode cX6_restoreSnapshot 32 = .ok (.getfield 7, 3) := dk_180 0 7 (dk_at dksX6_restoreSnapshot_1 8 rfl rfl)
theorem dX6_restoreSnapshot_35 : decode cX6_restoreSnapshot 35 = .ok (.iload_n 1, 1) := dk_27 (dk_at dksX6_restoreSnapshot_1 11 rfl rfl)
theorem dX6_restoreSnapshot_36 : decode cX6_restoreSnapshot 36 = .ok (.aload_n 0, 1) := dk_42 (dk_at dksX6_restoreSnapshot_1 12 rfl rfl)
theorem dX6_restoreSnapshot_37 : decode cX6_restoreSnapshot 37 = .ok (.getfield 16, 3) := dk_180 0 16 (dk_at dksX6_restoreSnapshot_1 13 rfl rfl)
theorem dX6_restoreSnapshot_40 : decode cX6_restoreSnapshot 40 = .ok (.iload_n 1, 1) := dk_27 (dk_at dksX6_restoreSnapshot_1 16 rfl rfl)
theorem dX6_restoreSnapshot_41 : decode cX6_restoreSnapshot 41 = .ok (.iaload, 1) := dk_46 (dk_at dksX6_restoreSnapshot_1 17 rfl rfl)
theorem dX6_restoreSnapshot_42 : decode cX6_restoreSnapshot 42 = .ok (.iastore, 1) := dk_79 (dk_at dksX6_restoreSnapshot_1 18 rfl rfl)
theorem dX6_restoreSnapshot_43 : decode cX6_restoreSnapshot 43 = .ok (.iinc 1 1, 3) := dk_132 1 1 (dk_at dksX6_restoreSnapshot_1 19 rfl rfl)
theorem dX6_restoreSnapshot_46 : decode cX6_restoreSnapshot 46 = .ok (.goto (-22), 3) := dk_167 255 234 (dk_at dksX6_restoreSnapshot_2 0 rfl rfl)
theorem dX6_restoreSnapshot_49 : decode cX6_restoreSnapshot 49 = .ok (.aload_n 0, 1) := dk_42 (dk_at dksX6_restoreSnapshot_2 3 rfl rfl)
theorem dX6_restoreSnapshot_50 : decode cX6_restoreSnapshot 50 = .ok (.getfield 7, 3) := dk_180 0 7 (dk_at dksX6_restoreSnapshot_2 4 rfl rfl)
theorem dX6_restoreSnapshot_53 : decode cX6_restoreSnapshot 53 = .ok (.iconst 0, 1) := dk_3 (dk_at dksX6_restoreSnapshot_2 7 rfl rfl)
theorem dX6_restoreSnapshot_54 : decode cX6_restoreSnapshot 54 = .ok (.iaload, 1) := dk_46 (dk_at dksX6_restoreSnapshot_2 8 rfl rfl)
theorem dX6_restoreSnapshot_55 : decode cX6_restoreSnapshot 55 = .ok (.ireturn, 1) := dk_172 (dk_at dksX6_restoreSnapshot_2 9 rfl rfl)
theorem q112 : (Jvm.Cond.initialized "PostChaiseYardModel") ∈ lw_all := lw_g (lw_at lw_m1 36 rfl) rfl
theorem q455 : (Jvm.Cond.selects "PostChaiseYardModel" ({ cls := "java/lang/Object", name := "getClass", desc := "()Ljava/lang/Class;" } : Jvm.MethodName) ({ cls := "java/lang/Object", name := "getClass", desc := "()Ljava/lang/Class;" } : Jvm.MethodName)) ∈ lw_all := lw_g (lw_at lw_m2 139 rfl) rfl
theorem q2116 : (Jvm.Cond.selects "PostChaiseYardModel" ({ cls := "java/lang/Object", name := "equals", desc := "(Ljava/lang/Object;)Z" } : Jvm.MethodName) ({ cls := "java/lang/Object", name := "equals", desc := "(Ljava/lang/Object;)Z" } : Jvm.MethodName)) ∈ lw_all := lw_g (lw_at lw_m9 120 rfl) rfl
theorem q2484 : (Jvm.Cond.instantiable "PostChaiseYardModel" (11 : Nat)) ∈ lw_all := lw_g (lw_at lw_m11 8 rfl) rfl
theorem q2486 : (Jvm.Cond.instanceMethod ({ cls := "PostChaiseYardModel", name := "<init>", desc := "()V" } : Jvm.MethodName)) ∈ lw_all := lw_g (lw_at lw_m11 10 rfl) rfl
theorem q2487 : (Jvm.Cond.code ({ cls := "PostChaiseYardModel", name := "<init>", desc := "()V" } : Jvm.MethodName) prog_13_method_1_code (2 : Nat) (Option.none : Option Jvm.ClassFile.FieldType)) ∈ lw_all := lw_g (lw_at lw_m11 11 rfl) rfl
theorem q2488 : (Jvm.Cond.methodLink "PostChaiseYardModel" (1 : Nat) ({ cls := "java/lang/Object", name := "<init>", desc := "()V" } : Jvm.MethodName)) ∈ lw_all := lw_g (lw_at lw_m11 12 rfl) rfl
theorem q2489 : (Jvm.Cond.fieldLink "PostChaiseYardModel" (7 : Nat) "PostChaiseYardModel" "s" "[I") ∈ lw_all := lw_g (lw_at lw_m11 13 rfl) rfl
theorem q2490 : (Jvm.Cond.fieldLink "PostChaiseYardModel" (13 : Nat) "PostChaiseYardModel" "before" "[I") ∈ lw_all := lw_g (lw_at lw_m11 14 rfl) rfl
theorem q2491 : (Jvm.Cond.fieldLink "PostChaiseYardModel" (33 : Nat) "PostChaiseYardModel" "known" "I") ∈ lw_all := lw_g (lw_at lw_m11 15 rfl) rfl
theorem q2492 : (Jvm.Cond.fieldLink "PostChaiseYardModel" (16 : Nat) "PostChaiseYardModel" "kept" "[I") ∈ lw_all := lw_g (lw_at lw_m11 16 rfl) rfl
theorem q2493 : (Jvm.Cond.fieldLink "PostChaiseYardModel" (204 : Nat) "PostChaiseYardModel" "isKept" "Z") ∈ lw_all := lw_g (lw_at lw_m11 17 rfl) rfl
theorem q2494 : (Jvm.Cond.fieldLink "PostChaiseYardModel" (19 : Nat) "PostChaiseYardModel" "aside" "[I") ∈ lw_all := lw_g (lw_at lw_m11 18 rfl) rfl
theorem q2495 : (Jvm.Cond.fieldLink "PostChaiseYardModel" (22 : Nat) "PostChaiseYardModel" "buffer" "[I") ∈ lw_all := lw_g (lw_at lw_m11 19 rfl) rfl
theorem q2496 : (Jvm.Cond.fieldLink "PostChaiseYardModel" (176 : Nat) "PostChaiseYardModel" "length" "I") ∈ lw_all := lw_g (lw_at lw_m11 20 rfl) rfl
theorem q2497 : (Jvm.Cond.fieldLink "PostChaiseYardModel" (25 : Nat) "PostChaiseYardModel" "thrown" "I") ∈ lw_all := lw_g (lw_at lw_m11 21 rfl) rfl
theorem q2498 : (Jvm.Cond.fieldLink "PostChaiseYardModel" (179 : Nat) "PostChaiseYardModel" "at" "I") ∈ lw_all := lw_g (lw_at lw_m11 22 rfl) rfl
theorem q2499 : (Jvm.Cond.fieldLink "PostChaiseYardModel" (182 : Nat) "PostChaiseYardModel" "isWrong" "Z") ∈ lw_all := lw_g (lw_at lw_m11 23 rfl) rfl
theorem q2500 : (Jvm.Cond.laysFinal "PostChaiseYardModel" "PostChaiseYardModel" "s" "[I") ∈ lw_all := lw_g (lw_at lw_m11 24 rfl) rfl
theorem q2501 : (Jvm.Cond.soleField "PostChaiseYardModel" "s") ∈ lw_all := lw_g (lw_at lw_m11 25 rfl) rfl
theorem q2502 : (Jvm.Cond.laysFinal "PostChaiseYardModel" "PostChaiseYardModel" "before" "[I") ∈ lw_all := lw_g (lw_at lw_m11 26 rfl) rfl
theorem q2503 : (Jvm.Cond.soleField "PostChaiseYardModel" "before") ∈ lw_all := lw_g (lw_at lw_m11 27 rfl) rfl
theorem q2504 : (Jvm.Cond.lays "PostChaiseYardModel" "PostChaiseYardModel" "known" "I") ∈ lw_all := lw_g (lw_at lw_m11 28 rfl) rfl
theorem q2505 : (Jvm.Cond.soleField "PostChaiseYardModel" "known") ∈ lw_all := lw_g (lw_at lw_m11 29 rfl) rfl
theorem q2506 : (Jvm.Cond.laysFinal "PostChaiseYardModel" "PostChaiseYardModel" "kept" "[I") ∈ lw_all := lw_g (lw_at lw_m11 30 rfl) rfl
theorem q2507 : (Jvm.Cond.soleField "PostChaiseYardModel" "kept") ∈ lw_all := lw_g (lw_at lw_m11 31 rfl) rfl
theorem q2508 : (Jvm.Cond.lays "PostChaiseYardModel" "PostChaiseYardModel" "isKept" "Z") ∈ lw_all := lw_g (lw_at lw_m11 32 rfl) rfl
theorem q2509 : (Jvm.Cond.soleField "PostChaiseYardModel" "isKept") ∈ lw_all := lw_g (lw_at lw_m11 33 rfl) rfl
theorem q2510 : (Jvm.Cond.laysFinal "PostChaiseYardModel" "PostChaiseYardModel" "aside" "[I") ∈ lw_all := lw_g (lw_at lw_m11 34 rfl) rfl
theorem q2511 : (Jvm.Cond.soleField "PostChaiseYardModel" "aside") ∈ lw_all := lw_g (lw_at lw_m11 35 rfl) rfl
theorem q2512 : (Jvm.Cond.laysFinal "PostChaiseYardModel" "PostChaiseYardModel" "buffer" "[I") ∈ lw_all := lw_g (lw_at lw_m11 36 rfl) rfl
theorem q2513 : (Jvm.Cond.soleField "PostChaiseYardModel" "buffer") ∈ lw_all := lw_g (lw_at lw_m11 37 rfl) rfl
theorem q2514 : (Jvm.Cond.lays "PostChaiseYardModel" "PostChaiseYardModel" "length" "I") ∈ lw_all := lw_g (lw_at lw_m11 38 rfl) rfl
theorem q2515 : (Jvm.Cond.soleField "PostChaiseYardModel" "length") ∈ lw_all := lw_g (lw_at lw_m11 39 rfl) rfl
theorem q2516 : (Jvm.Cond.lays "PostChaiseYardModel" "PostChaiseYardModel" "thrown" "I") ∈ lw_all := lw_g (lw_at lw_m11 40 rfl) rfl
theorem q2517 : (Jvm.Cond.soleField "PostChaiseYardModel" "thrown") ∈ lw_all := lw_g (lw_at lw_m11 41 rfl) rfl
theorem q2518 : (Jvm.Cond.lays "PostChaiseYardModel" "PostChaiseYardModel" "at" "I") ∈ lw_all := lw_g (lw_at lw_m11 42 rfl) rfl
theorem q2519 : (Jvm.Cond.soleField "PostChaiseYardModel" "at") ∈ lw_all := lw_g (lw_at lw_m11 43 rfl) rfl
theorem q2520 : (Jvm.Cond.lays "PostChaiseYardModel" "PostChaiseYardModel" "isWrong" "Z") ∈ lw_all := lw_g (lw_at lw_m11 44 rfl) rfl
theorem q2521 : (Jvm.Cond.soleField "PostChaiseYardModel" "isWrong") ∈ lw_all := lw_g (lw_at lw_m11 45 rfl) rfl
theorem q2522 : (Jvm.Cond.superclass "PostChaiseYardModel" "java/lang/Object") ∈ lw_all := lw_g (lw_at lw_m11 46 rfl) rfl
theorem q2524 : (Jvm.Cond.instanceMethod ({ cls := "PostChaiseYardModel", name := "thrown", desc := "()I" } : Jvm.MethodName)) ∈ lw_all := lw_g (lw_at lw_m11 48 rfl) rfl
theorem q2525 : (Jvm.Cond.selects "PostChaiseYardModel" ({ cls := "PostChaiseYardModel", name := "thrown", desc := "()I" } : Jvm.MethodName) ({ cls := "PostChaiseYardModel", name := "thrown", desc := "()I" } : Jvm.MethodName)) ∈ lw_all := lw_g (lw_at lw_m11 49 rfl) rfl
theorem q2526 : (Jvm.Cond.code ({ cls := "PostChaiseYardModel", name := "thrown", desc := "()I" } : Jvm.MethodName) prog_13_method_2_code (1 : Nat) (Option.some Jvm.ClassFile.FieldType.int)) ∈ lw_all := lw_g (lw_at lw_m11 50 rfl) rfl
theorem q2528 : (Jvm.Cond.instanceMethod ({ cls := "PostChaiseYardModel", name := "arrive", desc := "(II)I" } : Jvm.MethodName)) ∈ lw_all := lw_g (lw_at lw_m11 52 rfl) rfl
theorem q2529 : (Jvm.Cond.selects "PostChaiseYardModel" ({ cls := "PostChaiseYardModel", name := "arrive", desc := "(II)I" } : Jvm.MethodName) ({ cls := "PostChaiseYardModel", name := "arrive", desc := "(II)I" } : Jvm.MethodName)) ∈ lw_all := lw_g (lw_at lw_m11 53 rfl) rfl
theorem q2530 : (Jvm.Cond.code ({ cls := "PostChaiseYardModel", name := "arrive", desc := "(II)I" } : Jvm.MethodName) prog_13_method_36_code (3 : Nat) (Option.some Jvm.ClassFile.FieldType.int)) ∈ lw_all := lw_g (lw_at lw_m11 54 rfl) rfl
theorem q2531 : (Jvm.Cond.methodLink "PostChaiseYardModel" (29 : Nat) ({ cls := "PostChaiseYardModel", name := "in", desc := "(III)Z" } : Jvm.MethodName)) ∈ lw_all := lw_g (lw_at lw_m11 55 rfl) rfl
theorem q2532 : (Jvm.Cond.static ({ cls := "PostChaiseYardModel", name := "in", desc := "(III)Z" } : Jvm.MethodName)) ∈ lw_all := lw_g (lw_at lw_m11 56 rfl) rfl
theorem q2533 : (Jvm.Cond.code ({ cls := "PostChaiseYardModel", name := "in", desc := "(III)Z" } : Jvm.MethodName) prog_13_method_4_code (3 : Nat) (Option.some Jvm.ClassFile.FieldType.boolean)) ∈ lw_all := lw_g (lw_at lw_m11 57 rfl) rfl
theorem q2534 : (Jvm.Cond.methodLink "PostChaiseYardModel" (104 : Nat) ({ cls := "PostChaiseYardModel", name := "throwing", desc := "(I)I" } : Jvm.MethodName)) ∈ lw_all := lw_g (lw_at lw_m11 58 rfl) rfl
theorem q2535 : (Jvm.Cond.privateMethod ({ cls := "PostChaiseYardModel", name := "throwing", desc := "(I)I" } : Jvm.MethodName)) ∈ lw_tbl := lw_at lw_m11 59 rfl
theorem q2536 : (Jvm.Cond.instanceMethod ({ cls := "PostChaiseYardModel", name := "throwing", desc := "(I)I" } : Jvm.MethodName)) ∈ lw_all := lw_g (lw_at lw_m11 60 rfl) rfl
theorem q2537 : (Jvm.Cond.code ({ cls := "PostChaiseYardModel", name := "throwing", desc := "(I)I" } : Jvm.MethodName) prog_13_method_3_code (2 : Nat) (Option.some Jvm.ClassFile.FieldType.int)) ∈ lw_all := lw_g (lw_at lw_m11 61 rfl) rfl
theorem q2538 : (Jvm.Cond.methodLink "PostChaiseYardModel" (107 : Nat) ({ cls := "PostChaiseYardModel", name := "save", desc := "()V" } : Jvm.MethodName)) ∈ lw_all := lw_g (lw_at lw_m11 62 rfl) rfl
theorem q2539 : (Jvm.Cond.privateMethod ({ cls := "PostChaiseYardModel", name := "save", desc := "()V" } : Jvm.MethodName)) ∈ lw_tbl := lw_at lw_m11 63 rfl
theorem q2540 : (Jvm.Cond.instanceMethod ({ cls := "PostChaiseYardModel", name := "save", desc := "()V" } : Jvm.MethodName)) ∈ lw_all := lw_g (lw_at lw_m11 64 rfl) rfl
theorem q2541 : (Jvm.Cond.code ({ cls := "PostChaiseYardModel", name := "save", desc := "()V" } : Jvm.MethodName) prog_13_method_9_code (2 : Nat) (Option.none : Option Jvm.ClassFile.FieldType)) ∈ lw_all := lw_g (lw_at lw_m11 65 rfl) rfl
theorem q2542 : (Jvm.Cond.methodLink "PostChaiseYardModel" (110 : Nat) ({ cls := "PostChaiseYardModel", name := "arrives", desc := "(II)I" } : Jvm.MethodName)) ∈ lw_all := lw_g (lw_at lw_m11 66 rfl) rfl
theorem q2543 : (Jvm.Cond.privateMethod ({ cls := "PostChaiseYardModel", name := "arrives", desc := "(II)I" } : Jvm.MethodName)) ∈ lw_tbl := lw_at lw_m11 67 rfl
theorem q2544 : (Jvm.Cond.instanceMethod ({ cls := "PostChaiseYardModel", name := "arrives", desc := "(II)I" } : Jvm.MethodName)) ∈ lw_all := lw_g (lw_at lw_m11 68 rfl) rfl
theorem q2545 : (Jvm.Cond.code ({ cls := "PostChaiseYardModel", name := "arrives", desc := "(II)I" } : Jvm.MethodName) prog_13_method_32_code (4 : Nat) (Option.some Jvm.ClassFile.FieldType.int)) ∈ lw_all := lw_g (lw_at lw_m11 69 rfl) rfl
theorem q2546 : (Jvm.Cond.methodLink "PostChaiseYardModel" (67 : Nat) ({ cls := "PostChaiseYardModel", name := "layGuest", desc := "(III)V" } : Jvm.MethodName)) ∈ lw_all := lw_g (lw_at lw_m11 70 rfl) rfl
theorem q2547 : (Jvm.Cond.privateMethod ({ cls := "PostChaiseYardModel", name := "layGuest", desc := "(III)V" } : Jvm.MethodName)) ∈ lw_tbl := lw_at lw_m11 71 rfl
theorem q2548 : (Jvm.Cond.instanceMethod ({ cls := "PostChaiseYardModel", name := "layGuest", desc := "(III)V" } : Jvm.MethodName)) ∈ lw_all := lw_g (lw_at lw_m11 72 rfl) rfl
theorem q2549 : (Jvm.Cond.code ({ cls := "PostChaiseYardModel", name := "layGuest", desc := "(III)V" } : Jvm.MethodName) prog_13_method_11_code (4 : Nat) (Option.none : Option Jvm.ClassFile.FieldType)) ∈ lw_all := lw_g (lw_at lw_m11 73 rfl) rfl
theorem q2551 : (Jvm.Cond.instanceMethod ({ cls := "PostChaiseYardModel", name := "giveUp", desc := "(I)I" } : Jvm.MethodName)) ∈ lw_all := lw_g (lw_at lw_m11 75 rfl) rfl
theorem q2552 : (Jvm.Cond.selects "PostChaiseYardModel" ({ cls := "PostChaiseYardModel", name := "giveUp", desc := "(I)I" } : Jvm.MethodName) ({ cls := "PostChaiseYardModel", name := "giveUp", desc := "(I)I" } : Jvm.MethodName)) ∈ lw_all := lw_g (lw_at lw_m11 76 rfl) rfl
theorem q2553 : (Jvm.Cond.code ({ cls := "PostChaiseYardModel", name := "giveUp", desc := "(I)I" } : Jvm.MethodName) prog_13_method_37_code (2 : Nat) (Option.some Jvm.ClassFile.FieldType.int)) ∈ lw_all := lw_g (lw_at lw_m11 77 rfl) rfl
theorem q2554 : (Jvm.Cond.methodLink "PostChaiseYardModel" (113 : Nat) ({ cls := "PostChaiseYardModel", name := "isGuest", desc := "(I)Z" } : Jvm.MethodName)) ∈ lw_all := lw_g (lw_at lw_m11 78 rfl) rfl
theorem q2555 : (Jvm.Cond.privateMethod ({ cls := "PostChaiseYardModel", name := "isGuest", desc := "(I)Z" } : Jvm.MethodName)) ∈ lw_tbl := lw_at lw_m11 79 rfl
theorem q2556 : (Jvm.Cond.instanceMethod ({ cls := "PostChaiseYardModel", name := "isGuest", desc := "(I)Z" } : Jvm.MethodName)) ∈ lw_all := lw_g (lw_at lw_m11 80 rfl) rfl
theorem q2557 : (Jvm.Cond.code ({ cls := "PostChaiseYardModel", name := "isGuest", desc := "(I)Z" } : Jvm.MethodName) prog_13_method_5_code (2 : Nat) (Option.some Jvm.ClassFile.FieldType.boolean)) ∈ lw_all := lw_g (lw_at lw_m11 81 rfl) rfl
theorem q2558 : (Jvm.Cond.methodLink "PostChaiseYardModel" (36 : Nat) ({ cls := "PostChaiseYardModel", name := "guest", desc := "(II)I" } : Jvm.MethodName)) ∈ lw_all := lw_g (lw_at lw_m11 82 rfl) rfl
theorem q2559 : (Jvm.Cond.privateMethod ({ cls := "PostChaiseYardModel", name := "guest", desc := "(II)I" } : Jvm.MethodName)) ∈ lw_tbl := lw_at lw_m11 83 rfl
theorem q2560 : (Jvm.Cond.instanceMethod ({ cls := "PostChaiseYardModel", name := "guest", desc := "(II)I" } : Jvm.MethodName)) ∈ lw_all := lw_g (lw_at lw_m11 84 rfl) rfl
theorem q2561 : (Jvm.Cond.code ({ cls := "PostChaiseYardModel", name := "guest", desc := "(II)I" } : Jvm.MethodName) prog_13_method_10_code (3 : Nat) (Option.some Jvm.ClassFile.FieldType.int)) ∈ lw_all := lw_g (lw_at lw_m11 85 rfl) rfl
theorem q2562 : (Jvm.Cond.methodLink "PostChaiseYardModel" (64 : Nat) ({ cls := "PostChaiseYardModel", name := "waited", desc := "(I)I" } : Jvm.MethodName)) ∈ lw_all := lw_g (lw_at lw_m11 86 rfl) rfl
theorem q2563 : (Jvm.Cond.privateMethod ({ cls := "PostChaiseYardModel", name := "waited", desc := "(I)I" } : Jvm.MethodName)) ∈ lw_tbl := lw_at lw_m11 87 rfl
theorem q2564 : (Jvm.Cond.instanceMethod ({ cls := "PostChaiseYardModel", name := "waited", desc := "(I)I" } : Jvm.MethodName)) ∈ lw_all := lw_g (lw_at lw_m11 88 rfl) rfl
theorem q2565 : (Jvm.Cond.code ({ cls := "PostChaiseYardModel", name := "waited", desc := "(I)I" } : Jvm.MethodName) prog_13_method_20_code (2 : Nat) (Option.some Jvm.ClassFile.FieldType.int)) ∈ lw_all := lw_g (lw_at lw_m11 89 rfl) rfl
theorem q2567 : (Jvm.Cond.instanceMethod ({ cls := "PostChaiseYardModel", name := "pass", desc := "(I)I" } : Jvm.MethodName)) ∈ lw_all := lw_g (lw_at lw_m11 91 rfl) rfl
theorem q2568 : (Jvm.Cond.selects "PostChaiseYardModel" ({ cls := "PostChaiseYardModel", name := "pass", desc := "(I)I" } : Jvm.MethodName) ({ cls := "PostChaiseYardModel", name := "pass", desc := "(I)I" } : Jvm.MethodName)) ∈ lw_all := lw_g (lw_at lw_m11 92 rfl) rfl
theorem q2569 : (Jvm.Cond.code ({ cls := "PostChaiseYardModel", name := "pass", desc := "(I)I" } : Jvm.MethodName) prog_13_method_38_code (2 : Nat) (Option.some Jvm.ClassFile.FieldType.int)) ∈ lw_all := lw_g (lw_at lw_m11 93 rfl) rfl
theorem q2570 : (Jvm.Cond.methodLink "PostChaiseYardModel" (117 : Nat) ({ cls := "PostChaiseYardModel", name := "passesAll", desc := "(I)I" } : Jvm.MethodName)) ∈ lw_all := lw_g (lw_at lw_m11 94 rfl) rfl
theorem q2571 : (Jvm.Cond.privateMethod ({ cls := "PostChaiseYardModel", name := "passesAll", desc := "(I)I" } : Jvm.MethodName)) ∈ lw_tbl := lw_at lw_m11 95 rfl
theorem q2572 : (Jvm.Cond.instanceMethod ({ cls := "PostChaiseYardModel", name := "passesAll", desc := "(I)I" } : Jvm.MethodName)) ∈ lw_all := lw_g (lw_at lw_m11 96 rfl) rfl
theorem q2573 : (Jvm.Cond.code ({ cls := "PostChaiseYardModel", name := "passesAll", desc := "(I)I" } : Jvm.MethodName) prog_13_method_31_code (4 : Nat) (Option.some Jvm.ClassFile.FieldType.int)) ∈ lw_all := lw_g (lw_at lw_m11 97 rfl) rfl
theorem q2574 : (Jvm.Cond.methodLink "PostChaiseYardModel" (101 : Nat) ({ cls := "PostChaiseYardModel", name := "passes", desc := "()I" } : Jvm.MethodName)) ∈ lw_all := lw_g (lw_at lw_m11 98 rfl) rfl
theorem q2575 : (Jvm.Cond.privateMethod ({ cls := "PostChaiseYardModel", name := "passes", desc := "()I" } : Jvm.MethodName)) ∈ lw_tbl := lw_at lw_m11 99 rfl
theorem q2576 : (Jvm.Cond.instanceMethod ({ cls := "PostChaiseYardModel", name := "passes", desc := "()I" } : Jvm.MethodName)) ∈ lw_all := lw_g (lw_at lw_m11 100 rfl) rfl
theorem q2577 : (Jvm.Cond.code ({ cls := "PostChaiseYardModel", name := "passes", desc := "()I" } : Jvm.MethodName) prog_13_method_30_code (2 : Nat) (Option.some Jvm.ClassFile.FieldType.int)) ∈ lw_all := lw_g (lw_at lw_m11 101 rfl) rfl
theorem q2578 : (Jvm.Cond.methodLink "PostChaiseYardModel" (44 : Nat) ({ cls := "PostChaiseYardModel", name := "pair", desc := "(II)I" } : Jvm.MethodName)) ∈ lw_all := lw_g (lw_at lw_m11 102 rfl) rfl
theorem q2579 : (Jvm.Cond.privateMethod ({ cls := "PostChaiseYardModel", name := "pair", desc := "(II)I" } : Jvm.MethodName)) ∈ lw_tbl := lw_at lw_m11 103 rfl
theorem q2580 : (Jvm.Cond.instanceMethod ({ cls := "PostChaiseYardModel", name := "pair", desc := "(II)I" } : Jvm.MethodName)) ∈ lw_all := lw_g (lw_at lw_m11 104 rfl) rfl
theorem q2581 : (Jvm.Cond.code ({ cls := "PostChaiseYardModel", name := "pair", desc := "(II)I" } : Jvm.MethodName) prog_13_method_12_code (3 : Nat) (Option.some Jvm.ClassFile.FieldType.int)) ∈ lw_all := lw_g (lw_at lw_m11 105 rfl) rfl
theorem q2582 : (Jvm.Cond.methodLink "PostChaiseYardModel" (73 : Nat) ({ cls := "PostChaiseYardModel", name := "layPair", desc := "(III)V" } : Jvm.MethodName)) ∈ lw_all := lw_g (lw_at lw_m11 106 rfl) rfl
theorem q2583 : (Jvm.Cond.privateMethod ({ cls := "PostChaiseYardModel", name := "layPair", desc := "(III)V" } : Jvm.MethodName)) ∈ lw_tbl := lw_at lw_m11 107 rfl
theorem q2584 : (Jvm.Cond.instanceMethod ({ cls := "PostChaiseYardModel", name := "layPair", desc := "(III)V" } : Jvm.MethodName)) ∈ lw_all := lw_g (lw_at lw_m11 108 rfl) rfl
theorem q2585 : (Jvm.Cond.code ({ cls := "PostChaiseYardModel", name := "layPair", desc := "(III)V" } : Jvm.MethodName) prog_13_method_13_code (4 : Nat) (Option.none : Option Jvm.ClassFile.FieldType)) ∈ lw_all := lw_g (lw_at lw_m11 109 rfl) rfl
theorem q2586 : (Jvm.Cond.methodLink "PostChaiseYardModel" (89 : Nat) ({ cls := "PostChaiseYardModel", name := "repairs", desc := "()V" } : Jvm.MethodName)) ∈ lw_all := lw_g (lw_at lw_m11 110 rfl) rfl
theorem q2587 : (Jvm.Cond.privateMethod ({ cls := "PostChaiseYardModel", name := "repairs", desc := "()V" } : Jvm.MethodName)) ∈ lw_tbl := lw_at lw_m11 111 rfl
theorem q2588 : (Jvm.Cond.instanceMethod ({ cls := "PostChaiseYardModel", name := "repairs", desc := "()V" } : Jvm.MethodName)) ∈ lw_all := lw_g (lw_at lw_m11 112 rfl) rfl
theorem q2589 : (Jvm.Cond.code ({ cls := "PostChaiseYardModel", name := "repairs", desc := "()V" } : Jvm.MethodName) prog_13_method_29_code (2 : Nat) (Option.none : Option Jvm.ClassFile.FieldType)) ∈ lw_all := lw_g (lw_at lw_m11 113 rfl) rfl
theorem q2590 : (Jvm.Cond.methodLink "PostChaiseYardModel" (47 : Nat) ({ cls := "PostChaiseYardModel", name := "chaise", desc := "(II)I" } : Jvm.MethodName)) ∈ lw_all := lw_g (lw_at lw_m11 114 rfl) rfl
theorem q2591 : (Jvm.Cond.privateMethod ({ cls := "PostChaiseYardModel", name := "chaise", desc := "(II)I" } : Jvm.MethodName)) ∈ lw_tbl := lw_at lw_m11 115 rfl
theorem q2592 : (Jvm.Cond.instanceMethod ({ cls := "PostChaiseYardModel", name := "chaise", desc := "(II)I" } : Jvm.MethodName)) ∈ lw_all := lw_g (lw_at lw_m11 116 rfl) rfl
theorem q2593 : (Jvm.Cond.code ({ cls := "PostChaiseYardModel", name := "chaise", desc := "(II)I" } : Jvm.MethodName) prog_13_method_16_code (3 : Nat) (Option.some Jvm.ClassFile.FieldType.int)) ∈ lw_all := lw_g (lw_at lw_m11 117 rfl) rfl
theorem q2594 : (Jvm.Cond.methodLink "PostChaiseYardModel" (82 : Nat) ({ cls := "PostChaiseYardModel", name := "layChaise", desc := "(III)V" } : Jvm.MethodName)) ∈ lw_all := lw_g (lw_at lw_m11 118 rfl) rfl
theorem q2595 : (Jvm.Cond.privateMethod ({ cls := "PostChaiseYardModel", name := "layChaise", desc := "(III)V" } : Jvm.MethodName)) ∈ lw_tbl := lw_at lw_m11 119 rfl
theorem q2596 : (Jvm.Cond.instanceMethod ({ cls := "PostChaiseYardModel", name := "layChaise", desc := "(III)V" } : Jvm.MethodName)) ∈ lw_all := lw_g (lw_at lw_m11 120 rfl) rfl
theorem q2597 : (Jvm.Cond.code ({ cls := "PostChaiseYardModel", name := "layChaise", desc := "(III)V" } : Jvm.MethodName) prog_13_method_17_code (4 : Nat) (Option.none : Option Jvm.ClassFile.FieldType)) ∈ lw_all := lw_g (lw_at lw_m11 121 rfl) rfl
theorem q2598 : (Jvm.Cond.methodLink "PostChaiseYardModel" (92 : Nat) ({ cls := "PostChaiseYardModel", name := "rides", desc := "(I)V" } : Jvm.MethodName)) ∈ lw_all := lw_g (lw_at lw_m11 122 rfl) rfl
theorem q2599 : (Jvm.Cond.privateMethod ({ cls := "PostChaiseYardModel", name := "rides", desc := "(I)V" } : Jvm.MethodName)) ∈ lw_tbl := lw_at lw_m11 123 rfl
theorem q2600 : (Jvm.Cond.instanceMethod ({ cls := "PostChaiseYardModel", name := "rides", desc := "(I)V" } : Jvm.MethodName)) ∈ lw_all := lw_g (lw_at lw_m11 124 rfl) rfl
theorem q2601 : (Jvm.Cond.code ({ cls := "PostChaiseYardModel", name := "rides", desc := "(I)V" } : Jvm.MethodName) prog_13_method_28_code (5 : Nat) (Option.none : Option Jvm.ClassFile.FieldType)) ∈ lw_all := lw_g (lw_at lw_m11 125 rfl) rfl
theorem q2602 : (Jvm.Cond.methodLink "PostChaiseYardModel" (40 : Nat) ({ cls := "PostChaiseYardModel", name := "milesOf", desc := "(I)I" } : Jvm.MethodName)) ∈ lw_all := lw_g (lw_at lw_m11 126 rfl) rfl
theorem q2603 : (Jvm.Cond.static ({ cls := "PostChaiseYardModel", name := "milesOf", desc := "(I)I" } : Jvm.MethodName)) ∈ lw_all := lw_g (lw_at lw_m11 127 rfl) rfl
theorem q2604 : (Jvm.Cond.code ({ cls := "PostChaiseYardModel", name := "milesOf", desc := "(I)I" } : Jvm.MethodName) prog_13_method_18_code (1 : Nat) (Option.some Jvm.ClassFile.FieldType.int)) ∈ lw_all := lw_g (lw_at lw_m11 128 rfl) rfl
theorem q2605 : (Jvm.Cond.methodLink "PostChaiseYardModel" (85 : Nat) ({ cls := "PostChaiseYardModel", name := "stands", desc := "(I)V" } : Jvm.MethodName)) ∈ lw_all := lw_g (lw_at lw_m11 129 rfl) rfl
theorem q2606 : (Jvm.Cond.privateMethod ({ cls := "PostChaiseYardModel", name := "stands", desc := "(I)V" } : Jvm.MethodName)) ∈ lw_tbl := lw_at lw_m11 130 rfl
theorem q2607 : (Jvm.Cond.instanceMethod ({ cls := "PostChaiseYardModel", name := "stands", desc := "(I)V" } : Jvm.MethodName)) ∈ lw_all := lw_g (lw_at lw_m11 131 rfl) rfl
theorem q2608 : (Jvm.Cond.code ({ cls := "PostChaiseYardModel", name := "stands", desc := "(I)V" } : Jvm.MethodName) prog_13_method_26_code (2 : Nat) (Option.none : Option Jvm.ClassFile.FieldType)) ∈ lw_all := lw_g (lw_at lw_m11 132 rfl) rfl
theorem q2609 : (Jvm.Cond.methodLink "PostChaiseYardModel" (60 : Nat) ({ cls := "PostChaiseYardModel", name := "layBoy", desc := "(III)V" } : Jvm.MethodName)) ∈ lw_all := lw_g (lw_at lw_m11 133 rfl) rfl
theorem q2610 : (Jvm.Cond.privateMethod ({ cls := "PostChaiseYardModel", name := "layBoy", desc := "(III)V" } : Jvm.MethodName)) ∈ lw_tbl := lw_at lw_m11 134 rfl
theorem q2611 : (Jvm.Cond.instanceMethod ({ cls := "PostChaiseYardModel", name := "layBoy", desc := "(III)V" } : Jvm.MethodName)) ∈ lw_all := lw_g (lw_at lw_m11 135 rfl) rfl
theorem q2612 : (Jvm.Cond.code ({ cls := "PostChaiseYardModel", name := "layBoy", desc := "(III)V" } : Jvm.MethodName) prog_13_method_15_code (4 : Nat) (Option.none : Option Jvm.ClassFile.FieldType)) ∈ lw_all := lw_g (lw_at lw_m11 136 rfl) rfl
theorem q2613 : (Jvm.Cond.methodLink "PostChaiseYardModel" (95 : Nat) ({ cls := "PostChaiseYardModel", name := "why", desc := "()I" } : Jvm.MethodName)) ∈ lw_all := lw_g (lw_at lw_m11 137 rfl) rfl
theorem q2614 : (Jvm.Cond.privateMethod ({ cls := "PostChaiseYardModel", name := "why", desc := "()I" } : Jvm.MethodName)) ∈ lw_tbl := lw_at lw_m11 138 rfl
theorem q2615 : (Jvm.Cond.instanceMethod ({ cls := "PostChaiseYardModel", name := "why", desc := "()I" } : Jvm.MethodName)) ∈ lw_all := lw_g (lw_at lw_m11 139 rfl) rfl
theorem q2616 : (Jvm.Cond.code ({ cls := "PostChaiseYardModel", name := "why", desc := "()I" } : Jvm.MethodName) prog_13_method_24_code (1 : Nat) (Option.some Jvm.ClassFile.FieldType.int)) ∈ lw_all := lw_g (lw_at lw_m11 140 rfl) rfl
theorem q2617 : (Jvm.Cond.methodLink "PostChaiseYardModel" (50 : Nat) ({ cls := "PostChaiseYardModel", name := "inLine", desc := "(I)I" } : Jvm.MethodName)) ∈ lw_all := lw_g (lw_at lw_m11 141 rfl) rfl
theorem q2618 : (Jvm.Cond.privateMethod ({ cls := "PostChaiseYardModel", name := "inLine", desc := "(I)I" } : Jvm.MethodName)) ∈ lw_tbl := lw_at lw_m11 142 rfl
theorem q2619 : (Jvm.Cond.instanceMethod ({ cls := "PostChaiseYardModel", name := "inLine", desc := "(I)I" } : Jvm.MethodName)) ∈ lw_all := lw_g (lw_at lw_m11 143 rfl) rfl
theorem q2620 : (Jvm.Cond.code ({ cls := "PostChaiseYardModel", name := "inLine", desc := "(I)I" } : Jvm.MethodName) prog_13_method_21_code (5 : Nat) (Option.some Jvm.ClassFile.FieldType.int)) ∈ lw_all := lw_g (lw_at lw_m11 144 rfl) rfl
theorem q2621 : (Jvm.Cond.methodLink "PostChaiseYardModel" (53 : Nat) ({ cls := "PostChaiseYardModel", name := "rested", desc := "()I" } : Jvm.MethodName)) ∈ lw_all := lw_g (lw_at lw_m11 145 rfl) rfl
theorem q2622 : (Jvm.Cond.privateMethod ({ cls := "PostChaiseYardModel", name := "rested", desc := "()I" } : Jvm.MethodName)) ∈ lw_tbl := lw_at lw_m11 146 rfl
theorem q2623 : (Jvm.Cond.instanceMethod ({ cls := "PostChaiseYardModel", name := "rested", desc := "()I" } : Jvm.MethodName)) ∈ lw_all := lw_g (lw_at lw_m11 147 rfl) rfl
theorem q2624 : (Jvm.Cond.code ({ cls := "PostChaiseYardModel", name := "rested", desc := "()I" } : Jvm.MethodName) prog_13_method_22_code (4 : Nat) (Option.some Jvm.ClassFile.FieldType.int)) ∈ lw_all := lw_g (lw_at lw_m11 148 rfl) rfl
theorem q2625 : (Jvm.Cond.methodLink "PostChaiseYardModel" (57 : Nat) ({ cls := "PostChaiseYardModel", name := "ready", desc := "()I" } : Jvm.MethodName)) ∈ lw_all := lw_g (lw_at lw_m11 149 rfl) rfl
theorem q2626 : (Jvm.Cond.privateMethod ({ cls := "PostChaiseYardModel", name := "ready", desc := "()I" } : Jvm.MethodName)) ∈ lw_tbl := lw_at lw_m11 150 rfl
theorem q2627 : (Jvm.Cond.instanceMethod ({ cls := "PostChaiseYardModel", name := "ready", desc := "()I" } : Jvm.MethodName)) ∈ lw_all := lw_g (lw_at lw_m11 151 rfl) rfl
theorem q2628 : (Jvm.Cond.code ({ cls := "PostChaiseYardModel", name := "ready", desc := "()I" } : Jvm.MethodName) prog_13_method_23_code (4 : Nat) (Option.some Jvm.ClassFile.FieldType.int)) ∈ lw_all := lw_g (lw_at lw_m11 152 rfl) rfl
theorem q2629 : (Jvm.Cond.methodLink "PostChaiseYardModel" (98 : Nat) ({ cls := "PostChaiseYardModel", name := "departs", desc := "()V" } : Jvm.MethodName)) ∈ lw_all := lw_g (lw_at lw_m11 153 rfl) rfl
theorem q2630 : (Jvm.Cond.privateMethod ({ cls := "PostChaiseYardModel", name := "departs", desc := "()V" } : Jvm.MethodName)) ∈ lw_tbl := lw_at lw_m11 154 rfl
theorem q2631 : (Jvm.Cond.instanceMethod ({ cls := "PostChaiseYardModel", name := "departs", desc := "()V" } : Jvm.MethodName)) ∈ lw_all := lw_g (lw_at lw_m11 155 rfl) rfl
theorem q2632 : (Jvm.Cond.code ({ cls := "PostChaiseYardModel", name := "departs", desc := "()V" } : Jvm.MethodName) prog_13_method_27_code (10 : Nat) (Option.none : Option Jvm.ClassFile.FieldType)) ∈ lw_all := lw_g (lw_at lw_m11 156 rfl) rfl
theorem q2633 : (Jvm.Cond.methodLink "PostChaiseYardModel" (70 : Nat) ({ cls := "PostChaiseYardModel", name := "fare", desc := "(I)I" } : Jvm.MethodName)) ∈ lw_all := lw_g (lw_at lw_m11 157 rfl) rfl
theorem q2634 : (Jvm.Cond.privateMethod ({ cls := "PostChaiseYardModel", name := "fare", desc := "(I)I" } : Jvm.MethodName)) ∈ lw_tbl := lw_at lw_m11 158 rfl
theorem q2635 : (Jvm.Cond.instanceMethod ({ cls := "PostChaiseYardModel", name := "fare", desc := "(I)I" } : Jvm.MethodName)) ∈ lw_all := lw_g (lw_at lw_m11 159 rfl) rfl
theorem q2636 : (Jvm.Cond.code ({ cls := "PostChaiseYardModel", name := "fare", desc := "(I)I" } : Jvm.MethodName) prog_13_method_19_code (2 : Nat) (Option.some Jvm.ClassFile.FieldType.int)) ∈ lw_all := lw_g (lw_at lw_m11 160 rfl) rfl
theorem q2637 : (Jvm.Cond.methodLink "PostChaiseYardModel" (76 : Nat) ({ cls := "PostChaiseYardModel", name := "leaves", desc := "(I)I" } : Jvm.MethodName)) ∈ lw_all := lw_g (lw_at lw_m11 161 rfl) rfl
theorem q2638 : (Jvm.Cond.privateMethod ({ cls := "PostChaiseYardModel", name := "leaves", desc := "(I)I" } : Jvm.MethodName)) ∈ lw_tbl := lw_at lw_m11 162 rfl
theorem q2639 : (Jvm.Cond.instanceMethod ({ cls := "PostChaiseYardModel", name := "leaves", desc := "(I)I" } : Jvm.MethodName)) ∈ lw_all := lw_g (lw_at lw_m11 163 rfl) rfl
theorem q2640 : (Jvm.Cond.code ({ cls := "PostChaiseYardModel", name := "leaves", desc := "(I)I" } : Jvm.MethodName) prog_13_method_25_code (4 : Nat) (Option.some Jvm.ClassFile.FieldType.int)) ∈ lw_all := lw_g (lw_at lw_m11 164 rfl) rfl
theorem q2641 : (Jvm.Cond.methodLink "PostChaiseYardModel" (79 : Nat) ({ cls := "PostChaiseYardModel", name := "boy", desc := "(II)I" } : Jvm.MethodName)) ∈ lw_all := lw_g (lw_at lw_m11 165 rfl) rfl
theorem q2642 : (Jvm.Cond.privateMethod ({ cls := "PostChaiseYardModel", name := "boy", desc := "(II)I" } : Jvm.MethodName)) ∈ lw_tbl := lw_at lw_m11 166 rfl
theorem q2643 : (Jvm.Cond.instanceMethod ({ cls := "PostChaiseYardModel", name := "boy", desc := "(II)I" } : Jvm.MethodName)) ∈ lw_all := lw_g (lw_at lw_m11 167 rfl) rfl
theorem q2644 : (Jvm.Cond.code ({ cls := "PostChaiseYardModel", name := "boy", desc := "(II)I" } : Jvm.MethodName) prog_13_method_14_code (3 : Nat) (Option.some Jvm.ClassFile.FieldType.int)) ∈ lw_all := lw_g (lw_at lw_m11 168 rfl) rfl
theorem q2646 : (Jvm.Cond.instanceMethod ({ cls := "PostChaiseYardModel", name := "addRest", desc := "(II)I" } : Jvm.MethodName)) ∈ lw_all := lw_g (lw_at lw_m11 170 rfl) rfl
theorem q2647 : (Jvm.Cond.selects "PostChaiseYardModel" ({ cls := "PostChaiseYardModel", name := "addRest", desc := "(II)I" } : Jvm.MethodName) ({ cls := "PostChaiseYardModel", name := "addRest", desc := "(II)I" } : Jvm.MethodName)) ∈ lw_all := lw_g (lw_at lw_m11 171 rfl) rfl
theorem q2648 : (Jvm.Cond.code ({ cls := "PostChaiseYardModel", name := "addRest", desc := "(II)I" } : Jvm.MethodName) prog_13_method_39_code (3 : Nat) (Option.some Jvm.ClassFile.FieldType.int)) ∈ lw_all := lw_g (lw_at lw_m11 172 rfl) rfl
theorem q2649 : (Jvm.Cond.methodLink "PostChaiseYardModel" (120 : Nat) ({ cls := "PostChaiseYardModel", name := "isPair", desc := "(I)Z" } : Jvm.MethodName)) ∈ lw_all := lw_g (lw_at lw_m11 173 rfl) rfl
theorem q2650 : (Jvm.Cond.static ({ cls := "PostChaiseYardModel", name := "isPair", desc := "(I)Z" } : Jvm.MethodName)) ∈ lw_all := lw_g (lw_at lw_m11 174 rfl) rfl
theorem q2651 : (Jvm.Cond.code ({ cls := "PostChaiseYardModel", name := "isPair", desc := "(I)Z" } : Jvm.MethodName) prog_13_method_6_code (1 : Nat) (Option.some Jvm.ClassFile.FieldType.boolean)) ∈ lw_all := lw_g (lw_at lw_m11 175 rfl) rfl
theorem q2653 : (Jvm.Cond.instanceMethod ({ cls := "PostChaiseYardModel", name := "sendToBed", desc := "(I)I" } : Jvm.MethodName)) ∈ lw_all := lw_g (lw_at lw_m11 177 rfl) rfl
theorem q2654 : (Jvm.Cond.selects "PostChaiseYardModel" ({ cls := "PostChaiseYardModel", name := "sendToBed", desc := "(I)I" } : Jvm.MethodName) ({ cls := "PostChaiseYardModel", name := "sendToBed", desc := "(I)I" } : Jvm.MethodName)) ∈ lw_all := lw_g (lw_at lw_m11 178 rfl) rfl
theorem q2655 : (Jvm.Cond.code ({ cls := "PostChaiseYardModel", name := "sendToBed", desc := "(I)I" } : Jvm.MethodName) prog_13_method_40_code (2 : Nat) (Option.some Jvm.ClassFile.FieldType.int)) ∈ lw_all := lw_g (lw_at lw_m11 179 rfl) rfl
theorem q2656 : (Jvm.Cond.methodLink "PostChaiseYardModel" (123 : Nat) ({ cls := "PostChaiseYardModel", name := "isBoy", desc := "(I)Z" } : Jvm.MethodName)) ∈ lw_all := lw_g (lw_at lw_m11 180 rfl) rfl
theorem q2657 : (Jvm.Cond.static ({ cls := "PostChaiseYardModel", name := "isBoy", desc := "(I)Z" } : Jvm.MethodName)) ∈ lw_all := lw_g (lw_at lw_m11 181 rfl) rfl
theorem q2658 : (Jvm.Cond.code ({ cls := "PostChaiseYardModel", name := "isBoy", desc := "(I)Z" } : Jvm.MethodName) prog_13_method_7_code (1 : Nat) (Option.some Jvm.ClassFile.FieldType.boolean)) ∈ lw_all := lw_g (lw_at lw_m11 182 rfl) rfl
theorem q2659 : (Jvm.Cond.methodLink "PostChaiseYardModel" (126 : Nat) ({ cls := "PostChaiseYardModel", name := "beds", desc := "(I)I" } : Jvm.MethodName)) ∈ lw_all := lw_g (lw_at lw_m11 183 rfl) rfl
theorem q2660 : (Jvm.Cond.privateMethod ({ cls := "PostChaiseYardModel", name := "beds", desc := "(I)I" } : Jvm.MethodName)) ∈ lw_tbl := lw_at lw_m11 184 rfl
theorem q2661 : (Jvm.Cond.instanceMethod ({ cls := "PostChaiseYardModel", name := "beds", desc := "(I)I" } : Jvm.MethodName)) ∈ lw_all := lw_g (lw_at lw_m11 185 rfl) rfl
theorem q2662 : (Jvm.Cond.code ({ cls := "PostChaiseYardModel", name := "beds", desc := "(I)I" } : Jvm.MethodName) prog_13_method_33_code (3 : Nat) (Option.some Jvm.ClassFile.FieldType.int)) ∈ lw_all := lw_g (lw_at lw_m11 186 rfl) rfl
theorem q2664 : (Jvm.Cond.instanceMethod ({ cls := "PostChaiseYardModel", name := "callBoy", desc := "(I)I" } : Jvm.MethodName)) ∈ lw_all := lw_g (lw_at lw_m11 188 rfl) rfl
theorem q2665 : (Jvm.Cond.selects "PostChaiseYardModel" ({ cls := "PostChaiseYardModel", name := "callBoy", desc := "(I)I" } : Jvm.MethodName) ({ cls := "PostChaiseYardModel", name := "callBoy", desc := "(I)I" } : Jvm.MethodName)) ∈ lw_all := lw_g (lw_at lw_m11 189 rfl) rfl
theorem q2666 : (Jvm.Cond.code ({ cls := "PostChaiseYardModel", name := "callBoy", desc := "(I)I" } : Jvm.MethodName) prog_13_method_41_code (2 : Nat) (Option.some Jvm.ClassFile.FieldType.int)) ∈ lw_all := lw_g (lw_at lw_m11 190 rfl) rfl
theorem q2667 : (Jvm.Cond.methodLink "PostChaiseYardModel" (129 : Nat) ({ cls := "PostChaiseYardModel", name := "calls", desc := "(I)I" } : Jvm.MethodName)) ∈ lw_all := lw_g (lw_at lw_m11 191 rfl) rfl
theorem q2668 : (Jvm.Cond.privateMethod ({ cls := "PostChaiseYardModel", name := "calls", desc := "(I)I" } : Jvm.MethodName)) ∈ lw_tbl := lw_at lw_m11 192 rfl
theorem q2669 : (Jvm.Cond.instanceMethod ({ cls := "PostChaiseYardModel", name := "calls", desc := "(I)I" } : Jvm.MethodName)) ∈ lw_all := lw_g (lw_at lw_m11 193 rfl) rfl
theorem q2670 : (Jvm.Cond.code ({ cls := "PostChaiseYardModel", name := "calls", desc := "(I)I" } : Jvm.MethodName) prog_13_method_34_code (2 : Nat) (Option.some Jvm.ClassFile.FieldType.int)) ∈ lw_all := lw_g (lw_at lw_m11 194 rfl) rfl
theorem q2672 : (Jvm.Cond.instanceMethod ({ cls := "PostChaiseYardModel", name := "putOnPole", desc := "(I)I" } : Jvm.MethodName)) ∈ lw_all := lw_g (lw_at lw_m11 196 rfl) rfl
theorem q2673 : (Jvm.Cond.selects "PostChaiseYardModel" ({ cls := "PostChaiseYardModel", name := "putOnPole", desc := "(I)I" } : Jvm.MethodName) ({ cls := "PostChaiseYardModel", name := "putOnPole", desc := "(I)I" } : Jvm.MethodName)) ∈ lw_all := lw_g (lw_at lw_m11 197 rfl) rfl
theorem q2674 : (Jvm.Cond.code ({ cls := "PostChaiseYardModel", name := "putOnPole", desc := "(I)I" } : Jvm.MethodName) prog_13_method_42_code (2 : Nat) (Option.some Jvm.ClassFile.FieldType.int)) ∈ lw_all := lw_g (lw_at lw_m11 198 rfl) rfl
theorem q2675 : (Jvm.Cond.methodLink "PostChaiseYardModel" (132 : Nat) ({ cls := "PostChaiseYardModel", name := "isChaise", desc := "(I)Z" } : Jvm.MethodName)) ∈ lw_all := lw_g (lw_at lw_m11 199 rfl) rfl
theorem q2676 : (Jvm.Cond.static ({ cls := "PostChaiseYardModel", name := "isChaise", desc := "(I)Z" } : Jvm.MethodName)) ∈ lw_all := lw_g (lw_at lw_m11 200 rfl) rfl
theorem q2677 : (Jvm.Cond.code ({ cls := "PostChaiseYardModel", name := "isChaise", desc := "(I)Z" } : Jvm.MethodName) prog_13_method_8_code (1 : Nat) (Option.some Jvm.ClassFile.FieldType.boolean)) ∈ lw_all := lw_g (lw_at lw_m11 201 rfl) rfl
theorem q2678 : (Jvm.Cond.methodLink "PostChaiseYardModel" (135 : Nat) ({ cls := "PostChaiseYardModel", name := "poles", desc := "(I)I" } : Jvm.MethodName)) ∈ lw_all := lw_g (lw_at lw_m11 202 rfl) rfl
theorem q2679 : (Jvm.Cond.privateMethod ({ cls := "PostChaiseYardModel", name := "poles", desc := "(I)I" } : Jvm.MethodName)) ∈ lw_tbl := lw_at lw_m11 203 rfl
theorem q2680 : (Jvm.Cond.instanceMethod ({ cls := "PostChaiseYardModel", name := "poles", desc := "(I)I" } : Jvm.MethodName)) ∈ lw_all := lw_g (lw_at lw_m11 204 rfl) rfl
theorem q2681 : (Jvm.Cond.code ({ cls := "PostChaiseYardModel", name := "poles", desc := "(I)I" } : Jvm.MethodName) prog_13_method_35_code (3 : Nat) (Option.some Jvm.ClassFile.FieldType.int)) ∈ lw_all := lw_g (lw_at lw_m11 205 rfl) rfl
theorem q2683 : (Jvm.Cond.instanceMethod ({ cls := "PostChaiseYardModel", name := "setPace", desc := "(I)I" } : Jvm.MethodName)) ∈ lw_all := lw_g (lw_at lw_m11 207 rfl) rfl
theorem q2684 : (Jvm.Cond.selects "PostChaiseYardModel" ({ cls := "PostChaiseYardModel", name := "setPace", desc := "(I)I" } : Jvm.MethodName) ({ cls := "PostChaiseYardModel", name := "setPace", desc := "(I)I" } : Jvm.MethodName)) ∈ lw_all := lw_g (lw_at lw_m11 208 rfl) rfl
theorem q2685 : (Jvm.Cond.code ({ cls := "PostChaiseYardModel", name := "setPace", desc := "(I)I" } : Jvm.MethodName) prog_13_method_44_code (2 : Nat) (Option.some Jvm.ClassFile.FieldType.int)) ∈ lw_all := lw_g (lw_at lw_m11 209 rfl) rfl
theorem q2686 : (Jvm.Cond.methodLink "PostChaiseYardModel" (138 : Nat) ({ cls := "PostChaiseYardModel", name := "sets", desc := "(IIII)I" } : Jvm.MethodName)) ∈ lw_all := lw_g (lw_at lw_m11 210 rfl) rfl
theorem q2687 : (Jvm.Cond.privateMethod ({ cls := "PostChaiseYardModel", name := "sets", desc := "(IIII)I" } : Jvm.MethodName)) ∈ lw_tbl := lw_at lw_m11 211 rfl
theorem q2688 : (Jvm.Cond.instanceMethod ({ cls := "PostChaiseYardModel", name := "sets", desc := "(IIII)I" } : Jvm.MethodName)) ∈ lw_all := lw_g (lw_at lw_m11 212 rfl) rfl
theorem q2689 : (Jvm.Cond.code ({ cls := "PostChaiseYardModel", name := "sets", desc := "(IIII)I" } : Jvm.MethodName) prog_13_method_43_code (6 : Nat) (Option.some Jvm.ClassFile.FieldType.int)) ∈ lw_all := lw_g (lw_at lw_m11 213 rfl) rfl
theorem q2691 : (Jvm.Cond.instanceMethod ({ cls := "PostChaiseYardModel", name := "setPoleLimit", desc := "(I)I" } : Jvm.MethodName)) ∈ lw_all := lw_g (lw_at lw_m11 215 rfl) rfl
theorem q2692 : (Jvm.Cond.selects "PostChaiseYardModel" ({ cls := "PostChaiseYardModel", name := "setPoleLimit", desc := "(I)I" } : Jvm.MethodName) ({ cls := "PostChaiseYardModel", name := "setPoleLimit", desc := "(I)I" } : Jvm.MethodName)) ∈ lw_all := lw_g (lw_at lw_m11 216 rfl) rfl
theorem q2693 : (Jvm.Cond.code ({ cls := "PostChaiseYardModel", name := "setPoleLimit", desc := "(I)I" } : Jvm.MethodName) prog_13_method_45_code (2 : Nat) (Option.some Jvm.ClassFile.FieldType.int)) ∈ lw_all := lw_g (lw_at lw_m11 217 rfl) rfl
theorem q2695 : (Jvm.Cond.instanceMethod ({ cls := "PostChaiseYardModel", name := "time", desc := "()I" } : Jvm.MethodName)) ∈ lw_all := lw_g (lw_at lw_m11 219 rfl) rfl
theorem q2696 : (Jvm.Cond.selects "PostChaiseYardModel" ({ cls := "PostChaiseYardModel", name := "time", desc := "()I" } : Jvm.MethodName) ({ cls := "PostChaiseYardModel", name := "time", desc := "()I" } : Jvm.MethodName)) ∈ lw_all := lw_g (lw_at lw_m11 220 rfl) rfl
theorem q2697 : (Jvm.Cond.code ({ cls := "PostChaiseYardModel", name := "time", desc := "()I" } : Jvm.MethodName) prog_13_method_46_code (1 : Nat) (Option.some Jvm.ClassFile.FieldType.int)) ∈ lw_all := lw_g (lw_at lw_m11 221 rfl) rfl
theorem q2699 : (Jvm.Cond.instanceMethod ({ cls := "PostChaiseYardModel", name := "pace", desc := "()I" } : Jvm.MethodName)) ∈ lw_all := lw_g (lw_at lw_m11 223 rfl) rfl
theorem q2700 : (Jvm.Cond.selects "PostChaiseYardModel" ({ cls := "PostChaiseYardModel", name := "pace", desc := "()I" } : Jvm.MethodName) ({ cls := "PostChaiseYardModel", name := "pace", desc := "()I" } : Jvm.MethodName)) ∈ lw_all := lw_g (lw_at lw_m11 224 rfl) rfl
theorem q2701 : (Jvm.Cond.code ({ cls := "PostChaiseYardModel", name := "pace", desc := "()I" } : Jvm.MethodName) prog_13_method_47_code (1 : Nat) (Option.some Jvm.ClassFile.FieldType.int)) ∈ lw_all := lw_g (lw_at lw_m11 225 rfl) rfl
theorem q2703 : (Jvm.Cond.instanceMethod ({ cls := "PostChaiseYardModel", name := "poleLimit", desc := "()I" } : Jvm.MethodName)) ∈ lw_all := lw_g (lw_at lw_m11 227 rfl) rfl
theorem q2704 : (Jvm.Cond.selects "PostChaiseYardModel" ({ cls := "PostChaiseYardModel", name := "poleLimit", desc := "()I" } : Jvm.MethodName) ({ cls := "PostChaiseYardModel", name := "poleLimit", desc := "()I" } : Jvm.MethodName)) ∈ lw_all := lw_g (lw_at lw_m11 228 rfl) rfl
theorem q2705 : (Jvm.Cond.code ({ cls := "PostChaiseYardModel", name := "poleLimit", desc := "()I" } : Jvm.MethodName) prog_13_method_48_code (1 : Nat) (Option.some Jvm.ClassFile.FieldType.int)) ∈ lw_all := lw_g (lw_at lw_m11 229 rfl) rfl
theorem q2707 : (Jvm.Cond.instanceMethod ({ cls := "PostChaiseYardModel", name := "guestCount", desc := "()I" } : Jvm.MethodName)) ∈ lw_all := lw_g (lw_at lw_m11 231 rfl) rfl
theorem q2708 : (Jvm.Cond.selects "PostChaiseYardModel" ({ cls := "PostChaiseYardModel", name := "guestCount", desc := "()I" } : Jvm.MethodName) ({ cls := "PostChaiseYardModel", name := "guestCount", desc := "()I" } : Jvm.MethodName)) ∈ lw_all := lw_g (lw_at lw_m11 232 rfl) rfl
theorem q2709 : (Jvm.Cond.code ({ cls := "PostChaiseYardModel", name := "guestCount", desc := "()I" } : Jvm.MethodName) prog_13_method_49_code (1 : Nat) (Option.some Jvm.ClassFile.FieldType.int)) ∈ lw_all := lw_g (lw_at lw_m11 233 rfl) rfl
theorem q2711 : (Jvm.Cond.instanceMethod ({ cls := "PostChaiseYardModel", name := "rankOf", desc := "(I)I" } : Jvm.MethodName)) ∈ lw_all := lw_g (lw_at lw_m11 235 rfl) rfl
theorem q2712 : (Jvm.Cond.selects "PostChaiseYardModel" ({ cls := "PostChaiseYardModel", name := "rankOf", desc := "(I)I" } : Jvm.MethodName) ({ cls := "PostChaiseYardModel", name := "rankOf", desc := "(I)I" } : Jvm.MethodName)) ∈ lw_all := lw_g (lw_at lw_m11 236 rfl) rfl
theorem q2713 : (Jvm.Cond.code ({ cls := "PostChaiseYardModel", name := "rankOf", desc := "(I)I" } : Jvm.MethodName) prog_13_method_51_code (2 : Nat) (Option.some Jvm.ClassFile.FieldType.int)) ∈ lw_all := lw_g (lw_at lw_m11 237 rfl) rfl
theorem q2714 : (Jvm.Cond.methodLink "PostChaiseYardModel" (142 : Nat) ({ cls := "PostChaiseYardModel", name := "toldGuest", desc := "(II)I" } : Jvm.MethodName)) ∈ lw_all := lw_g (lw_at lw_m11 238 rfl) rfl
theorem q2715 : (Jvm.Cond.privateMethod ({ cls := "PostChaiseYardModel", name := "toldGuest", desc := "(II)I" } : Jvm.MethodName)) ∈ lw_tbl := lw_at lw_m11 239 rfl
theorem q2716 : (Jvm.Cond.instanceMethod ({ cls := "PostChaiseYardModel", name := "toldGuest", desc := "(II)I" } : Jvm.MethodName)) ∈ lw_all := lw_g (lw_at lw_m12 0 rfl) rfl
theorem q2717 : (Jvm.Cond.code ({ cls := "PostChaiseYardModel", name := "toldGuest", desc := "(II)I" } : Jvm.MethodName) prog_13_method_50_code (3 : Nat) (Option.some Jvm.ClassFile.FieldType.int)) ∈ lw_all := lw_g (lw_at lw_m12 1 rfl) rfl
theorem q2719 : (Jvm.Cond.instanceMethod ({ cls := "PostChaiseYardModel", name := "roadOf", desc := "(I)I" } : Jvm.MethodName)) ∈ lw_all := lw_g (lw_at lw_m12 3 rfl) rfl
theorem q2720 : (Jvm.Cond.selects "PostChaiseYardModel" ({ cls := "PostChaiseYardModel", name := "roadOf", desc := "(I)I" } : Jvm.MethodName) ({ cls := "PostChaiseYardModel", name := "roadOf", desc := "(I)I" } : Jvm.MethodName)) ∈ lw_all := lw_g (lw_at lw_m12 4 rfl) rfl
theorem q2721 : (Jvm.Cond.code ({ cls := "PostChaiseYardModel", name := "roadOf", desc := "(I)I" } : Jvm.MethodName) prog_13_method_52_code (2 : Nat) (Option.some Jvm.ClassFile.FieldType.int)) ∈ lw_all := lw_g (lw_at lw_m12 5 rfl) rfl
theorem q2723 : (Jvm.Cond.instanceMethod ({ cls := "PostChaiseYardModel", name := "isWaiting", desc := "(I)Z" } : Jvm.MethodName)) ∈ lw_all := lw_g (lw_at lw_m12 7 rfl) rfl
theorem q2724 : (Jvm.Cond.selects "PostChaiseYardModel" ({ cls := "PostChaiseYardModel", name := "isWaiting", desc := "(I)Z" } : Jvm.MethodName) ({ cls := "PostChaiseYardModel", name := "isWaiting", desc := "(I)Z" } : Jvm.MethodName)) ∈ lw_all := lw_g (lw_at lw_m12 8 rfl) rfl
theorem q2725 : (Jvm.Cond.code ({ cls := "PostChaiseYardModel", name := "isWaiting", desc := "(I)Z" } : Jvm.MethodName) prog_13_method_54_code (2 : Nat) (Option.some Jvm.ClassFile.FieldType.boolean)) ∈ lw_all := lw_g (lw_at lw_m12 9 rfl) rfl
theorem q2726 : (Jvm.Cond.methodLink "PostChaiseYardModel" (145 : Nat) ({ cls := "PostChaiseYardModel", name := "isIn", desc := "(II)Z" } : Jvm.MethodName)) ∈ lw_all := lw_g (lw_at lw_m12 10 rfl) rfl
theorem q2727 : (Jvm.Cond.privateMethod ({ cls := "PostChaiseYardModel", name := "isIn", desc := "(II)Z" } : Jvm.MethodName)) ∈ lw_tbl := lw_at lw_m12 11 rfl
theorem q2728 : (Jvm.Cond.instanceMethod ({ cls := "PostChaiseYardModel", name := "isIn", desc := "(II)Z" } : Jvm.MethodName)) ∈ lw_all := lw_g (lw_at lw_m12 12 rfl) rfl
theorem q2729 : (Jvm.Cond.code ({ cls := "PostChaiseYardModel", name := "isIn", desc := "(II)Z" } : Jvm.MethodName) prog_13_method_53_code (4 : Nat) (Option.some Jvm.ClassFile.FieldType.boolean)) ∈ lw_all := lw_g (lw_at lw_m12 13 rfl) rfl
theorem q2731 : (Jvm.Cond.instanceMethod ({ cls := "PostChaiseYardModel", name := "isUnderWay", desc := "(I)Z" } : Jvm.MethodName)) ∈ lw_all := lw_g (lw_at lw_m12 15 rfl) rfl
theorem q2732 : (Jvm.Cond.selects "PostChaiseYardModel" ({ cls := "PostChaiseYardModel", name := "isUnderWay", desc := "(I)Z" } : Jvm.MethodName) ({ cls := "PostChaiseYardModel", name := "isUnderWay", desc := "(I)Z" } : Jvm.MethodName)) ∈ lw_all := lw_g (lw_at lw_m12 16 rfl) rfl
theorem q2733 : (Jvm.Cond.code ({ cls := "PostChaiseYardModel", name := "isUnderWay", desc := "(I)Z" } : Jvm.MethodName) prog_13_method_55_code (2 : Nat) (Option.some Jvm.ClassFile.FieldType.boolean)) ∈ lw_all := lw_g (lw_at lw_m12 17 rfl) rfl
theorem q2735 : (Jvm.Cond.instanceMethod ({ cls := "PostChaiseYardModel", name := "hasArrived", desc := "(I)Z" } : Jvm.MethodName)) ∈ lw_all := lw_g (lw_at lw_m12 19 rfl) rfl
theorem q2736 : (Jvm.Cond.selects "PostChaiseYardModel" ({ cls := "PostChaiseYardModel", name := "hasArrived", desc := "(I)Z" } : Jvm.MethodName) ({ cls := "PostChaiseYardModel", name := "hasArrived", desc := "(I)Z" } : Jvm.MethodName)) ∈ lw_all := lw_g (lw_at lw_m12 20 rfl) rfl
theorem q2737 : (Jvm.Cond.code ({ cls := "PostChaiseYardModel", name := "hasArrived", desc := "(I)Z" } : Jvm.MethodName) prog_13_method_56_code (2 : Nat) (Option.some Jvm.ClassFile.FieldType.boolean)) ∈ lw_all := lw_g (lw_at lw_m12 21 rfl) rfl
theorem q2739 : (Jvm.Cond.instanceMethod ({ cls := "PostChaiseYardModel", name := "hasGivenUp", desc := "(I)Z" } : Jvm.MethodName)) ∈ lw_all := lw_g (lw_at lw_m12 23 rfl) rfl
theorem q2740 : (Jvm.Cond.selects "PostChaiseYardModel" ({ cls := "PostChaiseYardModel", name := "hasGivenUp", desc := "(I)Z" } : Jvm.MethodName) ({ cls := "PostChaiseYardModel", name := "hasGivenUp", desc := "(I)Z" } : Jvm.MethodName)) ∈ lw_all := lw_g (lw_at lw_m12 24 rfl) rfl
theorem q2741 : (Jvm.Cond.code ({ cls := "PostChaiseYardModel", name := "hasGivenUp", desc := "(I)Z" } : Jvm.MethodName) prog_13_method_57_code (2 : Nat) (Option.some Jvm.ClassFile.FieldType.boolean)) ∈ lw_all := lw_g (lw_at lw_m12 25 rfl) rfl
theorem q2743 : (Jvm.Cond.instanceMethod ({ cls := "PostChaiseYardModel", name := "waitOf", desc := "(I)I" } : Jvm.MethodName)) ∈ lw_all := lw_g (lw_at lw_m12 27 rfl) rfl
theorem q2744 : (Jvm.Cond.selects "PostChaiseYardModel" ({ cls := "PostChaiseYardModel", name := "waitOf", desc := "(I)I" } : Jvm.MethodName) ({ cls := "PostChaiseYardModel", name := "waitOf", desc := "(I)I" } : Jvm.MethodName)) ∈ lw_all := lw_g (lw_at lw_m12 28 rfl) rfl
theorem q2745 : (Jvm.Cond.code ({ cls := "PostChaiseYardModel", name := "waitOf", desc := "(I)I" } : Jvm.MethodName) prog_13_method_58_code (2 : Nat) (Option.some Jvm.ClassFile.FieldType.int)) ∈ lw_all := lw_g (lw_at lw_m12 29 rfl) rfl
theorem q2747 : (Jvm.Cond.instanceMethod ({ cls := "PostChaiseYardModel", name := "fareOf", desc := "(I)I" } : Jvm.MethodName)) ∈ lw_all := lw_g (lw_at lw_m12 31 rfl) rfl
theorem q2748 : (Jvm.Cond.selects "PostChaiseYardModel" ({ cls := "PostChaiseYardModel", name := "fareOf", desc := "(I)I" } : Jvm.MethodName) ({ cls := "PostChaiseYardModel", name := "fareOf", desc := "(I)I" } : Jvm.MethodName)) ∈ lw_all := lw_g (lw_at lw_m12 32 rfl) rfl
theorem q2749 : (Jvm.Cond.code ({ cls := "PostChaiseYardModel", name := "fareOf", desc := "(I)I" } : Jvm.MethodName) prog_13_method_59_code (2 : Nat) (Option.some Jvm.ClassFile.FieldType.int)) ∈ lw_all := lw_g (lw_at lw_m12 33 rfl) rfl
theorem q2751 : (Jvm.Cond.instanceMethod ({ cls := "PostChaiseYardModel", name := "lineLength", desc := "()I" } : Jvm.MethodName)) ∈ lw_all := lw_g (lw_at lw_m12 35 rfl) rfl
theorem q2752 : (Jvm.Cond.selects "PostChaiseYardModel" ({ cls := "PostChaiseYardModel", name := "lineLength", desc := "()I" } : Jvm.MethodName) ({ cls := "PostChaiseYardModel", name := "lineLength", desc := "()I" } : Jvm.MethodName)) ∈ lw_all := lw_g (lw_at lw_m12 36 rfl) rfl
theorem q2753 : (Jvm.Cond.code ({ cls := "PostChaiseYardModel", name := "lineLength", desc := "()I" } : Jvm.MethodName) prog_13_method_60_code (2 : Nat) (Option.some Jvm.ClassFile.FieldType.int)) ∈ lw_all := lw_g (lw_at lw_m12 37 rfl) rfl
theorem q2755 : (Jvm.Cond.instanceMethod ({ cls := "PostChaiseYardModel", name := "guestAt", desc := "(I)I" } : Jvm.MethodName)) ∈ lw_all := lw_g (lw_at lw_m12 39 rfl) rfl
theorem q2756 : (Jvm.Cond.selects "PostChaiseYardModel" ({ cls := "PostChaiseYardModel", name := "guestAt", desc := "(I)I" } : Jvm.MethodName) ({ cls := "PostChaiseYardModel", name := "guestAt", desc := "(I)I" } : Jvm.MethodName)) ∈ lw_all := lw_g (lw_at lw_m12 40 rfl) rfl
theorem q2757 : (Jvm.Cond.code ({ cls := "PostChaiseYardModel", name := "guestAt", desc := "(I)I" } : Jvm.MethodName) prog_13_method_61_code (3 : Nat) (Option.some Jvm.ClassFile.FieldType.int)) ∈ lw_all := lw_g (lw_at lw_m12 41 rfl) rfl
theorem q2759 : (Jvm.Cond.instanceMethod ({ cls := "PostChaiseYardModel", name := "isPairOut", desc := "(I)Z" } : Jvm.MethodName)) ∈ lw_all := lw_g (lw_at lw_m12 43 rfl) rfl
theorem q2760 : (Jvm.Cond.selects "PostChaiseYardModel" ({ cls := "PostChaiseYardModel", name := "isPairOut", desc := "(I)Z" } : Jvm.MethodName) ({ cls := "PostChaiseYardModel", name := "isPairOut", desc := "(I)Z" } : Jvm.MethodName)) ∈ lw_all := lw_g (lw_at lw_m12 44 rfl) rfl
theorem q2761 : (Jvm.Cond.code ({ cls := "PostChaiseYardModel", name := "isPairOut", desc := "(I)Z" } : Jvm.MethodName) prog_13_method_63_code (2 : Nat) (Option.some Jvm.ClassFile.FieldType.boolean)) ∈ lw_all := lw_g (lw_at lw_m12 45 rfl) rfl
theorem q2762 : (Jvm.Cond.methodLink "PostChaiseYardModel" (149 : Nat) ({ cls := "PostChaiseYardModel", name := "toldPair", desc := "(II)I" } : Jvm.MethodName)) ∈ lw_all := lw_g (lw_at lw_m12 46 rfl) rfl
theorem q2763 : (Jvm.Cond.privateMethod ({ cls := "PostChaiseYardModel", name := "toldPair", desc := "(II)I" } : Jvm.MethodName)) ∈ lw_tbl := lw_at lw_m12 47 rfl
theorem q2764 : (Jvm.Cond.instanceMethod ({ cls := "PostChaiseYardModel", name := "toldPair", desc := "(II)I" } : Jvm.MethodName)) ∈ lw_all := lw_g (lw_at lw_m12 48 rfl) rfl
theorem q2765 : (Jvm.Cond.code ({ cls := "PostChaiseYardModel", name := "toldPair", desc := "(II)I" } : Jvm.MethodName) prog_13_method_62_code (3 : Nat) (Option.some Jvm.ClassFile.FieldType.int)) ∈ lw_all := lw_g (lw_at lw_m12 49 rfl) rfl
theorem q2767 : (Jvm.Cond.instanceMethod ({ cls := "PostChaiseYardModel", name := "restOf", desc := "(I)I" } : Jvm.MethodName)) ∈ lw_all := lw_g (lw_at lw_m12 51 rfl) rfl
theorem q2768 : (Jvm.Cond.selects "PostChaiseYardModel" ({ cls := "PostChaiseYardModel", name := "restOf", desc := "(I)I" } : Jvm.MethodName) ({ cls := "PostChaiseYardModel", name := "restOf", desc := "(I)I" } : Jvm.MethodName)) ∈ lw_all := lw_g (lw_at lw_m12 52 rfl) rfl
theorem q2769 : (Jvm.Cond.code ({ cls := "PostChaiseYardModel", name := "restOf", desc := "(I)I" } : Jvm.MethodName) prog_13_method_64_code (2 : Nat) (Option.some Jvm.ClassFile.FieldType.int)) ∈ lw_all := lw_g (lw_at lw_m12 53 rfl) rfl
theorem q2771 : (Jvm.Cond.instanceMethod ({ cls := "PostChaiseYardModel", name := "milesOfPair", desc := "(I)I" } : Jvm.MethodName)) ∈ lw_all := lw_g (lw_at lw_m12 55 rfl) rfl
theorem q2772 : (Jvm.Cond.selects "PostChaiseYardModel" ({ cls := "PostChaiseYardModel", name := "milesOfPair", desc := "(I)I" } : Jvm.MethodName) ({ cls := "PostChaiseYardModel", name := "milesOfPair", desc := "(I)I" } : Jvm.MethodName)) ∈ lw_all := lw_g (lw_at lw_m12 56 rfl) rfl
theorem q2773 : (Jvm.Cond.code ({ cls := "PostChaiseYardModel", name := "milesOfPair", desc := "(I)I" } : Jvm.MethodName) prog_13_method_65_code (2 : Nat) (Option.some Jvm.ClassFile.FieldType.int)) ∈ lw_all := lw_g (lw_at lw_m12 57 rfl) rfl
theorem q2775 : (Jvm.Cond.instanceMethod ({ cls := "PostChaiseYardModel", name := "nextPair", desc := "()I" } : Jvm.MethodName)) ∈ lw_all := lw_g (lw_at lw_m12 59 rfl) rfl
theorem q2776 : (Jvm.Cond.selects "PostChaiseYardModel" ({ cls := "PostChaiseYardModel", name := "nextPair", desc := "()I" } : Jvm.MethodName) ({ cls := "PostChaiseYardModel", name := "nextPair", desc := "()I" } : Jvm.MethodName)) ∈ lw_all := lw_g (lw_at lw_m12 60 rfl) rfl
theorem q2777 : (Jvm.Cond.code ({ cls := "PostChaiseYardModel", name := "nextPair", desc := "()I" } : Jvm.MethodName) prog_13_method_67_code (1 : Nat) (Option.some Jvm.ClassFile.FieldType.int)) ∈ lw_all := lw_g (lw_at lw_m12 61 rfl) rfl
theorem q2778 : (Jvm.Cond.methodLink "PostChaiseYardModel" (152 : Nat) ({ cls := "PostChaiseYardModel", name := "orNone", desc := "(I)I" } : Jvm.MethodName)) ∈ lw_all := lw_g (lw_at lw_m12 62 rfl) rfl
theorem q2779 : (Jvm.Cond.privateMethod ({ cls := "PostChaiseYardModel", name := "orNone", desc := "(I)I" } : Jvm.MethodName)) ∈ lw_tbl := lw_at lw_m12 63 rfl
theorem q2780 : (Jvm.Cond.instanceMethod ({ cls := "PostChaiseYardModel", name := "orNone", desc := "(I)I" } : Jvm.MethodName)) ∈ lw_all := lw_g (lw_at lw_m12 64 rfl) rfl
theorem q2781 : (Jvm.Cond.code ({ cls := "PostChaiseYardModel", name := "orNone", desc := "(I)I" } : Jvm.MethodName) prog_13_method_66_code (2 : Nat) (Option.some Jvm.ClassFile.FieldType.int)) ∈ lw_all := lw_g (lw_at lw_m12 65 rfl) rfl
theorem q2783 : (Jvm.Cond.instanceMethod ({ cls := "PostChaiseYardModel", name := "isBoyOut", desc := "(I)Z" } : Jvm.MethodName)) ∈ lw_all := lw_g (lw_at lw_m12 67 rfl) rfl
theorem q2784 : (Jvm.Cond.selects "PostChaiseYardModel" ({ cls := "PostChaiseYardModel", name := "isBoyOut", desc := "(I)Z" } : Jvm.MethodName) ({ cls := "PostChaiseYardModel", name := "isBoyOut", desc := "(I)Z" } : Jvm.MethodName)) ∈ lw_all := lw_g (lw_at lw_m12 68 rfl) rfl
theorem q2785 : (Jvm.Cond.code ({ cls := "PostChaiseYardModel", name := "isBoyOut", desc := "(I)Z" } : Jvm.MethodName) prog_13_method_69_code (2 : Nat) (Option.some Jvm.ClassFile.FieldType.boolean)) ∈ lw_all := lw_g (lw_at lw_m12 69 rfl) rfl
theorem q2786 : (Jvm.Cond.methodLink "PostChaiseYardModel" (155 : Nat) ({ cls := "PostChaiseYardModel", name := "toldBoy", desc := "(II)I" } : Jvm.MethodName)) ∈ lw_all := lw_g (lw_at lw_m12 70 rfl) rfl
theorem q2787 : (Jvm.Cond.privateMethod ({ cls := "PostChaiseYardModel", name := "toldBoy", desc := "(II)I" } : Jvm.MethodName)) ∈ lw_tbl := lw_at lw_m12 71 rfl
theorem q2788 : (Jvm.Cond.instanceMethod ({ cls := "PostChaiseYardModel", name := "toldBoy", desc := "(II)I" } : Jvm.MethodName)) ∈ lw_all := lw_g (lw_at lw_m12 72 rfl) rfl
theorem q2789 : (Jvm.Cond.code ({ cls := "PostChaiseYardModel", name := "toldBoy", desc := "(II)I" } : Jvm.MethodName) prog_13_method_68_code (3 : Nat) (Option.some Jvm.ClassFile.FieldType.int)) ∈ lw_all := lw_g (lw_at lw_m12 73 rfl) rfl
theorem q2791 : (Jvm.Cond.instanceMethod ({ cls := "PostChaiseYardModel", name := "isInBed", desc := "(I)Z" } : Jvm.MethodName)) ∈ lw_all := lw_g (lw_at lw_m12 75 rfl) rfl
theorem q2792 : (Jvm.Cond.selects "PostChaiseYardModel" ({ cls := "PostChaiseYardModel", name := "isInBed", desc := "(I)Z" } : Jvm.MethodName) ({ cls := "PostChaiseYardModel", name := "isInBed", desc := "(I)Z" } : Jvm.MethodName)) ∈ lw_all := lw_g (lw_at lw_m12 76 rfl) rfl
theorem q2793 : (Jvm.Cond.code ({ cls := "PostChaiseYardModel", name := "isInBed", desc := "(I)Z" } : Jvm.MethodName) prog_13_method_70_code (2 : Nat) (Option.some Jvm.ClassFile.FieldType.boolean)) ∈ lw_all := lw_g (lw_at lw_m12 77 rfl) rfl
theorem q2795 : (Jvm.Cond.instanceMethod ({ cls := "PostChaiseYardModel", name := "placeOf", desc := "(I)I" } : Jvm.MethodName)) ∈ lw_all := lw_g (lw_at lw_m12 79 rfl) rfl
theorem q2796 : (Jvm.Cond.selects "PostChaiseYardModel" ({ cls := "PostChaiseYardModel", name := "placeOf", desc := "(I)I" } : Jvm.MethodName) ({ cls := "PostChaiseYardModel", name := "placeOf", desc := "(I)I" } : Jvm.MethodName)) ∈ lw_all := lw_g (lw_at lw_m12 80 rfl) rfl
theorem q2797 : (Jvm.Cond.code ({ cls := "PostChaiseYardModel", name := "placeOf", desc := "(I)I" } : Jvm.MethodName) prog_13_method_71_code (3 : Nat) (Option.some Jvm.ClassFile.FieldType.int)) ∈ lw_all := lw_g (lw_at lw_m12 81 rfl) rfl
theorem q2799 : (Jvm.Cond.instanceMethod ({ cls := "PostChaiseYardModel", name := "tripsOf", desc := "(I)I" } : Jvm.MethodName)) ∈ lw_all := lw_g (lw_at lw_m12 83 rfl) rfl
theorem q2800 : (Jvm.Cond.selects "PostChaiseYardModel" ({ cls := "PostChaiseYardModel", name := "tripsOf", desc := "(I)I" } : Jvm.MethodName) ({ cls := "PostChaiseYardModel", name := "tripsOf", desc := "(I)I" } : Jvm.MethodName)) ∈ lw_all := lw_g (lw_at lw_m12 84 rfl) rfl
theorem q2801 : (Jvm.Cond.code ({ cls := "PostChaiseYardModel", name := "tripsOf", desc := "(I)I" } : Jvm.MethodName) prog_13_method_72_code (2 : Nat) (Option.some Jvm.ClassFile.FieldType.int)) ∈ lw_all := lw_g (lw_at lw_m12 85 rfl) rfl
theorem q2803 : (Jvm.Cond.instanceMethod ({ cls := "PostChaiseYardModel", name := "nextBoy", desc := "()I" } : Jvm.MethodName)) ∈ lw_all := lw_g (lw_at lw_m12 87 rfl) rfl
theorem q2804 : (Jvm.Cond.selects "PostChaiseYardModel" ({ cls := "PostChaiseYardModel", name := "nextBoy", desc := "()I" } : Jvm.MethodName) ({ cls := "PostChaiseYardModel", name := "nextBoy", desc := "()I" } : Jvm.MethodName)) ∈ lw_all := lw_g (lw_at lw_m12 88 rfl) rfl
theorem q2805 : (Jvm.Cond.code ({ cls := "PostChaiseYardModel", name := "nextBoy", desc := "()I" } : Jvm.MethodName) prog_13_method_73_code (1 : Nat) (Option.some Jvm.ClassFile.FieldType.int)) ∈ lw_all := lw_g (lw_at lw_m12 89 rfl) rfl
theorem q2807 : (Jvm.Cond.instanceMethod ({ cls := "PostChaiseYardModel", name := "isChaiseOut", desc := "(I)Z" } : Jvm.MethodName)) ∈ lw_all := lw_g (lw_at lw_m12 91 rfl) rfl
theorem q2808 : (Jvm.Cond.selects "PostChaiseYardModel" ({ cls := "PostChaiseYardModel", name := "isChaiseOut", desc := "(I)Z" } : Jvm.MethodName) ({ cls := "PostChaiseYardModel", name := "isChaiseOut", desc := "(I)Z" } : Jvm.MethodName)) ∈ lw_all := lw_g (lw_at lw_m12 92 rfl) rfl
theorem q2809 : (Jvm.Cond.code ({ cls := "PostChaiseYardModel", name := "isChaiseOut", desc := "(I)Z" } : Jvm.MethodName) prog_13_method_75_code (2 : Nat) (Option.some Jvm.ClassFile.FieldType.boolean)) ∈ lw_all := lw_g (lw_at lw_m12 93 rfl) rfl
theorem q2810 : (Jvm.Cond.methodLink "PostChaiseYardModel" (158 : Nat) ({ cls := "PostChaiseYardModel", name := "toldChaise", desc := "(II)I" } : Jvm.MethodName)) ∈ lw_all := lw_g (lw_at lw_m12 94 rfl) rfl
theorem q2811 : (Jvm.Cond.privateMethod ({ cls := "PostChaiseYardModel", name := "toldChaise", desc := "(II)I" } : Jvm.MethodName)) ∈ lw_tbl := lw_at lw_m12 95 rfl
theorem q2812 : (Jvm.Cond.instanceMethod ({ cls := "PostChaiseYardModel", name := "toldChaise", desc := "(II)I" } : Jvm.MethodName)) ∈ lw_all := lw_g (lw_at lw_m12 96 rfl) rfl
theorem q2813 : (Jvm.Cond.code ({ cls := "PostChaiseYardModel", name := "toldChaise", desc := "(II)I" } : Jvm.MethodName) prog_13_method_74_code (3 : Nat) (Option.some Jvm.ClassFile.FieldType.int)) ∈ lw_all := lw_g (lw_at lw_m12 97 rfl) rfl
theorem q2815 : (Jvm.Cond.instanceMethod ({ cls := "PostChaiseYardModel", name := "isBroken", desc := "(I)Z" } : Jvm.MethodName)) ∈ lw_all := lw_g (lw_at lw_m12 99 rfl) rfl
theorem q2816 : (Jvm.Cond.selects "PostChaiseYardModel" ({ cls := "PostChaiseYardModel", name := "isBroken", desc := "(I)Z" } : Jvm.MethodName) ({ cls := "PostChaiseYardModel", name := "isBroken", desc := "(I)Z" } : Jvm.MethodName)) ∈ lw_all := lw_g (lw_at lw_m12 100 rfl) rfl
theorem q2817 : (Jvm.Cond.code ({ cls := "PostChaiseYardModel", name := "isBroken", desc := "(I)Z" } : Jvm.MethodName) prog_13_method_76_code (2 : Nat) (Option.some Jvm.ClassFile.FieldType.boolean)) ∈ lw_all := lw_g (lw_at lw_m12 101 rfl) rfl
theorem q2819 : (Jvm.Cond.instanceMethod ({ cls := "PostChaiseYardModel", name := "wearOf", desc := "(I)I" } : Jvm.MethodName)) ∈ lw_all := lw_g (lw_at lw_m12 103 rfl) rfl
theorem q2820 : (Jvm.Cond.selects "PostChaiseYardModel" ({ cls := "PostChaiseYardModel", name := "wearOf", desc := "(I)I" } : Jvm.MethodName) ({ cls := "PostChaiseYardModel", name := "wearOf", desc := "(I)I" } : Jvm.MethodName)) ∈ lw_all := lw_g (lw_at lw_m12 104 rfl) rfl
theorem q2821 : (Jvm.Cond.code ({ cls := "PostChaiseYardModel", name := "wearOf", desc := "(I)I" } : Jvm.MethodName) prog_13_method_77_code (2 : Nat) (Option.some Jvm.ClassFile.FieldType.int)) ∈ lw_all := lw_g (lw_at lw_m12 105 rfl) rfl
theorem q2823 : (Jvm.Cond.instanceMethod ({ cls := "PostChaiseYardModel", name := "milesOfChaise", desc := "(I)I" } : Jvm.MethodName)) ∈ lw_all := lw_g (lw_at lw_m12 107 rfl) rfl
theorem q2824 : (Jvm.Cond.selects "PostChaiseYardModel" ({ cls := "PostChaiseYardModel", name := "milesOfChaise", desc := "(I)I" } : Jvm.MethodName) ({ cls := "PostChaiseYardModel", name := "milesOfChaise", desc := "(I)I" } : Jvm.MethodName)) ∈ lw_all := lw_g (lw_at lw_m12 108 rfl) rfl
theorem q2825 : (Jvm.Cond.code ({ cls := "PostChaiseYardModel", name := "milesOfChaise", desc := "(I)I" } : Jvm.MethodName) prog_13_method_78_code (2 : Nat) (Option.some Jvm.ClassFile.FieldType.int)) ∈ lw_all := lw_g (lw_at lw_m12 109 rfl) rfl
theorem q2827 : (Jvm.Cond.instanceMethod ({ cls := "PostChaiseYardModel", name := "guestOf", desc := "(I)I" } : Jvm.MethodName)) ∈ lw_all := lw_g (lw_at lw_m12 111 rfl) rfl
theorem q2828 : (Jvm.Cond.selects "PostChaiseYardModel" ({ cls := "PostChaiseYardModel", name := "guestOf", desc := "(I)I" } : Jvm.MethodName) ({ cls := "PostChaiseYardModel", name := "guestOf", desc := "(I)I" } : Jvm.MethodName)) ∈ lw_all := lw_g (lw_at lw_m12 112 rfl) rfl
theorem q2829 : (Jvm.Cond.code ({ cls := "PostChaiseYardModel", name := "guestOf", desc := "(I)I" } : Jvm.MethodName) prog_13_method_80_code (2 : Nat) (Option.some Jvm.ClassFile.FieldType.int)) ∈ lw_all := lw_g (lw_at lw_m12 113 rfl) rfl
theorem q2830 : (Jvm.Cond.methodLink "PostChaiseYardModel" (161 : Nat) ({ cls := "PostChaiseYardModel", name := "toldTrip", desc := "(II)I" } : Jvm.MethodName)) ∈ lw_all := lw_g (lw_at lw_m12 114 rfl) rfl
theorem q2831 : (Jvm.Cond.privateMethod ({ cls := "PostChaiseYardModel", name := "toldTrip", desc := "(II)I" } : Jvm.MethodName)) ∈ lw_tbl := lw_at lw_m12 115 rfl
theorem q2832 : (Jvm.Cond.instanceMethod ({ cls := "PostChaiseYardModel", name := "toldTrip", desc := "(II)I" } : Jvm.MethodName)) ∈ lw_all := lw_g (lw_at lw_m12 116 rfl) rfl
theorem q2833 : (Jvm.Cond.code ({ cls := "PostChaiseYardModel", name := "toldTrip", desc := "(II)I" } : Jvm.MethodName) prog_13_method_79_code (3 : Nat) (Option.some Jvm.ClassFile.FieldType.int)) ∈ lw_all := lw_g (lw_at lw_m12 117 rfl) rfl
theorem q2835 : (Jvm.Cond.instanceMethod ({ cls := "PostChaiseYardModel", name := "quartersLeft", desc := "(I)I" } : Jvm.MethodName)) ∈ lw_all := lw_g (lw_at lw_m12 119 rfl) rfl
theorem q2836 : (Jvm.Cond.selects "PostChaiseYardModel" ({ cls := "PostChaiseYardModel", name := "quartersLeft", desc := "(I)I" } : Jvm.MethodName) ({ cls := "PostChaiseYardModel", name := "quartersLeft", desc := "(I)I" } : Jvm.MethodName)) ∈ lw_all := lw_g (lw_at lw_m12 120 rfl) rfl
theorem q2837 : (Jvm.Cond.code ({ cls := "PostChaiseYardModel", name := "quartersLeft", desc := "(I)I" } : Jvm.MethodName) prog_13_method_81_code (2 : Nat) (Option.some Jvm.ClassFile.FieldType.int)) ∈ lw_all := lw_g (lw_at lw_m12 121 rfl) rfl
theorem q2839 : (Jvm.Cond.instanceMethod ({ cls := "PostChaiseYardModel", name := "nextChaise", desc := "()I" } : Jvm.MethodName)) ∈ lw_all := lw_g (lw_at lw_m12 123 rfl) rfl
theorem q2840 : (Jvm.Cond.selects "PostChaiseYardModel" ({ cls := "PostChaiseYardModel", name := "nextChaise", desc := "()I" } : Jvm.MethodName) ({ cls := "PostChaiseYardModel", name := "nextChaise", desc := "()I" } : Jvm.MethodName)) ∈ lw_all := lw_g (lw_at lw_m12 124 rfl) rfl
theorem q2841 : (Jvm.Cond.code ({ cls := "PostChaiseYardModel", name := "nextChaise", desc := "()I" } : Jvm.MethodName) prog_13_method_82_code (1 : Nat) (Option.some Jvm.ClassFile.FieldType.int)) ∈ lw_all := lw_g (lw_at lw_m12 125 rfl) rfl
theorem q2843 : (Jvm.Cond.instanceMethod ({ cls := "PostChaiseYardModel", name := "chaiseInRepair", desc := "()I" } : Jvm.MethodName)) ∈ lw_all := lw_g (lw_at lw_m12 127 rfl) rfl
theorem q2844 : (Jvm.Cond.selects "PostChaiseYardModel" ({ cls := "PostChaiseYardModel", name := "chaiseInRepair", desc := "()I" } : Jvm.MethodName) ({ cls := "PostChaiseYardModel", name := "chaiseInRepair", desc := "()I" } : Jvm.MethodName)) ∈ lw_all := lw_g (lw_at lw_m12 128 rfl) rfl
theorem q2845 : (Jvm.Cond.code ({ cls := "PostChaiseYardModel", name := "chaiseInRepair", desc := "()I" } : Jvm.MethodName) prog_13_method_83_code (1 : Nat) (Option.some Jvm.ClassFile.FieldType.int)) ∈ lw_all := lw_g (lw_at lw_m12 129 rfl) rfl
theorem q2847 : (Jvm.Cond.instanceMethod ({ cls := "PostChaiseYardModel", name := "repairLeft", desc := "()I" } : Jvm.MethodName)) ∈ lw_all := lw_g (lw_at lw_m12 131 rfl) rfl
theorem q2848 : (Jvm.Cond.selects "PostChaiseYardModel" ({ cls := "PostChaiseYardModel", name := "repairLeft", desc := "()I" } : Jvm.MethodName) ({ cls := "PostChaiseYardModel", name := "repairLeft", desc := "()I" } : Jvm.MethodName)) ∈ lw_all := lw_g (lw_at lw_m12 132 rfl) rfl
theorem q2849 : (Jvm.Cond.code ({ cls := "PostChaiseYardModel", name := "repairLeft", desc := "()I" } : Jvm.MethodName) prog_13_method_84_code (1 : Nat) (Option.some Jvm.ClassFile.FieldType.int)) ∈ lw_all := lw_g (lw_at lw_m12 133 rfl) rfl
theorem q2851 : (Jvm.Cond.instanceMethod ({ cls := "PostChaiseYardModel", name := "whyNoDeparture", desc := "()I" } : Jvm.MethodName)) ∈ lw_all := lw_g (lw_at lw_m12 135 rfl) rfl
theorem q2852 : (Jvm.Cond.selects "PostChaiseYardModel" ({ cls := "PostChaiseYardModel", name := "whyNoDeparture", desc := "()I" } : Jvm.MethodName) ({ cls := "PostChaiseYardModel", name := "whyNoDeparture", desc := "()I" } : Jvm.MethodName)) ∈ lw_all := lw_g (lw_at lw_m12 136 rfl) rfl
theorem q2853 : (Jvm.Cond.code ({ cls := "PostChaiseYardModel", name := "whyNoDeparture", desc := "()I" } : Jvm.MethodName) prog_13_method_85_code (1 : Nat) (Option.some Jvm.ClassFile.FieldType.int)) ∈ lw_all := lw_g (lw_at lw_m12 137 rfl) rfl
theorem q2855 : (Jvm.Cond.instanceMethod ({ cls := "PostChaiseYardModel", name := "quartersToArrival", desc := "(I)I" } : Jvm.MethodName)) ∈ lw_all := lw_g (lw_at lw_m12 139 rfl) rfl
theorem q2856 : (Jvm.Cond.selects "PostChaiseYardModel" ({ cls := "PostChaiseYardModel", name := "quartersToArrival", desc := "(I)I" } : Jvm.MethodName) ({ cls := "PostChaiseYardModel", name := "quartersToArrival", desc := "(I)I" } : Jvm.MethodName)) ∈ lw_all := lw_g (lw_at lw_m12 140 rfl) rfl
theorem q2857 : (Jvm.Cond.code ({ cls := "PostChaiseYardModel", name := "quartersToArrival", desc := "(I)I" } : Jvm.MethodName) prog_13_method_88_code (4 : Nat) (Option.some Jvm.ClassFile.FieldType.int)) ∈ lw_all := lw_g (lw_at lw_m12 141 rfl) rfl
theorem q2858 : (Jvm.Cond.methodLink "PostChaiseYardModel" (164 : Nat) ({ cls := "PostChaiseYardModel", name := "keepsAside", desc := "()V" } : Jvm.MethodName)) ∈ lw_all := lw_g (lw_at lw_m12 142 rfl) rfl
theorem q2859 : (Jvm.Cond.privateMethod ({ cls := "PostChaiseYardModel", name := "keepsAside", desc := "()V" } : Jvm.MethodName)) ∈ lw_tbl := lw_at lw_m12 143 rfl
theorem q2860 : (Jvm.Cond.instanceMethod ({ cls := "PostChaiseYardModel", name := "keepsAside", desc := "()V" } : Jvm.MethodName)) ∈ lw_all := lw_g (lw_at lw_m12 144 rfl) rfl
theorem q2861 : (Jvm.Cond.code ({ cls := "PostChaiseYardModel", name := "keepsAside", desc := "()V" } : Jvm.MethodName) prog_13_method_86_code (2 : Nat) (Option.none : Option Jvm.ClassFile.FieldType)) ∈ lw_all := lw_g (lw_at lw_m12 145 rfl) rfl
theorem q2862 : (Jvm.Cond.methodLink "PostChaiseYardModel" (167 : Nat) ({ cls := "PostChaiseYardModel", name := "putsBack", desc := "()V" } : Jvm.MethodName)) ∈ lw_all := lw_g (lw_at lw_m12 146 rfl) rfl
theorem q2863 : (Jvm.Cond.privateMethod ({ cls := "PostChaiseYardModel", name := "putsBack", desc := "()V" } : Jvm.MethodName)) ∈ lw_tbl := lw_at lw_m12 147 rfl
theorem q2864 : (Jvm.Cond.instanceMethod ({ cls := "PostChaiseYardModel", name := "putsBack", desc := "()V" } : Jvm.MethodName)) ∈ lw_all := lw_g (lw_at lw_m12 148 rfl) rfl
theorem q2865 : (Jvm.Cond.code ({ cls := "PostChaiseYardModel", name := "putsBack", desc := "()V" } : Jvm.MethodName) prog_13_method_87_code (2 : Nat) (Option.none : Option Jvm.ClassFile.FieldType)) ∈ lw_all := lw_g (lw_at lw_m12 149 rfl) rfl
theorem q2867 : (Jvm.Cond.instanceMethod ({ cls := "PostChaiseYardModel", name := "departuresIn", desc := "(I)I" } : Jvm.MethodName)) ∈ lw_all := lw_g (lw_at lw_m12 151 rfl) rfl
theorem q2868 : (Jvm.Cond.selects "PostChaiseYardModel" ({ cls := "PostChaiseYardModel", name := "departuresIn", desc := "(I)I" } : Jvm.MethodName) ({ cls := "PostChaiseYardModel", name := "departuresIn", desc := "(I)I" } : Jvm.MethodName)) ∈ lw_all := lw_g (lw_at lw_m12 152 rfl) rfl
theorem q2869 : (Jvm.Cond.code ({ cls := "PostChaiseYardModel", name := "departuresIn", desc := "(I)I" } : Jvm.MethodName) prog_13_method_89_code (3 : Nat) (Option.some Jvm.ClassFile.FieldType.int)) ∈ lw_all := lw_g (lw_at lw_m12 153 rfl) rfl
theorem q2871 : (Jvm.Cond.instanceMethod ({ cls := "PostChaiseYardModel", name := "incomeByGuests", desc := "()I" } : Jvm.MethodName)) ∈ lw_all := lw_g (lw_at lw_m12 155 rfl) rfl
theorem q2872 : (Jvm.Cond.selects "PostChaiseYardModel" ({ cls := "PostChaiseYardModel", name := "incomeByGuests", desc := "()I" } : Jvm.MethodName) ({ cls := "PostChaiseYardModel", name := "incomeByGuests", desc := "()I" } : Jvm.MethodName)) ∈ lw_all := lw_g (lw_at lw_m12 156 rfl) rfl
theorem q2873 : (Jvm.Cond.code ({ cls := "PostChaiseYardModel", name := "incomeByGuests", desc := "()I" } : Jvm.MethodName) prog_13_method_91_code (1 : Nat) (Option.some Jvm.ClassFile.FieldType.int)) ∈ lw_all := lw_g (lw_at lw_m12 157 rfl) rfl
theorem q2874 : (Jvm.Cond.methodLink "PostChaiseYardModel" (170 : Nat) ({ cls := "PostChaiseYardModel", name := "income", desc := "()I" } : Jvm.MethodName)) ∈ lw_all := lw_g (lw_at lw_m12 158 rfl) rfl
theorem q2875 : (Jvm.Cond.privateMethod ({ cls := "PostChaiseYardModel", name := "income", desc := "()I" } : Jvm.MethodName)) ∈ lw_tbl := lw_at lw_m12 159 rfl
theorem q2876 : (Jvm.Cond.instanceMethod ({ cls := "PostChaiseYardModel", name := "income", desc := "()I" } : Jvm.MethodName)) ∈ lw_all := lw_g (lw_at lw_m12 160 rfl) rfl
theorem q2877 : (Jvm.Cond.code ({ cls := "PostChaiseYardModel", name := "income", desc := "()I" } : Jvm.MethodName) prog_13_method_90_code (1 : Nat) (Option.some Jvm.ClassFile.FieldType.int)) ∈ lw_all := lw_g (lw_at lw_m12 161 rfl) rfl
theorem q2879 : (Jvm.Cond.instanceMethod ({ cls := "PostChaiseYardModel", name := "incomeByRoads", desc := "()I" } : Jvm.MethodName)) ∈ lw_all := lw_g (lw_at lw_m12 163 rfl) rfl
theorem q2880 : (Jvm.Cond.selects "PostChaiseYardModel" ({ cls := "PostChaiseYardModel", name := "incomeByRoads", desc := "()I" } : Jvm.MethodName) ({ cls := "PostChaiseYardModel", name := "incomeByRoads", desc := "()I" } : Jvm.MethodName)) ∈ lw_all := lw_g (lw_at lw_m12 164 rfl) rfl
theorem q2881 : (Jvm.Cond.code ({ cls := "PostChaiseYardModel", name := "incomeByRoads", desc := "()I" } : Jvm.MethodName) prog_13_method_92_code (1 : Nat) (Option.some Jvm.ClassFile.FieldType.int)) ∈ lw_all := lw_g (lw_at lw_m12 165 rfl) rfl
theorem q2883 : (Jvm.Cond.instanceMethod ({ cls := "PostChaiseYardModel", name := "incomeFrom", desc := "(I)I" } : Jvm.MethodName)) ∈ lw_all := lw_g (lw_at lw_m12 167 rfl) rfl
theorem q2884 : (Jvm.Cond.selects "PostChaiseYardModel" ({ cls := "PostChaiseYardModel", name := "incomeFrom", desc := "(I)I" } : Jvm.MethodName) ({ cls := "PostChaiseYardModel", name := "incomeFrom", desc := "(I)I" } : Jvm.MethodName)) ∈ lw_all := lw_g (lw_at lw_m12 168 rfl) rfl
theorem q2885 : (Jvm.Cond.code ({ cls := "PostChaiseYardModel", name := "incomeFrom", desc := "(I)I" } : Jvm.MethodName) prog_13_method_93_code (2 : Nat) (Option.some Jvm.ClassFile.FieldType.int)) ∈ lw_all := lw_g (lw_at lw_m12 169 rfl) rfl
theorem q2887 : (Jvm.Cond.instanceMethod ({ cls := "PostChaiseYardModel", name := "spentOnPoles", desc := "()I" } : Jvm.MethodName)) ∈ lw_all := lw_g (lw_at lw_m12 171 rfl) rfl
theorem q2888 : (Jvm.Cond.selects "PostChaiseYardModel" ({ cls := "PostChaiseYardModel", name := "spentOnPoles", desc := "()I" } : Jvm.MethodName) ({ cls := "PostChaiseYardModel", name := "spentOnPoles", desc := "()I" } : Jvm.MethodName)) ∈ lw_all := lw_g (lw_at lw_m12 172 rfl) rfl
theorem q2889 : (Jvm.Cond.code ({ cls := "PostChaiseYardModel", name := "spentOnPoles", desc := "()I" } : Jvm.MethodName) prog_13_method_94_code (1 : Nat) (Option.some Jvm.ClassFile.FieldType.int)) ∈ lw_all := lw_g (lw_at lw_m12 173 rfl) rfl
theorem q2891 : (Jvm.Cond.instanceMethod ({ cls := "PostChaiseYardModel", name := "milesByPairs", desc := "()I" } : Jvm.MethodName)) ∈ lw_all := lw_g (lw_at lw_m12 175 rfl) rfl
theorem q2892 : (Jvm.Cond.selects "PostChaiseYardModel" ({ cls := "PostChaiseYardModel", name := "milesByPairs", desc := "()I" } : Jvm.MethodName) ({ cls := "PostChaiseYardModel", name := "milesByPairs", desc := "()I" } : Jvm.MethodName)) ∈ lw_all := lw_g (lw_at lw_m12 176 rfl) rfl
theorem q2893 : (Jvm.Cond.code ({ cls := "PostChaiseYardModel", name := "milesByPairs", desc := "()I" } : Jvm.MethodName) prog_13_method_96_code (1 : Nat) (Option.some Jvm.ClassFile.FieldType.int)) ∈ lw_all := lw_g (lw_at lw_m12 177 rfl) rfl
theorem q2894 : (Jvm.Cond.methodLink "PostChaiseYardModel" (173 : Nat) ({ cls := "PostChaiseYardModel", name := "allMiles", desc := "()I" } : Jvm.MethodName)) ∈ lw_all := lw_g (lw_at lw_m12 178 rfl) rfl
theorem q2895 : (Jvm.Cond.privateMethod ({ cls := "PostChaiseYardModel", name := "allMiles", desc := "()I" } : Jvm.MethodName)) ∈ lw_tbl := lw_at lw_m12 179 rfl
theorem q2896 : (Jvm.Cond.instanceMethod ({ cls := "PostChaiseYardModel", name := "allMiles", desc := "()I" } : Jvm.MethodName)) ∈ lw_all := lw_g (lw_at lw_m12 180 rfl) rfl
theorem q2897 : (Jvm.Cond.code ({ cls := "PostChaiseYardModel", name := "allMiles", desc := "()I" } : Jvm.MethodName) prog_13_method_95_code (1 : Nat) (Option.some Jvm.ClassFile.FieldType.int)) ∈ lw_all := lw_g (lw_at lw_m12 181 rfl) rfl
theorem q2899 : (Jvm.Cond.instanceMethod ({ cls := "PostChaiseYardModel", name := "milesByChaises", desc := "()I" } : Jvm.MethodName)) ∈ lw_all := lw_g (lw_at lw_m12 183 rfl) rfl
theorem q2900 : (Jvm.Cond.selects "PostChaiseYardModel" ({ cls := "PostChaiseYardModel", name := "milesByChaises", desc := "()I" } : Jvm.MethodName) ({ cls := "PostChaiseYardModel", name := "milesByChaises", desc := "()I" } : Jvm.MethodName)) ∈ lw_all := lw_g (lw_at lw_m12 184 rfl) rfl
theorem q2901 : (Jvm.Cond.code ({ cls := "PostChaiseYardModel", name := "milesByChaises", desc := "()I" } : Jvm.MethodName) prog_13_method_97_code (1 : Nat) (Option.some Jvm.ClassFile.FieldType.int)) ∈ lw_all := lw_g (lw_at lw_m12 185 rfl) rfl
theorem q2903 : (Jvm.Cond.instanceMethod ({ cls := "PostChaiseYardModel", name := "brokenPoles", desc := "()I" } : Jvm.MethodName)) ∈ lw_all := lw_g (lw_at lw_m12 187 rfl) rfl
theorem q2904 : (Jvm.Cond.selects "PostChaiseYardModel" ({ cls := "PostChaiseYardModel", name := "brokenPoles", desc := "()I" } : Jvm.MethodName) ({ cls := "PostChaiseYardModel", name := "brokenPoles", desc := "()I" } : Jvm.MethodName)) ∈ lw_all := lw_g (lw_at lw_m12 188 rfl) rfl
theorem q2905 : (Jvm.Cond.code ({ cls := "PostChaiseYardModel", name := "brokenPoles", desc := "()I" } : Jvm.MethodName) prog_13_method_98_code (1 : Nat) (Option.some Jvm.ClassFile.FieldType.int)) ∈ lw_all := lw_g (lw_at lw_m12 189 rfl) rfl
theorem q2907 : (Jvm.Cond.instanceMethod ({ cls := "PostChaiseYardModel", name := "meanWait", desc := "()D" } : Jvm.MethodName)) ∈ lw_all := lw_g (lw_at lw_m12 191 rfl) rfl
theorem q2908 : (Jvm.Cond.selects "PostChaiseYardModel" ({ cls := "PostChaiseYardModel", name := "meanWait", desc := "()D" } : Jvm.MethodName) ({ cls := "PostChaiseYardModel", name := "meanWait", desc := "()D" } : Jvm.MethodName)) ∈ lw_all := lw_g (lw_at lw_m12 192 rfl) rfl
theorem q2909 : (Jvm.Cond.code ({ cls := "PostChaiseYardModel", name := "meanWait", desc := "()D" } : Jvm.MethodName) prog_13_method_99_code (5 : Nat) (Option.some Jvm.ClassFile.FieldType.double)) ∈ lw_all := lw_g (lw_at lw_m12 193 rfl) rfl
theorem q2911 : (Jvm.Cond.instanceMethod ({ cls := "PostChaiseYardModel", name := "append", desc := "(I)I" } : Jvm.MethodName)) ∈ lw_all := lw_g (lw_at lw_m12 195 rfl) rfl
theorem q2912 : (Jvm.Cond.selects "PostChaiseYardModel" ({ cls := "PostChaiseYardModel", name := "append", desc := "(I)I" } : Jvm.MethodName) ({ cls := "PostChaiseYardModel", name := "append", desc := "(I)I" } : Jvm.MethodName)) ∈ lw_all := lw_g (lw_at lw_m12 196 rfl) rfl
theorem q2913 : (Jvm.Cond.code ({ cls := "PostChaiseYardModel", name := "append", desc := "(I)I" } : Jvm.MethodName) prog_13_method_100_code (2 : Nat) (Option.some Jvm.ClassFile.FieldType.int)) ∈ lw_all := lw_g (lw_at lw_m12 197 rfl) rfl
theorem q2915 : (Jvm.Cond.instanceMethod ({ cls := "PostChaiseYardModel", name := "clearText", desc := "()I" } : Jvm.MethodName)) ∈ lw_all := lw_g (lw_at lw_m12 199 rfl) rfl
theorem q2916 : (Jvm.Cond.selects "PostChaiseYardModel" ({ cls := "PostChaiseYardModel", name := "clearText", desc := "()I" } : Jvm.MethodName) ({ cls := "PostChaiseYardModel", name := "clearText", desc := "()I" } : Jvm.MethodName)) ∈ lw_all := lw_g (lw_at lw_m12 200 rfl) rfl
theorem q2917 : (Jvm.Cond.code ({ cls := "PostChaiseYardModel", name := "clearText", desc := "()I" } : Jvm.MethodName) prog_13_method_101_code (2 : Nat) (Option.some Jvm.ClassFile.FieldType.int)) ∈ lw_all := lw_g (lw_at lw_m12 201 rfl) rfl
theorem q2919 : (Jvm.Cond.instanceMethod ({ cls := "PostChaiseYardModel", name := "textLength", desc := "()I" } : Jvm.MethodName)) ∈ lw_all := lw_g (lw_at lw_m12 203 rfl) rfl
theorem q2920 : (Jvm.Cond.selects "PostChaiseYardModel" ({ cls := "PostChaiseYardModel", name := "textLength", desc := "()I" } : Jvm.MethodName) ({ cls := "PostChaiseYardModel", name := "textLength", desc := "()I" } : Jvm.MethodName)) ∈ lw_all := lw_g (lw_at lw_m12 204 rfl) rfl
theorem q2921 : (Jvm.Cond.code ({ cls := "PostChaiseYardModel", name := "textLength", desc := "()I" } : Jvm.MethodName) prog_13_method_102_code (1 : Nat) (Option.some Jvm.ClassFile.FieldType.int)) ∈ lw_all := lw_g (lw_at lw_m12 205 rfl) rfl
theorem q2923 : (Jvm.Cond.instanceMethod ({ cls := "PostChaiseYardModel", name := "isValid", desc := "()Z" } : Jvm.MethodName)) ∈ lw_all := lw_g (lw_at lw_m12 207 rfl) rfl
theorem q2924 : (Jvm.Cond.selects "PostChaiseYardModel" ({ cls := "PostChaiseYardModel", name := "isValid", desc := "()Z" } : Jvm.MethodName) ({ cls := "PostChaiseYardModel", name := "isValid", desc := "()Z" } : Jvm.MethodName)) ∈ lw_all := lw_g (lw_at lw_m12 208 rfl) rfl
theorem q2925 : (Jvm.Cond.code ({ cls := "PostChaiseYardModel", name := "isValid", desc := "()Z" } : Jvm.MethodName) prog_13_method_108_code (2 : Nat) (Option.some Jvm.ClassFile.FieldType.boolean)) ∈ lw_all := lw_g (lw_at lw_m12 209 rfl) rfl
theorem q2926 : (Jvm.Cond.methodLink "PostChaiseYardModel" (200 : Nat) ({ cls := "PostChaiseYardModel", name := "go", desc := "(Z)I" } : Jvm.MethodName)) ∈ lw_all := lw_g (lw_at lw_m12 210 rfl) rfl
theorem q2927 : (Jvm.Cond.privateMethod ({ cls := "PostChaiseYardModel", name := "go", desc := "(Z)I" } : Jvm.MethodName)) ∈ lw_tbl := lw_at lw_m12 211 rfl
theorem q2928 : (Jvm.Cond.instanceMethod ({ cls := "PostChaiseYardModel", name := "go", desc := "(Z)I" } : Jvm.MethodName)) ∈ lw_all := lw_g (lw_at lw_m12 212 rfl) rfl
theorem q2929 : (Jvm.Cond.code ({ cls := "PostChaiseYardModel", name := "go", desc := "(Z)I" } : Jvm.MethodName) prog_13_method_107_code (5 : Nat) (Option.some Jvm.ClassFile.FieldType.int)) ∈ lw_all := lw_g (lw_at lw_m12 213 rfl) rfl
theorem q2930 : (Jvm.Cond.methodLink "PostChaiseYardModel" (196 : Nat) ({ cls := "PostChaiseYardModel", name := "order", desc := "(Z)Z" } : Jvm.MethodName)) ∈ lw_all := lw_g (lw_at lw_m12 214 rfl) rfl
theorem q2931 : (Jvm.Cond.privateMethod ({ cls := "PostChaiseYardModel", name := "order", desc := "(Z)Z" } : Jvm.MethodName)) ∈ lw_tbl := lw_at lw_m12 215 rfl
theorem q2932 : (Jvm.Cond.instanceMethod ({ cls := "PostChaiseYardModel", name := "order", desc := "(Z)Z" } : Jvm.MethodName)) ∈ lw_all := lw_g (lw_at lw_m12 216 rfl) rfl
theorem q2933 : (Jvm.Cond.code ({ cls := "PostChaiseYardModel", name := "order", desc := "(Z)Z" } : Jvm.MethodName) prog_13_method_106_code (7 : Nat) (Option.some Jvm.ClassFile.FieldType.boolean)) ∈ lw_all := lw_g (lw_at lw_m12 217 rfl) rfl
theorem q2934 : (Jvm.Cond.methodLink "PostChaiseYardModel" (193 : Nat) ({ cls := "PostChaiseYardModel", name := "kind", desc := "()I" } : Jvm.MethodName)) ∈ lw_all := lw_g (lw_at lw_m12 218 rfl) rfl
theorem q2935 : (Jvm.Cond.privateMethod ({ cls := "PostChaiseYardModel", name := "kind", desc := "()I" } : Jvm.MethodName)) ∈ lw_tbl := lw_at lw_m12 219 rfl
theorem q2936 : (Jvm.Cond.instanceMethod ({ cls := "PostChaiseYardModel", name := "kind", desc := "()I" } : Jvm.MethodName)) ∈ lw_all := lw_g (lw_at lw_m12 220 rfl) rfl
theorem q2937 : (Jvm.Cond.code ({ cls := "PostChaiseYardModel", name := "kind", desc := "()I" } : Jvm.MethodName) prog_13_method_105_code (3 : Nat) (Option.some Jvm.ClassFile.FieldType.int)) ∈ lw_all := lw_g (lw_at lw_m12 221 rfl) rfl
theorem q2938 : (Jvm.Cond.methodLink "PostChaiseYardModel" (186 : Nat) ({ cls := "PostChaiseYardModel", name := "sign", desc := "(II)I" } : Jvm.MethodName)) ∈ lw_all := lw_g (lw_at lw_m12 222 rfl) rfl
theorem q2939 : (Jvm.Cond.privateMethod ({ cls := "PostChaiseYardModel", name := "sign", desc := "(II)I" } : Jvm.MethodName)) ∈ lw_tbl := lw_at lw_m12 223 rfl
theorem q2940 : (Jvm.Cond.instanceMethod ({ cls := "PostChaiseYardModel", name := "sign", desc := "(II)I" } : Jvm.MethodName)) ∈ lw_all := lw_g (lw_at lw_m12 224 rfl) rfl
theorem q2941 : (Jvm.Cond.code ({ cls := "PostChaiseYardModel", name := "sign", desc := "(II)I" } : Jvm.MethodName) prog_13_method_103_code (4 : Nat) (Option.some Jvm.ClassFile.FieldType.int)) ∈ lw_all := lw_g (lw_at lw_m12 225 rfl) rfl
theorem q2942 : (Jvm.Cond.methodLink "PostChaiseYardModel" (189 : Nat) ({ cls := "PostChaiseYardModel", name := "word", desc := "(IIIIII)V" } : Jvm.MethodName)) ∈ lw_all := lw_g (lw_at lw_m12 226 rfl) rfl
theorem q2943 : (Jvm.Cond.privateMethod ({ cls := "PostChaiseYardModel", name := "word", desc := "(IIIIII)V" } : Jvm.MethodName)) ∈ lw_tbl := lw_at lw_m12 227 rfl
theorem q2944 : (Jvm.Cond.instanceMethod ({ cls := "PostChaiseYardModel", name := "word", desc := "(IIIIII)V" } : Jvm.MethodName)) ∈ lw_all := lw_g (lw_at lw_m12 228 rfl) rfl
theorem q2945 : (Jvm.Cond.code ({ cls := "PostChaiseYardModel", name := "word", desc := "(IIIIII)V" } : Jvm.MethodName) prog_13_method_104_code (8 : Nat) (Option.none : Option Jvm.ClassFile.FieldType)) ∈ lw_all := lw_g (lw_at lw_m12 229 rfl) rfl
theorem q2947 : (Jvm.Cond.instanceMethod ({ cls := "PostChaiseYardModel", name := "errorPosition", desc := "()I" } : Jvm.MethodName)) ∈ lw_all := lw_g (lw_at lw_m12 231 rfl) rfl
theorem q2948 : (Jvm.Cond.selects "PostChaiseYardModel" ({ cls := "PostChaiseYardModel", name := "errorPosition", desc := "()I" } : Jvm.MethodName) ({ cls := "PostChaiseYardModel", name := "errorPosition", desc := "()I" } : Jvm.MethodName)) ∈ lw_all := lw_g (lw_at lw_m12 232 rfl) rfl
theorem q2949 : (Jvm.Cond.code ({ cls := "PostChaiseYardModel", name := "errorPosition", desc := "()I" } : Jvm.MethodName) prog_13_method_109_code (2 : Nat) (Option.some Jvm.ClassFile.FieldType.int)) ∈ lw_all := lw_g (lw_at lw_m12 233 rfl) rfl
theorem q2951 : (Jvm.Cond.instanceMethod ({ cls := "PostChaiseYardModel", name := "runText", desc := "()I" } : Jvm.MethodName)) ∈ lw_all := lw_g (lw_at lw_m12 235 rfl) rfl
theorem q2952 : (Jvm.Cond.selects "PostChaiseYardModel" ({ cls := "PostChaiseYardModel", name := "runText", desc := "()I" } : Jvm.MethodName) ({ cls := "PostChaiseYardModel", name := "runText", desc := "()I" } : Jvm.MethodName)) ∈ lw_all := lw_g (lw_at lw_m12 236 rfl) rfl
theorem q2953 : (Jvm.Cond.code ({ cls := "PostChaiseYardModel", name := "runText", desc := "()I" } : Jvm.MethodName) prog_13_method_110_code (2 : Nat) (Option.some Jvm.ClassFile.FieldType.int)) ∈ lw_all := lw_g (lw_at lw_m12 237 rfl) rfl
theorem q2955 : (Jvm.Cond.instanceMethod ({ cls := "PostChaiseYardModel", name := "undo", desc := "()I" } : Jvm.MethodName)) ∈ lw_all := lw_g (lw_at lw_m12 239 rfl) rfl
theorem q2956 : (Jvm.Cond.selects "PostChaiseYardModel" ({ cls := "PostChaiseYardModel", name := "undo", desc := "()I" } : Jvm.MethodName) ({ cls := "PostChaiseYardModel", name := "undo", desc := "()I" } : Jvm.MethodName)) ∈ lw_all := lw_g (lw_at lw_m13 0 rfl) rfl
theorem q2957 : (Jvm.Cond.code ({ cls := "PostChaiseYardModel", name := "undo", desc := "()I" } : Jvm.MethodName) prog_13_method_111_code (2 : Nat) (Option.some Jvm.ClassFile.FieldType.int)) ∈ lw_all := lw_g (lw_at lw_m13 1 rfl) rfl
theorem q2959 : (Jvm.Cond.instanceMethod ({ cls := "PostChaiseYardModel", name := "savedStates", desc := "()I" } : Jvm.MethodName)) ∈ lw_all := lw_g (lw_at lw_m13 3 rfl) rfl
theorem q2960 : (Jvm.Cond.selects "PostChaiseYardModel" ({ cls := "PostChaiseYardModel", name := "savedStates", desc := "()I" } : Jvm.MethodName) ({ cls := "PostChaiseYardModel", name := "savedStates", desc := "()I" } : Jvm.MethodName)) ∈ lw_all := lw_g (lw_at lw_m13 4 rfl) rfl
theorem q2961 : (Jvm.Cond.code ({ cls := "PostChaiseYardModel", name := "savedStates", desc := "()I" } : Jvm.MethodName) prog_13_method_112_code (1 : Nat) (Option.some Jvm.ClassFile.FieldType.int)) ∈ lw_all := lw_g (lw_at lw_m13 5 rfl) rfl
theorem q2963 : (Jvm.Cond.instanceMethod ({ cls := "PostChaiseYardModel", name := "takeSnapshot", desc := "()I" } : Jvm.MethodName)) ∈ lw_all := lw_g (lw_at lw_m13 7 rfl) rfl
theorem q2964 : (Jvm.Cond.selects "PostChaiseYardModel" ({ cls := "PostChaiseYardModel", name := "takeSnapshot", desc := "()I" } : Jvm.MethodName) ({ cls := "PostChaiseYardModel", name := "takeSnapshot", desc := "()I" } : Jvm.MethodName)) ∈ lw_all := lw_g (lw_at lw_m13 8 rfl) rfl
theorem q2965 : (Jvm.Cond.code ({ cls := "PostChaiseYardModel", name := "takeSnapshot", desc := "()I" } : Jvm.MethodName) prog_13_method_113_code (2 : Nat) (Option.some Jvm.ClassFile.FieldType.int)) ∈ lw_all := lw_g (lw_at lw_m13 9 rfl) rfl
theorem q2967 : (Jvm.Cond.instanceMethod ({ cls := "PostChaiseYardModel", name := "restoreSnapshot", desc := "()I" } : Jvm.MethodName)) ∈ lw_all := lw_g (lw_at lw_m13 11 rfl) rfl
theorem q2968 : (Jvm.Cond.selects "PostChaiseYardModel" ({ cls := "PostChaiseYardModel", name := "restoreSnapshot", desc := "()I" } : Jvm.MethodName) ({ cls := "PostChaiseYardModel", name := "restoreSnapshot", desc := "()I" } : Jvm.MethodName)) ∈ lw_all := lw_g (lw_at lw_m13 12 rfl) rfl
theorem q2969 : (Jvm.Cond.code ({ cls := "PostChaiseYardModel", name := "restoreSnapshot", desc := "()I" } : Jvm.MethodName) prog_13_method_114_code (2 : Nat) (Option.some Jvm.ClassFile.FieldType.int)) ∈ lw_all := lw_g (lw_at lw_m13 13 rfl) rfl
theorem q3008 : (Jvm.Cond.castable "PostChaiseYardModel" "java/lang/Object") ∈ lw_tbl := lw_at lw_m13 52 rfl
theorem in_X6 : ∀ w ∈ wsX60, w ∈ lw_all := lw_in wsX60 [2500, 2502, 2504, 2506, 2508, 2510, 2512, 2514, 2516, 2518, 2520] (by decide +kernel) (by decide +kernel)
