/-! RoyalCourtLaw -/
set_option maxRecDepth 100000
def RX0 : String := "RoyalCourtLaw"
abbrev cX0_addCourtier : ByteArray := method_3_code
def yX0_addCourtier : MethodName := ⟨RX0, "addCourtier", "(LRoyalCourt;I[J)I"⟩
def dkwX0_addCourtier_0 : List UInt8 := [44, 3, 42, 27, 182, 0, 7, 133, 80, 167, 0, 9, 78, 4, 172, 78, 5, 172, 3, 172]
abbrev dktX0_addCourtier_0 : List UInt8 := dkwX0_addCourtier_0 ++ []
theorem dksX0_addCourtier_0 : cX0_addCourtier.data.toList.drop 0 = dktX0_addCourtier_0 := by decide +kernel
theorem dX0_addCourtier_0 : decode cX0_addCourtier 0 = .ok (.aload_n 2, 1) := dk_44 (dk_at dksX0_addCourtier_0 0 rfl rfl)
theorem dX0_addCourtier_1 : decode cX0_addCourtier 1 = .ok (.iconst 0, 1) := dk_3 (dk_at dksX0_addCourtier_0 1 rfl rfl)
theorem dX0_addCourtier_2 : decode cX0_addCourtier 2 = .ok (.aload_n 0, 1) := dk_42 (dk_at dksX0_addCourtier_0 2 rfl rfl)
theorem dX0_addCourtier_3 : decode cX0_addCourtier 3 = .ok (.iload_n 1, 1) := dk_27 (dk_at dksX0_addCourtier_0 3 rfl rfl)
theorem dX0_addCourtier_4 : decode cX0_addCourtier 4 = .ok (.invokevirtual 7, 3) := dk_182 0 7 (dk_at dksX0_addCourtier_0 4 rfl rfl)
theorem dX0_addCourtier_7 : decode cX0_addCourtier 7 = .ok (.i2l, 1) := dk_133 (dk_at dksX0_addCourtier_0 7 rfl rfl)
theorem dX0_addCourtier_8 : decode cX0_addCourtier 8 = .ok (.lastore, 1) := dk_80 (dk_at dksX0_addCourtier_0 8 rfl rfl)
theorem dX0_addCourtier_9 : decode cX0_addCourtier 9 = .ok (.goto 9, 3) := dk_167 0 9 (dk_at dksX0_addCourtier_0 9 rfl rfl)
theorem dX0_addCourtier_12 : decode cX0_addCourtier 12 = .ok (.astore_n 3, 1) := dk_78 (dk_at dksX0_addCourtier_0 12 rfl rfl)
theorem dX0_addCourtier_13 : decode cX0_addCourtier 13 = .ok (.iconst 1, 1) := dk_4 (dk_at dksX0_addCourtier_0 13 rfl rfl)
theorem dX0_addCourtier_14 : decode cX0_addCourtier 14 = .ok (.ireturn, 1) := dk_172 (dk_at dksX0_addCourtier_0 14 rfl rfl)
theorem dX0_addCourtier_15 : decode cX0_addCourtier 15 = .ok (.astore_n 3, 1) := dk_78 (dk_at dksX0_addCourtier_0 15 rfl rfl)
theorem dX0_addCourtier_16 : decode cX0_addCourtier 16 = .ok (.iconst 2, 1) := dk_5 (dk_at dksX0_addCourtier_0 16 rfl rfl)
theorem dX0_addCourtier_17 : decode cX0_addCourtier 17 = .ok (.ireturn, 1) := dk_172 (dk_at dksX0_addCourtier_0 17 rfl rfl)
theorem dX0_addCourtier_18 : decode cX0_addCourtier 18 = .ok (.iconst 0, 1) := dk_3 (dk_at dksX0_addCourtier_0 18 rfl rfl)
theorem dX0_addCourtier_19 : decode cX0_addCourtier 19 = .ok (.ireturn, 1) := dk_172 (dk_at dksX0_addCourtier_0 19 rfl rfl)
abbrev cX0_addRule : ByteArray := method_4_code
def yX0_addRule : MethodName := ⟨RX0, "addRule", "(LRoyalCourt;II[J)I"⟩
def dkwX0_addRule_1 : List UInt8 := [172, 3, 172]
abbrev dktX0_addRule_1 : List UInt8 := dkwX0_addRule_1 ++ []
def dkwX0_addRule_0 : List UInt8 := [45, 3, 42, 27, 28, 182, 0, 17, 133, 80, 167, 0, 15, 58, 4, 4, 172, 58, 4, 5, 172, 58, 4, 6]
abbrev dktX0_addRule_0 : List UInt8 := dkwX0_addRule_0 ++ dktX0_addRule_1
theorem dksX0_addRule_0 : cX0_addRule.data.toList.drop 0 = dktX0_addRule_0 := by decide +kernel
theorem dksX0_addRule_1 : cX0_addRule.data.toList.drop 24 = dktX0_addRule_1 := dk_seg dksX0_addRule_0 24 rfl rfl
theorem dX0_addRule_0 : decode cX0_addRule 0 = .ok (.aload_n 3, 1) := dk_45 (dk_at dksX0_addRule_0 0 rfl rfl)
theorem dX0_addRule_1 : decode cX0_addRule 1 = .ok (.iconst 0, 1) := dk_3 (dk_at dksX0_addRule_0 1 rfl rfl)
theorem dX0_addRule_2 : decode cX0_addRule 2 = .ok (.aload_n 0, 1) := dk_42 (dk_at dksX0_addRule_0 2 rfl rfl)
theorem dX0_addRule_3 : decode cX0_addRule 3 = .ok (.iload_n 1, 1) := dk_27 (dk_at dksX0_addRule_0 3 rfl rfl)
theorem dX0_addRule_4 : decode cX0_addRule 4 = .ok (.iload_n 2, 1) := dk_28 (dk_at dksX0_addRule_0 4 rfl rfl)
theorem dX0_addRule_5 : decode cX0_addRule 5 = .ok (.invokevirtual 17, 3) := dk_182 0 17 (dk_at dksX0_addRule_0 5 rfl rfl)
theorem dX0_addRule_8 : decode cX0_addRule 8 = .ok (.i2l, 1) := dk_133 (dk_at dksX0_addRule_0 8 rfl rfl)
theorem dX0_addRule_9 : decode cX0_addRule 9 = .ok (.lastore, 1) := dk_80 (dk_at dksX0_addRule_0 9 rfl rfl)
theorem dX0_addRule_10 : decode cX0_addRule 10 = .ok (.goto 15, 3) := dk_167 0 15 (dk_at dksX0_addRule_0 10 rfl rfl)
theorem dX0_addRule_13 : decode cX0_addRule 13 = .ok (.astore 4, 2) := dk_58 4 (dk_at dksX0_addRule_0 13 rfl rfl)
theorem dX0_addRule_15 : decode cX0_addRule 15 = .ok (.iconst 1, 1) := dk_4 (dk_at dksX0_addRule_0 15 rfl rfl)
theorem dX0_addRule_16 : decode cX0_addRule 16 = .ok (.ireturn, 1) := dk_172 (dk_at dksX0_addRule_0 16 rfl rfl)
theorem dX0_addRule_17 : decode cX0_addRule 17 = .ok (.astore 4, 2) := dk_58 4 (dk_at dksX0_addRule_0 17 rfl rfl)
theorem dX0_addRule_19 : decode cX0_addRule 19 = .ok (.iconst 2, 1) := dk_5 (dk_at dksX0_addRule_0 19 rfl rfl)
theorem dX0_addRule_20 : decode cX0_addRule 20 = .ok (.ireturn, 1) := dk_172 (dk_at dksX0_addRule_0 20 rfl rfl)
theorem dX0_addRule_21 : decode cX0_addRule 21 = .ok (.astore 4, 2) := dk_58 4 (dk_at dksX0_addRule_0 21 rfl rfl)
theorem dX0_addRule_23 : decode cX0_addRule 23 = .ok (.iconst 3, 1) := dk_6 (dk_at dksX0_addRule_0 23 rfl rfl)
theorem dX0_addRule_24 : decode cX0_addRule 24 = .ok (.ireturn, 1) := dk_172 (dk_at dksX0_addRule_1 0 rfl rfl)
theorem dX0_addRule_25 : decode cX0_addRule 25 = .ok (.iconst 0, 1) := dk_3 (dk_at dksX0_addRule_1 1 rfl rfl)
theorem dX0_addRule_26 : decode cX0_addRule 26 = .ok (.ireturn, 1) := dk_172 (dk_at dksX0_addRule_1 2 rfl rfl)
abbrev cX0_removeRule : ByteArray := method_5_code
def yX0_removeRule : MethodName := ⟨RX0, "removeRule", "(LRoyalCourt;II[J)I"⟩
def dkwX0_removeRule_0 : List UInt8 := [45, 3, 42, 27, 28, 182, 0, 23, 133, 80, 167, 0, 11, 58, 4, 4, 172, 58, 4, 5, 172, 3, 172]
abbrev dktX0_removeRule_0 : List UInt8 := dkwX0_removeRule_0 ++ []
theorem dksX0_removeRule_0 : cX0_removeRule.data.toList.drop 0 = dktX0_removeRule_0 := by decide +kernel
theorem dX0_removeRule_0 : decode cX0_removeRule 0 = .ok (.aload_n 3, 1) := dk_45 (dk_at dksX0_removeRule_0 0 rfl rfl)
theorem dX0_removeRule_1 : decode cX0_removeRule 1 = .ok (.iconst 0, 1) := dk_3 (dk_at dksX0_removeRule_0 1 rfl rfl)
theorem dX0_removeRule_2 : decode cX0_removeRule 2 = .ok (.aload_n 0, 1) := dk_42 (dk_at dksX0_removeRule_0 2 rfl rfl)
theorem dX0_removeRule_3 : decode cX0_removeRule 3 = .ok (.iload_n 1, 1) := dk_27 (dk_at dksX0_removeRule_0 3 rfl rfl)
theorem dX0_removeRule_4 : decode cX0_removeRule 4 = .ok (.iload_n 2, 1) := dk_28 (dk_at dksX0_removeRule_0 4 rfl rfl)
theorem dX0_removeRule_5 : decode cX0_removeRule 5 = .ok (.invokevirtual 23, 3) := dk_182 0 23 (dk_at dksX0_removeRule_0 5 rfl rfl)
theorem dX0_removeRule_8 : decode cX0_removeRule 8 = .ok (.i2l, 1) := dk_133 (dk_at dksX0_removeRule_0 8 rfl rfl)
theorem dX0_removeRule_9 : decode cX0_removeRule 9 = .ok (.lastore, 1) := dk_80 (dk_at dksX0_removeRule_0 9 rfl rfl)
theorem dX0_removeRule_10 : decode cX0_removeRule 10 = .ok (.goto 11, 3) := dk_167 0 11 (dk_at dksX0_removeRule_0 10 rfl rfl)
theorem dX0_removeRule_13 : decode cX0_removeRule 13 = .ok (.astore 4, 2) := dk_58 4 (dk_at dksX0_removeRule_0 13 rfl rfl)
theorem dX0_removeRule_15 : decode cX0_removeRule 15 = .ok (.iconst 1, 1) := dk_4 (dk_at dksX0_removeRule_0 15 rfl rfl)
theorem dX0_removeRule_16 : decode cX0_removeRule 16 = .ok (.ireturn, 1) := dk_172 (dk_at dksX0_removeRule_0 16 rfl rfl)
theorem dX0_removeRule_17 : decode cX0_removeRule 17 = .ok (.astore 4, 2) := dk_58 4 (dk_at dksX0_removeRule_0 17 rfl rfl)
theorem dX0_removeRule_19 : decode cX0_removeRule 19 = .ok (.iconst 2, 1) := dk_5 (dk_at dksX0_removeRule_0 19 rfl rfl)
theorem dX0_removeRule_20 : decode cX0_removeRule 20 = .ok (.ireturn, 1) := dk_172 (dk_at dksX0_removeRule_0 20 rfl rfl)
theorem dX0_removeRule_21 : decode cX0_removeRule 21 = .ok (.iconst 0, 1) := dk_3 (dk_at dksX0_removeRule_0 21 rfl rfl)
theorem dX0_removeRule_22 : decode cX0_removeRule 22 = .ok (.ireturn, 1) := dk_172 (dk_at dksX0_removeRule_0 22 rfl rfl)
abbrev cX0_dignityOf : ByteArray := method_6_code
def yX0_dignityOf : MethodName := ⟨RX0, "dignityOf", "(LRoyalCourt;I[J)I"⟩
def dkwX0_dignityOf_0 : List UInt8 := [44, 3, 42, 27, 182, 0, 28, 133, 80, 167, 0, 6, 78, 4, 172, 3, 172]
abbrev dktX0_dignityOf_0 : List UInt8 := dkwX0_dignityOf_0 ++ []
theorem dksX0_dignityOf_0 : cX0_dignityOf.data.toList.drop 0 = dktX0_dignityOf_0 := by decide +kernel
theorem dX0_dignityOf_0 : decode cX0_dignityOf 0 = .ok (.aload_n 2, 1) := dk_44 (dk_at dksX0_dignityOf_0 0 rfl rfl)
theorem dX0_dignityOf_1 : decode cX0_dignityOf 1 = .ok (.iconst 0, 1) := dk_3 (dk_at dksX0_dignityOf_0 1 rfl rfl)
theorem dX0_dignityOf_2 : decode cX0_dignityOf 2 = .ok (.aload_n 0, 1) := dk_42 (dk_at dksX0_dignityOf_0 2 rfl rfl)
theorem dX0_dignityOf_3 : decode cX0_dignityOf 3 = .ok (.iload_n 1, 1) := dk_27 (dk_at dksX0_dignityOf_0 3 rfl rfl)
theorem dX0_dignityOf_4 : decode cX0_dignityOf 4 = .ok (.invokevirtual 28, 3) := dk_182 0 28 (dk_at dksX0_dignityOf_0 4 rfl rfl)
theorem dX0_dignityOf_7 : decode cX0_dignityOf 7 = .ok (.i2l, 1) := dk_133 (dk_at dksX0_dignityOf_0 7 rfl rfl)
theorem dX0_dignityOf_8 : decode cX0_dignityOf 8 = .ok (.lastore, 1) := dk_80 (dk_at dksX0_dignityOf_0 8 rfl rfl)
theorem dX0_dignityOf_9 : decode cX0_dignityOf 9 = .ok (.goto 6, 3) := dk_167 0 6 (dk_at dksX0_dignityOf_0 9 rfl rfl)
theorem dX0_dignityOf_12 : decode cX0_dignityOf 12 = .ok (.astore_n 3, 1) := dk_78 (dk_at dksX0_dignityOf_0 12 rfl rfl)
theorem dX0_dignityOf_13 : decode cX0_dignityOf 13 = .ok (.iconst 1, 1) := dk_4 (dk_at dksX0_dignityOf_0 13 rfl rfl)
theorem dX0_dignityOf_14 : decode cX0_dignityOf 14 = .ok (.ireturn, 1) := dk_172 (dk_at dksX0_dignityOf_0 14 rfl rfl)
theorem dX0_dignityOf_15 : decode cX0_dignityOf 15 = .ok (.iconst 0, 1) := dk_3 (dk_at dksX0_dignityOf_0 15 rfl rfl)
theorem dX0_dignityOf_16 : decode cX0_dignityOf 16 = .ok (.ireturn, 1) := dk_172 (dk_at dksX0_dignityOf_0 16 rfl rfl)
abbrev cX0_favorOf : ByteArray := method_7_code
def yX0_favorOf : MethodName := ⟨RX0, "favorOf", "(LRoyalCourt;I[J)I"⟩
def dkwX0_favorOf_0 : List UInt8 := [44, 3, 42, 27, 182, 0, 31, 133, 80, 167, 0, 6, 78, 4, 172, 3, 172]
abbrev dktX0_favorOf_0 : List UInt8 := dkwX0_favorOf_0 ++ []
theorem dksX0_favorOf_0 : cX0_favorOf.data.toList.drop 0 = dktX0_favorOf_0 := by decide +kernel
theorem dX0_favorOf_0 : decode cX0_favorOf 0 = .ok (.aload_n 2, 1) := dk_44 (dk_at dksX0_favorOf_0 0 rfl rfl)
theorem dX0_favorOf_1 : decode cX0_favorOf 1 = .ok (.iconst 0, 1) := dk_3 (dk_at dksX0_favorOf_0 1 rfl rfl)
theorem dX0_favorOf_2 : decode cX0_favorOf 2 = .ok (.aload_n 0, 1) := dk_42 (dk_at dksX0_favorOf_0 2 rfl rfl)
theorem dX0_favorOf_3 : decode cX0_favorOf 3 = .ok (.iload_n 1, 1) := dk_27 (dk_at dksX0_favorOf_0 3 rfl rfl)
theorem dX0_favorOf_4 : decode cX0_favorOf 4 = .ok (.invokevirtual 31, 3) := dk_182 0 31 (dk_at dksX0_favorOf_0 4 rfl rfl)
theorem dX0_favorOf_7 : decode cX0_favorOf 7 = .ok (.i2l, 1) := dk_133 (dk_at dksX0_favorOf_0 7 rfl rfl)
theorem dX0_favorOf_8 : decode cX0_favorOf 8 = .ok (.lastore, 1) := dk_80 (dk_at dksX0_favorOf_0 8 rfl rfl)
theorem dX0_favorOf_9 : decode cX0_favorOf 9 = .ok (.goto 6, 3) := dk_167 0 6 (dk_at dksX0_favorOf_0 9 rfl rfl)
theorem dX0_favorOf_12 : decode cX0_favorOf 12 = .ok (.astore_n 3, 1) := dk_78 (dk_at dksX0_favorOf_0 12 rfl rfl)
theorem dX0_favorOf_13 : decode cX0_favorOf 13 = .ok (.iconst 1, 1) := dk_4 (dk_at dksX0_favorOf_0 13 rfl rfl)
theorem dX0_favorOf_14 : decode cX0_favorOf 14 = .ok (.ireturn, 1) := dk_172 (dk_at dksX0_favorOf_0 14 rfl rfl)
theorem dX0_favorOf_15 : decode cX0_favorOf 15 = .ok (.iconst 0, 1) := dk_3 (dk_at dksX0_favorOf_0 15 rfl rfl)
theorem dX0_favorOf_16 : decode cX0_favorOf 16 = .ok (.ireturn, 1) := dk_172 (dk_at dksX0_favorOf_0 16 rfl rfl)
abbrev cX0_precedes : ByteArray := method_8_code
def yX0_precedes : MethodName := ⟨RX0, "precedes", "(LRoyalCourt;II[J)I"⟩
def dkwX0_precedes_1 : List UInt8 := [3, 172]
abbrev dktX0_precedes_1 : List UInt8 := dkwX0_precedes_1 ++ []
def dkwX0_precedes_0 : List UInt8 := [45, 3, 42, 27, 28, 182, 0, 34, 153, 0, 7, 10, 167, 0, 4, 9, 80, 167, 0, 7, 58, 4, 4, 172]
abbrev dktX0_precedes_0 : List UInt8 := dkwX0_precedes_0 ++ dktX0_precedes_1
theorem dksX0_precedes_0 : cX0_precedes.data.toList.drop 0 = dktX0_precedes_0 := by decide +kernel
theorem dksX0_precedes_1 : cX0_precedes.data.toList.drop 24 = dktX0_precedes_1 := dk_seg dksX0_precedes_0 24 rfl rfl
theorem dX0_precedes_0 : decode cX0_precedes 0 = .ok (.aload_n 3, 1) := dk_45 (dk_at dksX0_precedes_0 0 rfl rfl)
theorem dX0_precedes_1 : decode cX0_precedes 1 = .ok (.iconst 0, 1) := dk_3 (dk_at dksX0_precedes_0 1 rfl rfl)
theorem dX0_precedes_2 : decode cX0_precedes 2 = .ok (.aload_n 0, 1) := dk_42 (dk_at dksX0_precedes_0 2 rfl rfl)
theorem dX0_precedes_3 : decode cX0_precedes 3 = .ok (.iload_n 1, 1) := dk_27 (dk_at dksX0_precedes_0 3 rfl rfl)
theorem dX0_precedes_4 : decode cX0_precedes 4 = .ok (.iload_n 2, 1) := dk_28 (dk_at dksX0_precedes_0 4 rfl rfl)
theorem dX0_precedes_5 : decode cX0_precedes 5 = .ok (.invokevirtual 34, 3) := dk_182 0 34 (dk_at dksX0_precedes_0 5 rfl rfl)
theorem dX0_precedes_8 : decode cX0_precedes 8 = .ok (.ifCond .eq 7, 3) := dk_153 0 7 (dk_at dksX0_precedes_0 8 rfl rfl)
theorem dX0_precedes_11 : decode cX0_precedes 11 = .ok (.lconst 1, 1) := dk_10 (dk_at dksX0_precedes_0 11 rfl rfl)
theorem dX0_precedes_12 : decode cX0_precedes 12 = .ok (.goto 4, 3) := dk_167 0 4 (dk_at dksX0_precedes_0 12 rfl rfl)
theorem dX0_precedes_15 : decode cX0_precedes 15 = .ok (.lconst 0, 1) := dk_9 (dk_at dksX0_precedes_0 15 rfl rfl)
theorem dX0_precedes_16 : decode cX0_precedes 16 = .ok (.lastore, 1) := dk_80 (dk_at dksX0_precedes_0 16 rfl rfl)
theorem dX0_precedes_17 : decode cX0_precedes 17 = .ok (.goto 7, 3) := dk_167 0 7 (dk_at dksX0_precedes_0 17 rfl rfl)
theorem dX0_precedes_20 : decode cX0_precedes 20 = .ok (.astore 4, 2) := dk_58 4 (dk_at dksX0_precedes_0 20 rfl rfl)
theorem dX0_precedes_22 : decode cX0_precedes 22 = .ok (.iconst 1, 1) := dk_4 (dk_at dksX0_precedes_0 22 rfl rfl)
theorem dX0_precedes_23 : decode cX0_precedes 23 = .ok (.ireturn, 1) := dk_172 (dk_at dksX0_precedes_0 23 rfl rfl)
theorem dX0_precedes_24 : decode cX0_precedes 24 = .ok (.iconst 0, 1) := dk_3 (dk_at dksX0_precedes_1 0 rfl rfl)
theorem dX0_precedes_25 : decode cX0_precedes 25 = .ok (.ireturn, 1) := dk_172 (dk_at dksX0_precedes_1 1 rfl rfl)
abbrev cX0_courtierByDignity : ByteArray := method_9_code
def yX0_courtierByDignity : MethodName := ⟨RX0, "courtierByDignity", "(LRoyalCourt;I[J)I"⟩
def dkwX0_courtierByDignity_0 : List UInt8 := [44, 3, 42, 27, 182, 0, 38, 133, 80, 167, 0, 6, 78, 4, 172, 3, 172]
abbrev dktX0_courtierByDignity_0 : List UInt8 := dkwX0_courtierByDignity_0 ++ []
theorem dksX0_courtierByDignity_0 : cX0_courtierByDignity.data.toList.drop 0 = dktX0_courtierByDignity_0 := by decide +kernel
theorem dX0_courtierByDignity_0 : decode cX0_courtierByDignity 0 = .ok (.aload_n 2, 1) := dk_44 (dk_at dksX0_courtierByDignity_0 0 rfl rfl)
theorem dX0_courtierByDignity_1 : decode cX0_courtierByDignity 1 = .ok (.iconst 0, 1) := dk_3 (dk_at dksX0_courtierByDignity_0 1 rfl rfl)
theorem dX0_courtierByDignity_2 : decode cX0_courtierByDignity 2 = .ok (.aload_n 0, 1) := dk_42 (dk_at dksX0_courtierByDignity_0 2 rfl rfl)
theorem dX0_courtierByDignity_3 : decode cX0_courtierByDignity 3 = .ok (.iload_n 1, 1) := dk_27 (dk_at dksX0_courtierByDignity_0 3 rfl rfl)
theorem dX0_courtierByDignity_4 : decode cX0_courtierByDignity 4 = .ok (.invokevirtual 38, 3) := dk_182 0 38 (dk_at dksX0_courtierByDignity_0 4 rfl rfl)
theorem dX0_courtierByDignity_7 : decode cX0_courtierByDignity 7 = .ok (.i2l, 1) := dk_133 (dk_at dksX0_courtierByDignity_0 7 rfl rfl)
theorem dX0_courtierByDignity_8 : decode cX0_courtierByDignity 8 = .ok (.lastore, 1) := dk_80 (dk_at dksX0_courtierByDignity_0 8 rfl rfl)
theorem dX0_courtierByDignity_9 : decode cX0_courtierByDignity 9 = .ok (.goto 6, 3) := dk_167 0 6 (dk_at dksX0_courtierByDignity_0 9 rfl rfl)
theorem dX0_courtierByDignity_12 : decode cX0_courtierByDignity 12 = .ok (.astore_n 3, 1) := dk_78 (dk_at dksX0_courtierByDignity_0 12 rfl rfl)
theorem dX0_courtierByDignity_13 : decode cX0_courtierByDignity 13 = .ok (.iconst 1, 1) := dk_4 (dk_at dksX0_courtierByDignity_0 13 rfl rfl)
theorem dX0_courtierByDignity_14 : decode cX0_courtierByDignity 14 = .ok (.ireturn, 1) := dk_172 (dk_at dksX0_courtierByDignity_0 14 rfl rfl)
theorem dX0_courtierByDignity_15 : decode cX0_courtierByDignity 15 = .ok (.iconst 0, 1) := dk_3 (dk_at dksX0_courtierByDignity_0 15 rfl rfl)
theorem dX0_courtierByDignity_16 : decode cX0_courtierByDignity 16 = .ok (.ireturn, 1) := dk_172 (dk_at dksX0_courtierByDignity_0 16 rfl rfl)
abbrev cX0_firstProcessionAt : ByteArray := method_10_code
def yX0_firstProcessionAt : MethodName := ⟨RX0, "firstProcessionAt", "(LRoyalCourt;I[J)I"⟩
def dkwX0_firstProcessionAt_0 : List UInt8 := [44, 3, 42, 27, 182, 0, 41, 133, 80, 167, 0, 6, 78, 4, 172, 3, 172]
abbrev dktX0_firstProcessionAt_0 : List UInt8 := dkwX0_firstProcessionAt_0 ++ []
theorem dksX0_firstProcessionAt_0 : cX0_firstProcessionAt.data.toList.drop 0 = dktX0_firstProcessionAt_0 := by decide +kernel
theorem dX0_firstProcessionAt_0 : decode cX0_firstProcessionAt 0 = .ok (.aload_n 2, 1) := dk_44 (dk_at dksX0_firstProcessionAt_0 0 rfl rfl)
theorem dX0_firstProcessionAt_1 : decode cX0_firstProcessionAt 1 = .ok (.iconst 0, 1) := dk_3 (dk_at dksX0_firstProcessionAt_0 1 rfl rfl)
theorem dX0_firstProcessionAt_2 : decode cX0_firstProcessionAt 2 = .ok (.aload_n 0, 1) := dk_42 (dk_at dksX0_firstProcessionAt_0 2 rfl rfl)
theorem dX0_firstProcessionAt_3 : decode cX0_firstProcessionAt 3 = .ok (.iload_n 1, 1) := dk_27 (dk_at dksX0_firstProcessionAt_0 3 rfl rfl)
theorem dX0_firstProcessionAt_4 : decode cX0_firstProcessionAt 4 = .ok (.invokevirtual 41, 3) := dk_182 0 41 (dk_at dksX0_firstProcessionAt_0 4 rfl rfl)
theorem dX0_firstProcessionAt_7 : decode cX0_firstProcessionAt 7 = .ok (.i2l, 1) := dk_133 (dk_at dksX0_firstProcessionAt_0 7 rfl rfl)
theorem dX0_firstProcessionAt_8 : decode cX0_firstProcessionAt 8 = .ok (.lastore, 1) := dk_80 (dk_at dksX0_firstProcessionAt_0 8 rfl rfl)
theorem dX0_firstProcessionAt_9 : decode cX0_firstProcessionAt 9 = .ok (.goto 6, 3) := dk_167 0 6 (dk_at dksX0_firstProcessionAt_0 9 rfl rfl)
theorem dX0_firstProcessionAt_12 : decode cX0_firstProcessionAt 12 = .ok (.astore_n 3, 1) := dk_78 (dk_at dksX0_firstProcessionAt_0 12 rfl rfl)
theorem dX0_firstProcessionAt_13 : decode cX0_firstProcessionAt 13 = .ok (.iconst 1, 1) := dk_4 (dk_at dksX0_firstProcessionAt_0 13 rfl rfl)
theorem dX0_firstProcessionAt_14 : decode cX0_firstProcessionAt 14 = .ok (.ireturn, 1) := dk_172 (dk_at dksX0_firstProcessionAt_0 14 rfl rfl)
theorem dX0_firstProcessionAt_15 : decode cX0_firstProcessionAt 15 = .ok (.iconst 0, 1) := dk_3 (dk_at dksX0_firstProcessionAt_0 15 rfl rfl)
theorem dX0_firstProcessionAt_16 : decode cX0_firstProcessionAt 16 = .ok (.ireturn, 1) := dk_172 (dk_at dksX0_firstProcessionAt_0 16 rfl rfl)
abbrev cX0_grandProcessionAt : ByteArray := method_11_code
def yX0_grandProcessionAt : MethodName := ⟨RX0, "grandProcessionAt", "(LRoyalCourt;I[J)I"⟩
def dkwX0_grandProcessionAt_0 : List UInt8 := [44, 3, 42, 27, 182, 0, 44, 133, 80, 167, 0, 6, 78, 4, 172, 3, 172]
abbrev dktX0_grandProcessionAt_0 : List UInt8 := dkwX0_grandProcessionAt_0 ++ []
theorem dksX0_grandProcessionAt_0 : cX0_grandProcessionAt.data.toList.drop 0 = dktX0_grandProcessionAt_0 := by decide +kernel
theorem dX0_grandProcessionAt_0 : decode cX0_grandProcessionAt 0 = .ok (.aload_n 2, 1) := dk_44 (dk_at dksX0_grandProcessionAt_0 0 rfl rfl)
theorem dX0_grandProcessionAt_1 : decode cX0_grandProcessionAt 1 = .ok (.iconst 0, 1) := dk_3 (dk_at dksX0_grandProcessionAt_0 1 rfl rfl)
theorem dX0_grandProcessionAt_2 : decode cX0_grandProcessionAt 2 = .ok (.aload_n 0, 1) := dk_42 (dk_at dksX0_grandProcessionAt_0 2 rfl rfl)
theorem dX0_grandProcessionAt_3 : decode cX0_grandProcessionAt 3 = .ok (.iload_n 1, 1) := dk_27 (dk_at dksX0_grandProcessionAt_0 3 rfl rfl)
theorem dX0_grandProcessionAt_4 : decode cX0_grandProcessionAt 4 = .ok (.invokevirtual 44, 3) := dk_182 0 44 (dk_at dksX0_grandProcessionAt_0 4 rfl rfl)
theorem dX0_grandProcessionAt_7 : decode cX0_grandProcessionAt 7 = .ok (.i2l, 1) := dk_133 (dk_at dksX0_grandProcessionAt_0 7 rfl rfl)
theorem dX0_grandProcessionAt_8 : decode cX0_grandProcessionAt 8 = .ok (.lastore, 1) := dk_80 (dk_at dksX0_grandProcessionAt_0 8 rfl rfl)
theorem dX0_grandProcessionAt_9 : decode cX0_grandProcessionAt 9 = .ok (.goto 6, 3) := dk_167 0 6 (dk_at dksX0_grandProcessionAt_0 9 rfl rfl)
theorem dX0_grandProcessionAt_12 : decode cX0_grandProcessionAt 12 = .ok (.astore_n 3, 1) := dk_78 (dk_at dksX0_grandProcessionAt_0 12 rfl rfl)
theorem dX0_grandProcessionAt_13 : decode cX0_grandProcessionAt 13 = .ok (.iconst 1, 1) := dk_4 (dk_at dksX0_grandProcessionAt_0 13 rfl rfl)
theorem dX0_grandProcessionAt_14 : decode cX0_grandProcessionAt 14 = .ok (.ireturn, 1) := dk_172 (dk_at dksX0_grandProcessionAt_0 14 rfl rfl)
theorem dX0_grandProcessionAt_15 : decode cX0_grandProcessionAt 15 = .ok (.iconst 0, 1) := dk_3 (dk_at dksX0_grandProcessionAt_0 15 rfl rfl)
theorem dX0_grandProcessionAt_16 : decode cX0_grandProcessionAt 16 = .ok (.ireturn, 1) := dk_172 (dk_at dksX0_grandProcessionAt_0 16 rfl rfl)
abbrev cX0_lowestPlaceOf : ByteArray := method_12_code
def yX0_lowestPlaceOf : MethodName := ⟨RX0, "lowestPlaceOf", "(LRoyalCourt;I[J)I"⟩
def dkwX0_lowestPlaceOf_0 : List UInt8 := [44, 3, 42, 27, 182, 0, 47, 133, 80, 167, 0, 6, 78, 4, 172, 3, 172]
abbrev dktX0_lowestPlaceOf_0 : List UInt8 := dkwX0_lowestPlaceOf_0 ++ []
theorem dksX0_lowestPlaceOf_0 : cX0_lowestPlaceOf.data.toList.drop 0 = dktX0_lowestPlaceOf_0 := by decide +kernel
theorem dX0_lowestPlaceOf_0 : decode cX0_lowestPlaceOf 0 = .ok (.aload_n 2, 1) := dk_44 (dk_at dksX0_lowestPlaceOf_0 0 rfl rfl)
theorem dX0_lowestPlaceOf_1 : decode cX0_lowestPlaceOf 1 = .ok (.iconst 0, 1) := dk_3 (dk_at dksX0_lowestPlaceOf_0 1 rfl rfl)
theorem dX0_lowestPlaceOf_2 : decode cX0_lowestPlaceOf 2 = .ok (.aload_n 0, 1) := dk_42 (dk_at dksX0_lowestPlaceOf_0 2 rfl rfl)
theorem dX0_lowestPlaceOf_3 : decode cX0_lowestPlaceOf 3 = .ok (.iload_n 1, 1) := dk_27 (dk_at dksX0_lowestPlaceOf_0 3 rfl rfl)
theorem dX0_lowestPlaceOf_4 : decode cX0_lowestPlaceOf 4 = .ok (.invokevirtual 47, 3) := dk_182 0 47 (dk_at dksX0_lowestPlaceOf_0 4 rfl rfl)
theorem dX0_lowestPlaceOf_7 : decode cX0_lowestPlaceOf 7 = .ok (.i2l, 1) := dk_133 (dk_at dksX0_lowestPlaceOf_0 7 rfl rfl)
theorem dX0_lowestPlaceOf_8 : decode cX0_lowestPlaceOf 8 = .ok (.lastore, 1) := dk_80 (dk_at dksX0_lowestPlaceOf_0 8 rfl rfl)
theorem dX0_lowestPlaceOf_9 : decode cX0_lowestPlaceOf 9 = .ok (.goto 6, 3) := dk_167 0 6 (dk_at dksX0_lowestPlaceOf_0 9 rfl rfl)
theorem dX0_lowestPlaceOf_12 : decode cX0_lowestPlaceOf 12 = .ok (.astore_n 3, 1) := dk_78 (dk_at dksX0_lowestPlaceOf_0 12 rfl rfl)
theorem dX0_lowestPlaceOf_13 : decode cX0_lowestPlaceOf 13 = .ok (.iconst 1, 1) := dk_4 (dk_at dksX0_lowestPlaceOf_0 13 rfl rfl)
theorem dX0_lowestPlaceOf_14 : decode cX0_lowestPlaceOf 14 = .ok (.ireturn, 1) := dk_172 (dk_at dksX0_lowestPlaceOf_0 14 rfl rfl)
theorem dX0_lowestPlaceOf_15 : decode cX0_lowestPlaceOf 15 = .ok (.iconst 0, 1) := dk_3 (dk_at dksX0_lowestPlaceOf_0 15 rfl rfl)
theorem dX0_lowestPlaceOf_16 : decode cX0_lowestPlaceOf 16 = .ok (.ireturn, 1) := dk_172 (dk_at dksX0_lowestPlaceOf_0 16 rfl rfl)
abbrev cX0_type : ByteArray := method_13_code
def yX0_type : MethodName := ⟨RX0, "type", "(LRoyalCourt;C[J)I"⟩
def dkwX0_type_0 : List UInt8 := [44, 3, 42, 27, 182, 0, 50, 133, 80, 167, 0, 9, 78, 4, 172, 78, 5, 172, 3, 172]
abbrev dktX0_type_0 : List UInt8 := dkwX0_type_0 ++ []
theorem dksX0_type_0 : cX0_type.data.toList.drop 0 = dktX0_type_0 := by decide +kernel
theorem dX0_type_0 : decode cX0_type 0 = .ok (.aload_n 2, 1) := dk_44 (dk_at dksX0_type_0 0 rfl rfl)
theorem dX0_type_1 : decode cX0_type 1 = .ok (.iconst 0, 1) := dk_3 (dk_at dksX0_type_0 1 rfl rfl)
theorem dX0_type_2 : decode cX0_type 2 = .ok (.aload_n 0, 1) := dk_42 (dk_at dksX0_type_0 2 rfl rfl)
theorem dX0_type_3 : decode cX0_type 3 = .ok (.iload_n 1, 1) := dk_27 (dk_at dksX0_type_0 3 rfl rfl)
theorem dX0_type_4 : decode cX0_type 4 = .ok (.invokevirtual 50, 3) := dk_182 0 50 (dk_at dksX0_type_0 4 rfl rfl)
theorem dX0_type_7 : decode cX0_type 7 = .ok (.i2l, 1) := dk_133 (dk_at dksX0_type_0 7 rfl rfl)
theorem dX0_type_8 : decode cX0_type 8 = .ok (.lastore, 1) := dk_80 (dk_at dksX0_type_0 8 rfl rfl)
theorem dX0_type_9 : decode cX0_type 9 = .ok (.goto 9, 3) := dk_167 0 9 (dk_at dksX0_type_0 9 rfl rfl)
theorem dX0_type_12 : decode cX0_type 12 = .ok (.astore_n 3, 1) := dk_78 (dk_at dksX0_type_0 12 rfl rfl)
theorem dX0_type_13 : decode cX0_type 13 = .ok (.iconst 1, 1) := dk_4 (dk_at dksX0_type_0 13 rfl rfl)
theorem dX0_type_14 : decode cX0_type 14 = .ok (.ireturn, 1) := dk_172 (dk_at dksX0_type_0 14 rfl rfl)
theorem dX0_type_15 : decode cX0_type 15 = .ok (.astore_n 3, 1) := dk_78 (dk_at dksX0_type_0 15 rfl rfl)
theorem dX0_type_16 : decode cX0_type 16 = .ok (.iconst 2, 1) := dk_5 (dk_at dksX0_type_0 16 rfl rfl)
theorem dX0_type_17 : decode cX0_type 17 = .ok (.ireturn, 1) := dk_172 (dk_at dksX0_type_0 17 rfl rfl)
theorem dX0_type_18 : decode cX0_type 18 = .ok (.iconst 0, 1) := dk_3 (dk_at dksX0_type_0 18 rfl rfl)
theorem dX0_type_19 : decode cX0_type 19 = .ok (.ireturn, 1) := dk_172 (dk_at dksX0_type_0 19 rfl rfl)
abbrev cX0_removals : ByteArray := method_14_code
def yX0_removals : MethodName := ⟨RX0, "removals", "(LRoyalCourt;[J)I"⟩
def dkwX0_removals_0 : List UInt8 := [43, 3, 42, 182, 0, 54, 133, 80, 167, 0, 6, 77, 4, 172, 3, 172]
abbrev dktX0_removals_0 : List UInt8 := dkwX0_removals_0 ++ []
theorem dksX0_removals_0 : cX0_removals.data.toList.drop 0 = dktX0_removals_0 := by decide +kernel
theorem dX0_removals_0 : decode cX0_removals 0 = .ok (.aload_n 1, 1) := dk_43 (dk_at dksX0_removals_0 0 rfl rfl)
theorem dX0_removals_1 : decode cX0_removals 1 = .ok (.iconst 0, 1) := dk_3 (dk_at dksX0_removals_0 1 rfl rfl)
theorem dX0_removals_2 : decode cX0_removals 2 = .ok (.aload_n 0, 1) := dk_42 (dk_at dksX0_removals_0 2 rfl rfl)
theorem dX0_removals_3 : decode cX0_removals 3 = .ok (.invokevirtual 54, 3) := dk_182 0 54 (dk_at dksX0_removals_0 3 rfl rfl)
theorem dX0_removals_6 : decode cX0_removals 6 = .ok (.i2l, 1) := dk_133 (dk_at dksX0_removals_0 6 rfl rfl)
theorem dX0_removals_7 : decode cX0_removals 7 = .ok (.lastore, 1) := dk_80 (dk_at dksX0_removals_0 7 rfl rfl)
theorem dX0_removals_8 : decode cX0_removals 8 = .ok (.goto 6, 3) := dk_167 0 6 (dk_at dksX0_removals_0 8 rfl rfl)
theorem dX0_removals_11 : decode cX0_removals 11 = .ok (.astore_n 2, 1) := dk_77 (dk_at dksX0_removals_0 11 rfl rfl)
theorem dX0_removals_12 : decode cX0_removals 12 = .ok (.iconst 1, 1) := dk_4 (dk_at dksX0_removals_0 12 rfl rfl)
theorem dX0_removals_13 : decode cX0_removals 13 = .ok (.ireturn, 1) := dk_172 (dk_at dksX0_removals_0 13 rfl rfl)
theorem dX0_removals_14 : decode cX0_removals 14 = .ok (.iconst 0, 1) := dk_3 (dk_at dksX0_removals_0 14 rfl rfl)
theorem dX0_removals_15 : decode cX0_removals 15 = .ok (.ireturn, 1) := dk_172 (dk_at dksX0_removals_0 15 rfl rfl)
abbrev cX0_removalsByParts : ByteArray := method_15_code
def yX0_removalsByParts : MethodName := ⟨RX0, "removalsByParts", "(LRoyalCourt;[J)I"⟩
def dkwX0_removalsByParts_0 : List UInt8 := [43, 3, 42, 182, 0, 58, 133, 80, 167, 0, 6, 77, 4, 172, 3, 172]
abbrev dktX0_removalsByParts_0 : List UInt8 := dkwX0_removalsByParts_0 ++ []
theorem dksX0_removalsByParts_0 : cX0_removalsByParts.data.toList.drop 0 = dktX0_removalsByParts_0 := by decide +kernel
theorem dX0_removalsByParts_0 : decode cX0_removalsByParts 0 = .ok (.aload_n 1, 1) := dk_43 (dk_at dksX0_removalsByParts_0 0 rfl rfl)
theorem dX0_removalsByParts_1 : decode cX0_removalsByParts 1 = .ok (.iconst 0, 1) := dk_3 (dk_at dksX0_removalsByParts_0 1 rfl rfl)
theorem dX0_removalsByParts_2 : decode cX0_removalsByParts 2 = .ok (.aload_n 0, 1) := dk_42 (dk_at dksX0_removalsByParts_0 2 rfl rfl)
theorem dX0_removalsByParts_3 : decode cX0_removalsByParts 3 = .ok (.invokevirtual 58, 3) := dk_182 0 58 (dk_at dksX0_removalsByParts_0 3 rfl rfl)
theorem dX0_removalsByParts_6 : decode cX0_removalsByParts 6 = .ok (.i2l, 1) := dk_133 (dk_at dksX0_removalsByParts_0 6 rfl rfl)
theorem dX0_removalsByParts_7 : decode cX0_removalsByParts 7 = .ok (.lastore, 1) := dk_80 (dk_at dksX0_removalsByParts_0 7 rfl rfl)
theorem dX0_removalsByParts_8 : decode cX0_removalsByParts 8 = .ok (.goto 6, 3) := dk_167 0 6 (dk_at dksX0_removalsByParts_0 8 rfl rfl)
theorem dX0_removalsByParts_11 : decode cX0_removalsByParts 11 = .ok (.astore_n 2, 1) := dk_77 (dk_at dksX0_removalsByParts_0 11 rfl rfl)
theorem dX0_removalsByParts_12 : decode cX0_removalsByParts 12 = .ok (.iconst 1, 1) := dk_4 (dk_at dksX0_removalsByParts_0 12 rfl rfl)
theorem dX0_removalsByParts_13 : decode cX0_removalsByParts 13 = .ok (.ireturn, 1) := dk_172 (dk_at dksX0_removalsByParts_0 13 rfl rfl)
theorem dX0_removalsByParts_14 : decode cX0_removalsByParts 14 = .ok (.iconst 0, 1) := dk_3 (dk_at dksX0_removalsByParts_0 14 rfl rfl)
theorem dX0_removalsByParts_15 : decode cX0_removalsByParts 15 = .ok (.ireturn, 1) := dk_172 (dk_at dksX0_removalsByParts_0 15 rfl rfl)
abbrev cX0_textError : ByteArray := method_16_code
def yX0_textError : MethodName := ⟨RX0, "textError", "(LRoyalCourt;[J)I"⟩
def dkwX0_textError_0 : List UInt8 := [43, 3, 42, 182, 0, 61, 133, 80, 167, 0, 6, 77, 4, 172, 3, 172]
abbrev dktX0_textError_0 : List UInt8 := dkwX0_textError_0 ++ []
theorem dksX0_textError_0 : cX0_textError.data.toList.drop 0 = dktX0_textError_0 := by decide +kernel
theorem dX0_textError_0 : decode cX0_textError 0 = .ok (.aload_n 1, 1) := dk_43 (dk_at dksX0_textError_0 0 rfl rfl)
theorem dX0_textError_1 : decode cX0_textError 1 = .ok (.iconst 0, 1) := dk_3 (dk_at dksX0_textError_0 1 rfl rfl)
theorem dX0_textError_2 : decode cX0_textError 2 = .ok (.aload_n 0, 1) := dk_42 (dk_at dksX0_textError_0 2 rfl rfl)
theorem dX0_textError_3 : decode cX0_textError 3 = .ok (.invokevirtual 61, 3) := dk_182 0 61 (dk_at dksX0_textError_0 3 rfl rfl)
theorem dX0_textError_6 : decode cX0_textError 6 = .ok (.i2l, 1) := dk_133 (dk_at dksX0_textError_0 6 rfl rfl)
theorem dX0_textError_7 : decode cX0_textError 7 = .ok (.lastore, 1) := dk_80 (dk_at dksX0_textError_0 7 rfl rfl)
theorem dX0_textError_8 : decode cX0_textError 8 = .ok (.goto 6, 3) := dk_167 0 6 (dk_at dksX0_textError_0 8 rfl rfl)
theorem dX0_textError_11 : decode cX0_textError 11 = .ok (.astore_n 2, 1) := dk_77 (dk_at dksX0_textError_0 11 rfl rfl)
theorem dX0_textError_12 : decode cX0_textError 12 = .ok (.iconst 1, 1) := dk_4 (dk_at dksX0_textError_0 12 rfl rfl)
theorem dX0_textError_13 : decode cX0_textError 13 = .ok (.ireturn, 1) := dk_172 (dk_at dksX0_textError_0 13 rfl rfl)
theorem dX0_textError_14 : decode cX0_textError 14 = .ok (.iconst 0, 1) := dk_3 (dk_at dksX0_textError_0 14 rfl rfl)
theorem dX0_textError_15 : decode cX0_textError 15 = .ok (.ireturn, 1) := dk_172 (dk_at dksX0_textError_0 15 rfl rfl)
abbrev cX0_submit : ByteArray := method_17_code
def yX0_submit : MethodName := ⟨RX0, "submit", "(LRoyalCourt;I[J)I"⟩
def dkwX0_submit_0 : List UInt8 := [44, 3, 42, 27, 182, 0, 64, 133, 80, 167, 0, 12, 78, 4, 172, 78, 5, 172, 78, 6, 172, 3, 172]
abbrev dktX0_submit_0 : List UInt8 := dkwX0_submit_0 ++ []
theorem dksX0_submit_0 : cX0_submit.data.toList.drop 0 = dktX0_submit_0 := by decide +kernel
theorem dX0_submit_0 : decode cX0_submit 0 = .ok (.aload_n 2, 1) := dk_44 (dk_at dksX0_submit_0 0 rfl rfl)
theorem dX0_submit_1 : decode cX0_submit 1 = .ok (.iconst 0, 1) := dk_3 (dk_at dksX0_submit_0 1 rfl rfl)
theorem dX0_submit_2 : decode cX0_submit 2 = .ok (.aload_n 0, 1) := dk_42 (dk_at dksX0_submit_0 2 rfl rfl)
theorem dX0_submit_3 : decode cX0_submit 3 = .ok (.iload_n 1, 1) := dk_27 (dk_at dksX0_submit_0 3 rfl rfl)
theorem dX0_submit_4 : decode cX0_submit 4 = .ok (.invokevirtual 64, 3) := dk_182 0 64 (dk_at dksX0_submit_0 4 rfl rfl)
theorem dX0_submit_7 : decode cX0_submit 7 = .ok (.i2l, 1) := dk_133 (dk_at dksX0_submit_0 7 rfl rfl)
theorem dX0_submit_8 : decode cX0_submit 8 = .ok (.lastore, 1) := dk_80 (dk_at dksX0_submit_0 8 rfl rfl)
theorem dX0_submit_9 : decode cX0_submit 9 = .ok (.goto 12, 3) := dk_167 0 12 (dk_at dksX0_submit_0 9 rfl rfl)
theorem dX0_submit_12 : decode cX0_submit 12 = .ok (.astore_n 3, 1) := dk_78 (dk_at dksX0_submit_0 12 rfl rfl)
theorem dX0_submit_13 : decode cX0_submit 13 = .ok (.iconst 1, 1) := dk_4 (dk_at dksX0_submit_0 13 rfl rfl)
theorem dX0_submit_14 : decode cX0_submit 14 = .ok (.ireturn, 1) := dk_172 (dk_at dksX0_submit_0 14 rfl rfl)
theorem dX0_submit_15 : decode cX0_submit 15 = .ok (.astore_n 3, 1) := dk_78 (dk_at dksX0_submit_0 15 rfl rfl)
theorem dX0_submit_16 : decode cX0_submit 16 = .ok (.iconst 2, 1) := dk_5 (dk_at dksX0_submit_0 16 rfl rfl)
theorem dX0_submit_17 : decode cX0_submit 17 = .ok (.ireturn, 1) := dk_172 (dk_at dksX0_submit_0 17 rfl rfl)
theorem dX0_submit_18 : decode cX0_submit 18 = .ok (.astore_n 3, 1) := dk_78 (dk_at dksX0_submit_0 18 rfl rfl)
theorem dX0_submit_19 : decode cX0_submit 19 = .ok (.iconst 3, 1) := dk_6 (dk_at dksX0_submit_0 19 rfl rfl)
theorem dX0_submit_20 : decode cX0_submit 20 = .ok (.ireturn, 1) := dk_172 (dk_at dksX0_submit_0 20 rfl rfl)
theorem dX0_submit_21 : decode cX0_submit 21 = .ok (.iconst 0, 1) := dk_3 (dk_at dksX0_submit_0 21 rfl rfl)
theorem dX0_submit_22 : decode cX0_submit 22 = .ok (.ireturn, 1) := dk_172 (dk_at dksX0_submit_0 22 rfl rfl)
abbrev cX0_grant : ByteArray := method_18_code
def yX0_grant : MethodName := ⟨RX0, "grant", "(LRoyalCourt;I[J)I"⟩
def dkwX0_grant_0 : List UInt8 := [44, 3, 42, 27, 182, 0, 67, 133, 80, 167, 0, 9, 78, 4, 172, 78, 5, 172, 3, 172]
abbrev dktX0_grant_0 : List UInt8 := dkwX0_grant_0 ++ []
theorem dksX0_grant_0 : cX0_grant.data.toList.drop 0 = dktX0_grant_0 := by decide +kernel
theorem dX0_grant_0 : decode cX0_grant 0 = .ok (.aload_n 2, 1) := dk_44 (dk_at dksX0_grant_0 0 rfl rfl)
theorem dX0_grant_1 : decode cX0_grant 1 = .ok (.iconst 0, 1) := dk_3 (dk_at dksX0_grant_0 1 rfl rfl)
theorem dX0_grant_2 : decode cX0_grant 2 = .ok (.aload_n 0, 1) := dk_42 (dk_at dksX0_grant_0 2 rfl rfl)
theorem dX0_grant_3 : decode cX0_grant 3 = .ok (.iload_n 1, 1) := dk_27 (dk_at dksX0_grant_0 3 rfl rfl)
theorem dX0_grant_4 : decode cX0_grant 4 = .ok (.invokevirtual 67, 3) := dk_182 0 67 (dk_at dksX0_grant_0 4 rfl rfl)
theorem dX0_grant_7 : decode cX0_grant 7 = .ok (.i2l, 1) := dk_133 (dk_at dksX0_grant_0 7 rfl rfl)
theorem dX0_grant_8 : decode cX0_grant 8 = .ok (.lastore, 1) := dk_80 (dk_at dksX0_grant_0 8 rfl rfl)
theorem dX0_grant_9 : decode cX0_grant 9 = .ok (.goto 9, 3) := dk_167 0 9 (dk_at dksX0_grant_0 9 rfl rfl)
theorem dX0_grant_12 : decode cX0_grant 12 = .ok (.astore_n 3, 1) := dk_78 (dk_at dksX0_grant_0 12 rfl rfl)
theorem dX0_grant_13 : decode cX0_grant 13 = .ok (.iconst 1, 1) := dk_4 (dk_at dksX0_grant_0 13 rfl rfl)
theorem dX0_grant_14 : decode cX0_grant 14 = .ok (.ireturn, 1) := dk_172 (dk_at dksX0_grant_0 14 rfl rfl)
theorem dX0_grant_15 : decode cX0_grant 15 = .ok (.astore_n 3, 1) := dk_78 (dk_at dksX0_grant_0 15 rfl rfl)
theorem dX0_grant_16 : decode cX0_grant 16 = .ok (.iconst 2, 1) := dk_5 (dk_at dksX0_grant_0 16 rfl rfl)
theorem dX0_grant_17 : decode cX0_grant 17 = .ok (.ireturn, 1) := dk_172 (dk_at dksX0_grant_0 17 rfl rfl)
theorem dX0_grant_18 : decode cX0_grant 18 = .ok (.iconst 0, 1) := dk_3 (dk_at dksX0_grant_0 18 rfl rfl)
theorem dX0_grant_19 : decode cX0_grant 19 = .ok (.ireturn, 1) := dk_172 (dk_at dksX0_grant_0 19 rfl rfl)
abbrev cX0_withdraw : ByteArray := method_19_code
def yX0_withdraw : MethodName := ⟨RX0, "withdraw", "(LRoyalCourt;I[J)I"⟩
def dkwX0_withdraw_0 : List UInt8 := [44, 3, 42, 27, 182, 0, 72, 133, 80, 167, 0, 6, 78, 4, 172, 3, 172]
abbrev dktX0_withdraw_0 : List UInt8 := dkwX0_withdraw_0 ++ []
theorem dksX0_withdraw_0 : cX0_withdraw.data.toList.drop 0 = dktX0_withdraw_0 := by decide +kernel
theorem dX0_withdraw_0 : decode cX0_withdraw 0 = .ok (.aload_n 2, 1) := dk_44 (dk_at dksX0_withdraw_0 0 rfl rfl)
theorem dX0_withdraw_1 : decode cX0_withdraw 1 = .ok (.iconst 0, 1) := dk_3 (dk_at dksX0_withdraw_0 1 rfl rfl)
theorem dX0_withdraw_2 : decode cX0_withdraw 2 = .ok (.aload_n 0, 1) := dk_42 (dk_at dksX0_withdraw_0 2 rfl rfl)
theorem dX0_withdraw_3 : decode cX0_withdraw 3 = .ok (.iload_n 1, 1) := dk_27 (dk_at dksX0_withdraw_0 3 rfl rfl)
theorem dX0_withdraw_4 : decode cX0_withdraw 4 = .ok (.invokevirtual 72, 3) := dk_182 0 72 (dk_at dksX0_withdraw_0 4 rfl rfl)
theorem dX0_withdraw_7 : decode cX0_withdraw 7 = .ok (.i2l, 1) := dk_133 (dk_at dksX0_withdraw_0 7 rfl rfl)
theorem dX0_withdraw_8 : decode cX0_withdraw 8 = .ok (.lastore, 1) := dk_80 (dk_at dksX0_withdraw_0 8 rfl rfl)
theorem dX0_withdraw_9 : decode cX0_withdraw 9 = .ok (.goto 6, 3) := dk_167 0 6 (dk_at dksX0_withdraw_0 9 rfl rfl)
theorem dX0_withdraw_12 : decode cX0_withdraw 12 = .ok (.astore_n 3, 1) := dk_78 (dk_at dksX0_withdraw_0 12 rfl rfl)
theorem dX0_withdraw_13 : decode cX0_withdraw 13 = .ok (.iconst 1, 1) := dk_4 (dk_at dksX0_withdraw_0 13 rfl rfl)
theorem dX0_withdraw_14 : decode cX0_withdraw 14 = .ok (.ireturn, 1) := dk_172 (dk_at dksX0_withdraw_0 14 rfl rfl)
theorem dX0_withdraw_15 : decode cX0_withdraw 15 = .ok (.iconst 0, 1) := dk_3 (dk_at dksX0_withdraw_0 15 rfl rfl)
theorem dX0_withdraw_16 : decode cX0_withdraw 16 = .ok (.ireturn, 1) := dk_172 (dk_at dksX0_withdraw_0 16 rfl rfl)
abbrev cX0_errorPosition : ByteArray := method_20_code
def yX0_errorPosition : MethodName := ⟨RX0, "errorPosition", "(LRoyalCourt;[J)I"⟩
def dkwX0_errorPosition_0 : List UInt8 := [43, 3, 42, 182, 0, 75, 133, 80, 167, 0, 6, 77, 4, 172, 3, 172]
abbrev dktX0_errorPosition_0 : List UInt8 := dkwX0_errorPosition_0 ++ []
theorem dksX0_errorPosition_0 : cX0_errorPosition.data.toList.drop 0 = dktX0_errorPosition_0 := by decide +kernel
theorem dX0_errorPosition_0 : decode cX0_errorPosition 0 = .ok (.aload_n 1, 1) := dk_43 (dk_at dksX0_errorPosition_0 0 rfl rfl)
theorem dX0_errorPosition_1 : decode cX0_errorPosition 1 = .ok (.iconst 0, 1) := dk_3 (dk_at dksX0_errorPosition_0 1 rfl rfl)
theorem dX0_errorPosition_2 : decode cX0_errorPosition 2 = .ok (.aload_n 0, 1) := dk_42 (dk_at dksX0_errorPosition_0 2 rfl rfl)
theorem dX0_errorPosition_3 : decode cX0_errorPosition 3 = .ok (.invokevirtual 75, 3) := dk_182 0 75 (dk_at dksX0_errorPosition_0 3 rfl rfl)
theorem dX0_errorPosition_6 : decode cX0_errorPosition 6 = .ok (.i2l, 1) := dk_133 (dk_at dksX0_errorPosition_0 6 rfl rfl)
theorem dX0_errorPosition_7 : decode cX0_errorPosition 7 = .ok (.lastore, 1) := dk_80 (dk_at dksX0_errorPosition_0 7 rfl rfl)
theorem dX0_errorPosition_8 : decode cX0_errorPosition 8 = .ok (.goto 6, 3) := dk_167 0 6 (dk_at dksX0_errorPosition_0 8 rfl rfl)
theorem dX0_errorPosition_11 : decode cX0_errorPosition 11 = .ok (.astore_n 2, 1) := dk_77 (dk_at dksX0_errorPosition_0 11 rfl rfl)
theorem dX0_errorPosition_12 : decode cX0_errorPosition 12 = .ok (.iconst 1, 1) := dk_4 (dk_at dksX0_errorPosition_0 12 rfl rfl)
theorem dX0_errorPosition_13 : decode cX0_errorPosition 13 = .ok (.ireturn, 1) := dk_172 (dk_at dksX0_errorPosition_0 13 rfl rfl)
theorem dX0_errorPosition_14 : decode cX0_errorPosition 14 = .ok (.iconst 0, 1) := dk_3 (dk_at dksX0_errorPosition_0 14 rfl rfl)
theorem dX0_errorPosition_15 : decode cX0_errorPosition 15 = .ok (.ireturn, 1) := dk_172 (dk_at dksX0_errorPosition_0 15 rfl rfl)
abbrev cX0_courtierOf : ByteArray := method_21_code
def yX0_courtierOf : MethodName := ⟨RX0, "courtierOf", "(LRoyalCourt;I[J)I"⟩
def dkwX0_courtierOf_0 : List UInt8 := [44, 3, 42, 27, 182, 0, 78, 133, 80, 167, 0, 6, 78, 4, 172, 3, 172]
abbrev dktX0_courtierOf_0 : List UInt8 := dkwX0_courtierOf_0 ++ []
theorem dksX0_courtierOf_0 : cX0_courtierOf.data.toList.drop 0 = dktX0_courtierOf_0 := by decide +kernel
theorem dX0_courtierOf_0 : decode cX0_courtierOf 0 = .ok (.aload_n 2, 1) := dk_44 (dk_at dksX0_courtierOf_0 0 rfl rfl)
theorem dX0_courtierOf_1 : decode cX0_courtierOf 1 = .ok (.iconst 0, 1) := dk_3 (dk_at dksX0_courtierOf_0 1 rfl rfl)
theorem dX0_courtierOf_2 : decode cX0_courtierOf 2 = .ok (.aload_n 0, 1) := dk_42 (dk_at dksX0_courtierOf_0 2 rfl rfl)
theorem dX0_courtierOf_3 : decode cX0_courtierOf 3 = .ok (.iload_n 1, 1) := dk_27 (dk_at dksX0_courtierOf_0 3 rfl rfl)
theorem dX0_courtierOf_4 : decode cX0_courtierOf 4 = .ok (.invokevirtual 78, 3) := dk_182 0 78 (dk_at dksX0_courtierOf_0 4 rfl rfl)
theorem dX0_courtierOf_7 : decode cX0_courtierOf 7 = .ok (.i2l, 1) := dk_133 (dk_at dksX0_courtierOf_0 7 rfl rfl)
theorem dX0_courtierOf_8 : decode cX0_courtierOf 8 = .ok (.lastore, 1) := dk_80 (dk_at dksX0_courtierOf_0 8 rfl rfl)
theorem dX0_courtierOf_9 : decode cX0_courtierOf 9 = .ok (.goto 6, 3) := dk_167 0 6 (dk_at dksX0_courtierOf_0 9 rfl rfl)
theorem dX0_courtierOf_12 : decode cX0_courtierOf 12 = .ok (.astore_n 3, 1) := dk_78 (dk_at dksX0_courtierOf_0 12 rfl rfl)
theorem dX0_courtierOf_13 : decode cX0_courtierOf 13 = .ok (.iconst 1, 1) := dk_4 (dk_at dksX0_courtierOf_0 13 rfl rfl)
theorem dX0_courtierOf_14 : decode cX0_courtierOf 14 = .ok (.ireturn, 1) := dk_172 (dk_at dksX0_courtierOf_0 14 rfl rfl)
theorem dX0_courtierOf_15 : decode cX0_courtierOf 15 = .ok (.iconst 0, 1) := dk_3 (dk_at dksX0_courtierOf_0 15 rfl rfl)
theorem dX0_courtierOf_16 : decode cX0_courtierOf 16 = .ok (.ireturn, 1) := dk_172 (dk_at dksX0_courtierOf_0 16 rfl rfl)
abbrev cX0_valueOf : ByteArray := method_22_code
def yX0_valueOf : MethodName := ⟨RX0, "valueOf", "(LRoyalCourt;I[J)I"⟩
def dkwX0_valueOf_0 : List UInt8 := [44, 3, 42, 27, 182, 0, 81, 133, 80, 167, 0, 6, 78, 4, 172, 3, 172]
abbrev dktX0_valueOf_0 : List UInt8 := dkwX0_valueOf_0 ++ []
theorem dksX0_valueOf_0 : cX0_valueOf.data.toList.drop 0 = dktX0_valueOf_0 := by decide +kernel
theorem dX0_valueOf_0 : decode cX0_valueOf 0 = .ok (.aload_n 2, 1) := dk_44 (dk_at dksX0_valueOf_0 0 rfl rfl)
theorem dX0_valueOf_1 : decode cX0_valueOf 1 = .ok (.iconst 0, 1) := dk_3 (dk_at dksX0_valueOf_0 1 rfl rfl)
theorem dX0_valueOf_2 : decode cX0_valueOf 2 = .ok (.aload_n 0, 1) := dk_42 (dk_at dksX0_valueOf_0 2 rfl rfl)
theorem dX0_valueOf_3 : decode cX0_valueOf 3 = .ok (.iload_n 1, 1) := dk_27 (dk_at dksX0_valueOf_0 3 rfl rfl)
theorem dX0_valueOf_4 : decode cX0_valueOf 4 = .ok (.invokevirtual 81, 3) := dk_182 0 81 (dk_at dksX0_valueOf_0 4 rfl rfl)
theorem dX0_valueOf_7 : decode cX0_valueOf 7 = .ok (.i2l, 1) := dk_133 (dk_at dksX0_valueOf_0 7 rfl rfl)
theorem dX0_valueOf_8 : decode cX0_valueOf 8 = .ok (.lastore, 1) := dk_80 (dk_at dksX0_valueOf_0 8 rfl rfl)
theorem dX0_valueOf_9 : decode cX0_valueOf 9 = .ok (.goto 6, 3) := dk_167 0 6 (dk_at dksX0_valueOf_0 9 rfl rfl)
theorem dX0_valueOf_12 : decode cX0_valueOf 12 = .ok (.astore_n 3, 1) := dk_78 (dk_at dksX0_valueOf_0 12 rfl rfl)
theorem dX0_valueOf_13 : decode cX0_valueOf 13 = .ok (.iconst 1, 1) := dk_4 (dk_at dksX0_valueOf_0 13 rfl rfl)
theorem dX0_valueOf_14 : decode cX0_valueOf 14 = .ok (.ireturn, 1) := dk_172 (dk_at dksX0_valueOf_0 14 rfl rfl)
theorem dX0_valueOf_15 : decode cX0_valueOf 15 = .ok (.iconst 0, 1) := dk_3 (dk_at dksX0_valueOf_0 15 rfl rfl)
theorem dX0_valueOf_16 : decode cX0_valueOf 16 = .ok (.ireturn, 1) := dk_172 (dk_at dksX0_valueOf_0 16 rfl rfl)
abbrev cX0_lengthOf : ByteArray := method_23_code
def yX0_lengthOf : MethodName := ⟨RX0, "lengthOf", "(LRoyalCourt;I[J)I"⟩
def dkwX0_lengthOf_0 : List UInt8 := [44, 3, 42, 27, 182, 0, 84, 133, 80, 167, 0, 6, 78, 4, 172, 3, 172]
abbrev dktX0_lengthOf_0 : List UInt8 := dkwX0_lengthOf_0 ++ []
theorem dksX0_lengthOf_0 : cX0_lengthOf.data.toList.drop 0 = dktX0_lengthOf_0 := by decide +kernel
theorem dX0_lengthOf_0 : decode cX0_lengthOf 0 = .ok (.aload_n 2, 1) := dk_44 (dk_at dksX0_lengthOf_0 0 rfl rfl)
theorem dX0_lengthOf_1 : decode cX0_lengthOf 1 = .ok (.iconst 0, 1) := dk_3 (dk_at dksX0_lengthOf_0 1 rfl rfl)
theorem dX0_lengthOf_2 : decode cX0_lengthOf 2 = .ok (.aload_n 0, 1) := dk_42 (dk_at dksX0_lengthOf_0 2 rfl rfl)
theorem dX0_lengthOf_3 : decode cX0_lengthOf 3 = .ok (.iload_n 1, 1) := dk_27 (dk_at dksX0_lengthOf_0 3 rfl rfl)
theorem dX0_lengthOf_4 : decode cX0_lengthOf 4 = .ok (.invokevirtual 84, 3) := dk_182 0 84 (dk_at dksX0_lengthOf_0 4 rfl rfl)
theorem dX0_lengthOf_7 : decode cX0_lengthOf 7 = .ok (.i2l, 1) := dk_133 (dk_at dksX0_lengthOf_0 7 rfl rfl)
theorem dX0_lengthOf_8 : decode cX0_lengthOf 8 = .ok (.lastore, 1) := dk_80 (dk_at dksX0_lengthOf_0 8 rfl rfl)
theorem dX0_lengthOf_9 : decode cX0_lengthOf 9 = .ok (.goto 6, 3) := dk_167 0 6 (dk_at dksX0_lengthOf_0 9 rfl rfl)
theorem dX0_lengthOf_12 : decode cX0_lengthOf 12 = .ok (.astore_n 3, 1) := dk_78 (dk_at dksX0_lengthOf_0 12 rfl rfl)
theorem dX0_lengthOf_13 : decode cX0_lengthOf 13 = .ok (.iconst 1, 1) := dk_4 (dk_at dksX0_lengthOf_0 13 rfl rfl)
theorem dX0_lengthOf_14 : decode cX0_lengthOf 14 = .ok (.ireturn, 1) := dk_172 (dk_at dksX0_lengthOf_0 14 rfl rfl)
theorem dX0_lengthOf_15 : decode cX0_lengthOf 15 = .ok (.iconst 0, 1) := dk_3 (dk_at dksX0_lengthOf_0 15 rfl rfl)
theorem dX0_lengthOf_16 : decode cX0_lengthOf 16 = .ok (.ireturn, 1) := dk_172 (dk_at dksX0_lengthOf_0 16 rfl rfl)
abbrev cX0_symbolOf : ByteArray := method_24_code
def yX0_symbolOf : MethodName := ⟨RX0, "symbolOf", "(LRoyalCourt;II[J)I"⟩
def dkwX0_symbolOf_0 : List UInt8 := [45, 3, 42, 27, 28, 182, 0, 87, 133, 80, 167, 0, 7, 58, 4, 4, 172, 3, 172]
abbrev dktX0_symbolOf_0 : List UInt8 := dkwX0_symbolOf_0 ++ []
theorem dksX0_symbolOf_0 : cX0_symbolOf.data.toList.drop 0 = dktX0_symbolOf_0 := by decide +kernel
theorem dX0_symbolOf_0 : decode cX0_symbolOf 0 = .ok (.aload_n 3, 1) := dk_45 (dk_at dksX0_symbolOf_0 0 rfl rfl)
theorem dX0_symbolOf_1 : decode cX0_symbolOf 1 = .ok (.iconst 0, 1) := dk_3 (dk_at dksX0_symbolOf_0 1 rfl rfl)
theorem dX0_symbolOf_2 : decode cX0_symbolOf 2 = .ok (.aload_n 0, 1) := dk_42 (dk_at dksX0_symbolOf_0 2 rfl rfl)
theorem dX0_symbolOf_3 : decode cX0_symbolOf 3 = .ok (.iload_n 1, 1) := dk_27 (dk_at dksX0_symbolOf_0 3 rfl rfl)
theorem dX0_symbolOf_4 : decode cX0_symbolOf 4 = .ok (.iload_n 2, 1) := dk_28 (dk_at dksX0_symbolOf_0 4 rfl rfl)
theorem dX0_symbolOf_5 : decode cX0_symbolOf 5 = .ok (.invokevirtual 87, 3) := dk_182 0 87 (dk_at dksX0_symbolOf_0 5 rfl rfl)
theorem dX0_symbolOf_8 : decode cX0_symbolOf 8 = .ok (.i2l, 1) := dk_133 (dk_at dksX0_symbolOf_0 8 rfl rfl)
theorem dX0_symbolOf_9 : decode cX0_symbolOf 9 = .ok (.lastore, 1) := dk_80 (dk_at dksX0_symbolOf_0 9 rfl rfl)
theorem dX0_symbolOf_10 : decode cX0_symbolOf 10 = .ok (.goto 7, 3) := dk_167 0 7 (dk_at dksX0_symbolOf_0 10 rfl rfl)
theorem dX0_symbolOf_13 : decode cX0_symbolOf 13 = .ok (.astore 4, 2) := dk_58 4 (dk_at dksX0_symbolOf_0 13 rfl rfl)
theorem dX0_symbolOf_15 : decode cX0_symbolOf 15 = .ok (.iconst 1, 1) := dk_4 (dk_at dksX0_symbolOf_0 15 rfl rfl)
theorem dX0_symbolOf_16 : decode cX0_symbolOf 16 = .ok (.ireturn, 1) := dk_172 (dk_at dksX0_symbolOf_0 16 rfl rfl)
theorem dX0_symbolOf_17 : decode cX0_symbolOf 17 = .ok (.iconst 0, 1) := dk_3 (dk_at dksX0_symbolOf_0 17 rfl rfl)
theorem dX0_symbolOf_18 : decode cX0_symbolOf 18 = .ok (.ireturn, 1) := dk_172 (dk_at dksX0_symbolOf_0 18 rfl rfl)
abbrev cX0_depthOf : ByteArray := method_25_code
def yX0_depthOf : MethodName := ⟨RX0, "depthOf", "(LRoyalCourt;I[J)I"⟩
def dkwX0_depthOf_0 : List UInt8 := [44, 3, 42, 27, 182, 0, 91, 133, 80, 167, 0, 6, 78, 4, 172, 3, 172]
abbrev dktX0_depthOf_0 : List UInt8 := dkwX0_depthOf_0 ++ []
theorem dksX0_depthOf_0 : cX0_depthOf.data.toList.drop 0 = dktX0_depthOf_0 := by decide +kernel
theorem dX0_depthOf_0 : decode cX0_depthOf 0 = .ok (.aload_n 2, 1) := dk_44 (dk_at dksX0_depthOf_0 0 rfl rfl)
theorem dX0_depthOf_1 : decode cX0_depthOf 1 = .ok (.iconst 0, 1) := dk_3 (dk_at dksX0_depthOf_0 1 rfl rfl)
theorem dX0_depthOf_2 : decode cX0_depthOf 2 = .ok (.aload_n 0, 1) := dk_42 (dk_at dksX0_depthOf_0 2 rfl rfl)
theorem dX0_depthOf_3 : decode cX0_depthOf 3 = .ok (.iload_n 1, 1) := dk_27 (dk_at dksX0_depthOf_0 3 rfl rfl)
theorem dX0_depthOf_4 : decode cX0_depthOf 4 = .ok (.invokevirtual 91, 3) := dk_182 0 91 (dk_at dksX0_depthOf_0 4 rfl rfl)
theorem dX0_depthOf_7 : decode cX0_depthOf 7 = .ok (.i2l, 1) := dk_133 (dk_at dksX0_depthOf_0 7 rfl rfl)
theorem dX0_depthOf_8 : decode cX0_depthOf 8 = .ok (.lastore, 1) := dk_80 (dk_at dksX0_depthOf_0 8 rfl rfl)
theorem dX0_depthOf_9 : decode cX0_depthOf 9 = .ok (.goto 6, 3) := dk_167 0 6 (dk_at dksX0_depthOf_0 9 rfl rfl)
theorem dX0_depthOf_12 : decode cX0_depthOf 12 = .ok (.astore_n 3, 1) := dk_78 (dk_at dksX0_depthOf_0 12 rfl rfl)
theorem dX0_depthOf_13 : decode cX0_depthOf 13 = .ok (.iconst 1, 1) := dk_4 (dk_at dksX0_depthOf_0 13 rfl rfl)
theorem dX0_depthOf_14 : decode cX0_depthOf 14 = .ok (.ireturn, 1) := dk_172 (dk_at dksX0_depthOf_0 14 rfl rfl)
theorem dX0_depthOf_15 : decode cX0_depthOf 15 = .ok (.iconst 0, 1) := dk_3 (dk_at dksX0_depthOf_0 15 rfl rfl)
theorem dX0_depthOf_16 : decode cX0_depthOf 16 = .ok (.ireturn, 1) := dk_172 (dk_at dksX0_depthOf_0 16 rfl rfl)
abbrev cX0_countOf : ByteArray := method_26_code
def yX0_countOf : MethodName := ⟨RX0, "countOf", "(LRoyalCourt;IC[J)I"⟩
def dkwX0_countOf_0 : List UInt8 := [45, 3, 42, 27, 28, 182, 0, 94, 133, 80, 167, 0, 7, 58, 4, 4, 172, 3, 172]
abbrev dktX0_countOf_0 : List UInt8 := dkwX0_countOf_0 ++ []
theorem dksX0_countOf_0 : cX0_countOf.data.toList.drop 0 = dktX0_countOf_0 := by decide +kernel
theorem dX0_countOf_0 : decode cX0_countOf 0 = .ok (.aload_n 3, 1) := dk_45 (dk_at dksX0_countOf_0 0 rfl rfl)
theorem dX0_countOf_1 : decode cX0_countOf 1 = .ok (.iconst 0, 1) := dk_3 (dk_at dksX0_countOf_0 1 rfl rfl)
theorem dX0_countOf_2 : decode cX0_countOf 2 = .ok (.aload_n 0, 1) := dk_42 (dk_at dksX0_countOf_0 2 rfl rfl)
theorem dX0_countOf_3 : decode cX0_countOf 3 = .ok (.iload_n 1, 1) := dk_27 (dk_at dksX0_countOf_0 3 rfl rfl)
theorem dX0_countOf_4 : decode cX0_countOf 4 = .ok (.iload_n 2, 1) := dk_28 (dk_at dksX0_countOf_0 4 rfl rfl)
theorem dX0_countOf_5 : decode cX0_countOf 5 = .ok (.invokevirtual 94, 3) := dk_182 0 94 (dk_at dksX0_countOf_0 5 rfl rfl)
theorem dX0_countOf_8 : decode cX0_countOf 8 = .ok (.i2l, 1) := dk_133 (dk_at dksX0_countOf_0 8 rfl rfl)
theorem dX0_countOf_9 : decode cX0_countOf 9 = .ok (.lastore, 1) := dk_80 (dk_at dksX0_countOf_0 9 rfl rfl)
theorem dX0_countOf_10 : decode cX0_countOf 10 = .ok (.goto 7, 3) := dk_167 0 7 (dk_at dksX0_countOf_0 10 rfl rfl)
theorem dX0_countOf_13 : decode cX0_countOf 13 = .ok (.astore 4, 2) := dk_58 4 (dk_at dksX0_countOf_0 13 rfl rfl)
theorem dX0_countOf_15 : decode cX0_countOf 15 = .ok (.iconst 1, 1) := dk_4 (dk_at dksX0_countOf_0 15 rfl rfl)
theorem dX0_countOf_16 : decode cX0_countOf 16 = .ok (.ireturn, 1) := dk_172 (dk_at dksX0_countOf_0 16 rfl rfl)
theorem dX0_countOf_17 : decode cX0_countOf 17 = .ok (.iconst 0, 1) := dk_3 (dk_at dksX0_countOf_0 17 rfl rfl)
theorem dX0_countOf_18 : decode cX0_countOf 18 = .ok (.ireturn, 1) := dk_172 (dk_at dksX0_countOf_0 18 rfl rfl)
abbrev cX0_areAlike : ByteArray := method_27_code
def yX0_areAlike : MethodName := ⟨RX0, "areAlike", "(LRoyalCourt;II[J)I"⟩
def dkwX0_areAlike_1 : List UInt8 := [3, 172]
abbrev dktX0_areAlike_1 : List UInt8 := dkwX0_areAlike_1 ++ []
def dkwX0_areAlike_0 : List UInt8 := [45, 3, 42, 27, 28, 182, 0, 98, 153, 0, 7, 10, 167, 0, 4, 9, 80, 167, 0, 7, 58, 4, 4, 172]
abbrev dktX0_areAlike_0 : List UInt8 := dkwX0_areAlike_0 ++ dktX0_areAlike_1
theorem dksX0_areAlike_0 : cX0_areAlike.data.toList.drop 0 = dktX0_areAlike_0 := by decide +kernel
theorem dksX0_areAlike_1 : cX0_areAlike.data.toList.drop 24 = dktX0_areAlike_1 := dk_seg dksX0_areAlike_0 24 rfl rfl
theorem dX0_areAlike_0 : decode cX0_areAlike 0 = .ok (.aload_n 3, 1) := dk_45 (dk_at dksX0_areAlike_0 0 rfl rfl)
theorem dX0_areAlike_1 : decode cX0_areAlike 1 = .ok (.iconst 0, 1) := dk_3 (dk_at dksX0_areAlike_0 1 rfl rfl)
theorem dX0_areAlike_2 : decode cX0_areAlike 2 = .ok (.aload_n 0, 1) := dk_42 (dk_at dksX0_areAlike_0 2 rfl rfl)
theorem dX0_areAlike_3 : decode cX0_areAlike 3 = .ok (.iload_n 1, 1) := dk_27 (dk_at dksX0_areAlike_0 3 rfl rfl)
theorem dX0_areAlike_4 : decode cX0_areAlike 4 = .ok (.iload_n 2, 1) := dk_28 (dk_at dksX0_areAlike_0 4 rfl rfl)
theorem dX0_areAlike_5 : decode cX0_areAlike 5 = .ok (.invokevirtual 98, 3) := dk_182 0 98 (dk_at dksX0_areAlike_0 5 rfl rfl)
theorem dX0_areAlike_8 : decode cX0_areAlike 8 = .ok (.ifCond .eq 7, 3) := dk_153 0 7 (dk_at dksX0_areAlike_0 8 rfl rfl)
theorem dX0_areAlike_11 : decode cX0_areAlike 11 = .ok (.lconst 1, 1) := dk_10 (dk_at dksX0_areAlike_0 11 rfl rfl)
theorem dX0_areAlike_12 : decode cX0_areAlike 12 = .ok (.goto 4, 3) := dk_167 0 4 (dk_at dksX0_areAlike_0 12 rfl rfl)
theorem dX0_areAlike_15 : decode cX0_areAlike 15 = .ok (.lconst 0, 1) := dk_9 (dk_at dksX0_areAlike_0 15 rfl rfl)
theorem dX0_areAlike_16 : decode cX0_areAlike 16 = .ok (.lastore, 1) := dk_80 (dk_at dksX0_areAlike_0 16 rfl rfl)
theorem dX0_areAlike_17 : decode cX0_areAlike 17 = .ok (.goto 7, 3) := dk_167 0 7 (dk_at dksX0_areAlike_0 17 rfl rfl)
theorem dX0_areAlike_20 : decode cX0_areAlike 20 = .ok (.astore 4, 2) := dk_58 4 (dk_at dksX0_areAlike_0 20 rfl rfl)
theorem dX0_areAlike_22 : decode cX0_areAlike 22 = .ok (.iconst 1, 1) := dk_4 (dk_at dksX0_areAlike_0 22 rfl rfl)
theorem dX0_areAlike_23 : decode cX0_areAlike 23 = .ok (.ireturn, 1) := dk_172 (dk_at dksX0_areAlike_0 23 rfl rfl)
theorem dX0_areAlike_24 : decode cX0_areAlike 24 = .ok (.iconst 0, 1) := dk_3 (dk_at dksX0_areAlike_1 0 rfl rfl)
theorem dX0_areAlike_25 : decode cX0_areAlike 25 = .ok (.ireturn, 1) := dk_172 (dk_at dksX0_areAlike_1 1 rfl rfl)
abbrev cX0_requestByValue : ByteArray := method_28_code
def yX0_requestByValue : MethodName := ⟨RX0, "requestByValue", "(LRoyalCourt;I[J)I"⟩
def dkwX0_requestByValue_0 : List UInt8 := [44, 3, 42, 27, 182, 0, 101, 133, 80, 167, 0, 6, 78, 4, 172, 3, 172]
abbrev dktX0_requestByValue_0 : List UInt8 := dkwX0_requestByValue_0 ++ []
theorem dksX0_requestByValue_0 : cX0_requestByValue.data.toList.drop 0 = dktX0_requestByValue_0 := by decide +kernel
theorem dX0_requestByValue_0 : decode cX0_requestByValue 0 = .ok (.aload_n 2, 1) := dk_44 (dk_at dksX0_requestByValue_0 0 rfl rfl)
theorem dX0_requestByValue_1 : decode cX0_requestByValue 1 = .ok (.iconst 0, 1) := dk_3 (dk_at dksX0_requestByValue_0 1 rfl rfl)
theorem dX0_requestByValue_2 : decode cX0_requestByValue 2 = .ok (.aload_n 0, 1) := dk_42 (dk_at dksX0_requestByValue_0 2 rfl rfl)
theorem dX0_requestByValue_3 : decode cX0_requestByValue 3 = .ok (.iload_n 1, 1) := dk_27 (dk_at dksX0_requestByValue_0 3 rfl rfl)
theorem dX0_requestByValue_4 : decode cX0_requestByValue 4 = .ok (.invokevirtual 101, 3) := dk_182 0 101 (dk_at dksX0_requestByValue_0 4 rfl rfl)
theorem dX0_requestByValue_7 : decode cX0_requestByValue 7 = .ok (.i2l, 1) := dk_133 (dk_at dksX0_requestByValue_0 7 rfl rfl)
theorem dX0_requestByValue_8 : decode cX0_requestByValue 8 = .ok (.lastore, 1) := dk_80 (dk_at dksX0_requestByValue_0 8 rfl rfl)
theorem dX0_requestByValue_9 : decode cX0_requestByValue 9 = .ok (.goto 6, 3) := dk_167 0 6 (dk_at dksX0_requestByValue_0 9 rfl rfl)
theorem dX0_requestByValue_12 : decode cX0_requestByValue 12 = .ok (.astore_n 3, 1) := dk_78 (dk_at dksX0_requestByValue_0 12 rfl rfl)
theorem dX0_requestByValue_13 : decode cX0_requestByValue 13 = .ok (.iconst 1, 1) := dk_4 (dk_at dksX0_requestByValue_0 13 rfl rfl)
theorem dX0_requestByValue_14 : decode cX0_requestByValue 14 = .ok (.ireturn, 1) := dk_172 (dk_at dksX0_requestByValue_0 14 rfl rfl)
theorem dX0_requestByValue_15 : decode cX0_requestByValue 15 = .ok (.iconst 0, 1) := dk_3 (dk_at dksX0_requestByValue_0 15 rfl rfl)
theorem dX0_requestByValue_16 : decode cX0_requestByValue 16 = .ok (.ireturn, 1) := dk_172 (dk_at dksX0_requestByValue_0 16 rfl rfl)
abbrev cX0_setWidth : ByteArray := method_29_code
def yX0_setWidth : MethodName := ⟨RX0, "setWidth", "(LRoyalCourt;I[J)I"⟩
def dkwX0_setWidth_0 : List UInt8 := [44, 3, 42, 27, 182, 0, 104, 133, 80, 167, 0, 6, 78, 4, 172, 3, 172]
abbrev dktX0_setWidth_0 : List UInt8 := dkwX0_setWidth_0 ++ []
theorem dksX0_setWidth_0 : cX0_setWidth.data.toList.drop 0 = dktX0_setWidth_0 := by decide +kernel
theorem dX0_setWidth_0 : decode cX0_setWidth 0 = .ok (.aload_n 2, 1) := dk_44 (dk_at dksX0_setWidth_0 0 rfl rfl)
theorem dX0_setWidth_1 : decode cX0_setWidth 1 = .ok (.iconst 0, 1) := dk_3 (dk_at dksX0_setWidth_0 1 rfl rfl)
theorem dX0_setWidth_2 : decode cX0_setWidth 2 = .ok (.aload_n 0, 1) := dk_42 (dk_at dksX0_setWidth_0 2 rfl rfl)
theorem dX0_setWidth_3 : decode cX0_setWidth 3 = .ok (.iload_n 1, 1) := dk_27 (dk_at dksX0_setWidth_0 3 rfl rfl)
theorem dX0_setWidth_4 : decode cX0_setWidth 4 = .ok (.invokevirtual 104, 3) := dk_182 0 104 (dk_at dksX0_setWidth_0 4 rfl rfl)
theorem dX0_setWidth_7 : decode cX0_setWidth 7 = .ok (.i2l, 1) := dk_133 (dk_at dksX0_setWidth_0 7 rfl rfl)
theorem dX0_setWidth_8 : decode cX0_setWidth 8 = .ok (.lastore, 1) := dk_80 (dk_at dksX0_setWidth_0 8 rfl rfl)
theorem dX0_setWidth_9 : decode cX0_setWidth 9 = .ok (.goto 6, 3) := dk_167 0 6 (dk_at dksX0_setWidth_0 9 rfl rfl)
theorem dX0_setWidth_12 : decode cX0_setWidth 12 = .ok (.astore_n 3, 1) := dk_78 (dk_at dksX0_setWidth_0 12 rfl rfl)
theorem dX0_setWidth_13 : decode cX0_setWidth 13 = .ok (.iconst 1, 1) := dk_4 (dk_at dksX0_setWidth_0 13 rfl rfl)
theorem dX0_setWidth_14 : decode cX0_setWidth 14 = .ok (.ireturn, 1) := dk_172 (dk_at dksX0_setWidth_0 14 rfl rfl)
theorem dX0_setWidth_15 : decode cX0_setWidth 15 = .ok (.iconst 0, 1) := dk_3 (dk_at dksX0_setWidth_0 15 rfl rfl)
theorem dX0_setWidth_16 : decode cX0_setWidth 16 = .ok (.ireturn, 1) := dk_172 (dk_at dksX0_setWidth_0 16 rfl rfl)
abbrev cX0_raggedness : ByteArray := method_30_code
def yX0_raggedness : MethodName := ⟨RX0, "raggedness", "(LRoyalCourt;[J)I"⟩
def dkwX0_raggedness_0 : List UInt8 := [43, 3, 42, 182, 0, 107, 133, 80, 167, 0, 6, 77, 4, 172, 3, 172]
abbrev dktX0_raggedness_0 : List UInt8 := dkwX0_raggedness_0 ++ []
theorem dksX0_raggedness_0 : cX0_raggedness.data.toList.drop 0 = dktX0_raggedness_0 := by decide +kernel
theorem dX0_raggedness_0 : decode cX0_raggedness 0 = .ok (.aload_n 1, 1) := dk_43 (dk_at dksX0_raggedness_0 0 rfl rfl)
theorem dX0_raggedness_1 : decode cX0_raggedness 1 = .ok (.iconst 0, 1) := dk_3 (dk_at dksX0_raggedness_0 1 rfl rfl)
theorem dX0_raggedness_2 : decode cX0_raggedness 2 = .ok (.aload_n 0, 1) := dk_42 (dk_at dksX0_raggedness_0 2 rfl rfl)
theorem dX0_raggedness_3 : decode cX0_raggedness 3 = .ok (.invokevirtual 107, 3) := dk_182 0 107 (dk_at dksX0_raggedness_0 3 rfl rfl)
theorem dX0_raggedness_6 : decode cX0_raggedness 6 = .ok (.i2l, 1) := dk_133 (dk_at dksX0_raggedness_0 6 rfl rfl)
theorem dX0_raggedness_7 : decode cX0_raggedness 7 = .ok (.lastore, 1) := dk_80 (dk_at dksX0_raggedness_0 7 rfl rfl)
theorem dX0_raggedness_8 : decode cX0_raggedness 8 = .ok (.goto 6, 3) := dk_167 0 6 (dk_at dksX0_raggedness_0 8 rfl rfl)
theorem dX0_raggedness_11 : decode cX0_raggedness 11 = .ok (.astore_n 2, 1) := dk_77 (dk_at dksX0_raggedness_0 11 rfl rfl)
theorem dX0_raggedness_12 : decode cX0_raggedness 12 = .ok (.iconst 1, 1) := dk_4 (dk_at dksX0_raggedness_0 12 rfl rfl)
theorem dX0_raggedness_13 : decode cX0_raggedness 13 = .ok (.ireturn, 1) := dk_172 (dk_at dksX0_raggedness_0 13 rfl rfl)
theorem dX0_raggedness_14 : decode cX0_raggedness 14 = .ok (.iconst 0, 1) := dk_3 (dk_at dksX0_raggedness_0 14 rfl rfl)
theorem dX0_raggedness_15 : decode cX0_raggedness 15 = .ok (.ireturn, 1) := dk_172 (dk_at dksX0_raggedness_0 15 rfl rfl)
abbrev cX0_raggednessByTrying : ByteArray := method_31_code
def yX0_raggednessByTrying : MethodName := ⟨RX0, "raggednessByTrying", "(LRoyalCourt;[J)I"⟩
def dkwX0_raggednessByTrying_0 : List UInt8 := [43, 3, 42, 182, 0, 110, 133, 80, 167, 0, 6, 77, 4, 172, 3, 172]
abbrev dktX0_raggednessByTrying_0 : List UInt8 := dkwX0_raggednessByTrying_0 ++ []
theorem dksX0_raggednessByTrying_0 : cX0_raggednessByTrying.data.toList.drop 0 = dktX0_raggednessByTrying_0 := by decide +kernel
theorem dX0_raggednessByTrying_0 : decode cX0_raggednessByTrying 0 = .ok (.aload_n 1, 1) := dk_43 (dk_at dksX0_raggednessByTrying_0 0 rfl rfl)
theorem dX0_raggednessByTrying_1 : decode cX0_raggednessByTrying 1 = .ok (.iconst 0, 1) := dk_3 (dk_at dksX0_raggednessByTrying_0 1 rfl rfl)
theorem dX0_raggednessByTrying_2 : decode cX0_raggednessByTrying 2 = .ok (.aload_n 0, 1) := dk_42 (dk_at dksX0_raggednessByTrying_0 2 rfl rfl)
theorem dX0_raggednessByTrying_3 : decode cX0_raggednessByTrying 3 = .ok (.invokevirtual 110, 3) := dk_182 0 110 (dk_at dksX0_raggednessByTrying_0 3 rfl rfl)
theorem dX0_raggednessByTrying_6 : decode cX0_raggednessByTrying 6 = .ok (.i2l, 1) := dk_133 (dk_at dksX0_raggednessByTrying_0 6 rfl rfl)
theorem dX0_raggednessByTrying_7 : decode cX0_raggednessByTrying 7 = .ok (.lastore, 1) := dk_80 (dk_at dksX0_raggednessByTrying_0 7 rfl rfl)
theorem dX0_raggednessByTrying_8 : decode cX0_raggednessByTrying 8 = .ok (.goto 6, 3) := dk_167 0 6 (dk_at dksX0_raggednessByTrying_0 8 rfl rfl)
theorem dX0_raggednessByTrying_11 : decode cX0_raggednessByTrying 11 = .ok (.astore_n 2, 1) := dk_77 (dk_at dksX0_raggednessByTrying_0 11 rfl rfl)
theorem dX0_raggednessByTrying_12 : decode cX0_raggednessByTrying 12 = .ok (.iconst 1, 1) := dk_4 (dk_at dksX0_raggednessByTrying_0 12 rfl rfl)
theorem dX0_raggednessByTrying_13 : decode cX0_raggednessByTrying 13 = .ok (.ireturn, 1) := dk_172 (dk_at dksX0_raggednessByTrying_0 13 rfl rfl)
theorem dX0_raggednessByTrying_14 : decode cX0_raggednessByTrying 14 = .ok (.iconst 0, 1) := dk_3 (dk_at dksX0_raggednessByTrying_0 14 rfl rfl)
theorem dX0_raggednessByTrying_15 : decode cX0_raggednessByTrying 15 = .ok (.ireturn, 1) := dk_172 (dk_at dksX0_raggednessByTrying_0 15 rfl rfl)
abbrev cX0_lineCount : ByteArray := method_32_code
def yX0_lineCount : MethodName := ⟨RX0, "lineCount", "(LRoyalCourt;[J)I"⟩
def dkwX0_lineCount_0 : List UInt8 := [43, 3, 42, 182, 0, 113, 133, 80, 167, 0, 6, 77, 4, 172, 3, 172]
abbrev dktX0_lineCount_0 : List UInt8 := dkwX0_lineCount_0 ++ []
theorem dksX0_lineCount_0 : cX0_lineCount.data.toList.drop 0 = dktX0_lineCount_0 := by decide +kernel
theorem dX0_lineCount_0 : decode cX0_lineCount 0 = .ok (.aload_n 1, 1) := dk_43 (dk_at dksX0_lineCount_0 0 rfl rfl)
theorem dX0_lineCount_1 : decode cX0_lineCount 1 = .ok (.iconst 0, 1) := dk_3 (dk_at dksX0_lineCount_0 1 rfl rfl)
theorem dX0_lineCount_2 : decode cX0_lineCount 2 = .ok (.aload_n 0, 1) := dk_42 (dk_at dksX0_lineCount_0 2 rfl rfl)
theorem dX0_lineCount_3 : decode cX0_lineCount 3 = .ok (.invokevirtual 113, 3) := dk_182 0 113 (dk_at dksX0_lineCount_0 3 rfl rfl)
theorem dX0_lineCount_6 : decode cX0_lineCount 6 = .ok (.i2l, 1) := dk_133 (dk_at dksX0_lineCount_0 6 rfl rfl)
theorem dX0_lineCount_7 : decode cX0_lineCount 7 = .ok (.lastore, 1) := dk_80 (dk_at dksX0_lineCount_0 7 rfl rfl)
theorem dX0_lineCount_8 : decode cX0_lineCount 8 = .ok (.goto 6, 3) := dk_167 0 6 (dk_at dksX0_lineCount_0 8 rfl rfl)
theorem dX0_lineCount_11 : decode cX0_lineCount 11 = .ok (.astore_n 2, 1) := dk_77 (dk_at dksX0_lineCount_0 11 rfl rfl)
theorem dX0_lineCount_12 : decode cX0_lineCount 12 = .ok (.iconst 1, 1) := dk_4 (dk_at dksX0_lineCount_0 12 rfl rfl)
theorem dX0_lineCount_13 : decode cX0_lineCount 13 = .ok (.ireturn, 1) := dk_172 (dk_at dksX0_lineCount_0 13 rfl rfl)
theorem dX0_lineCount_14 : decode cX0_lineCount 14 = .ok (.iconst 0, 1) := dk_3 (dk_at dksX0_lineCount_0 14 rfl rfl)
theorem dX0_lineCount_15 : decode cX0_lineCount 15 = .ok (.ireturn, 1) := dk_172 (dk_at dksX0_lineCount_0 15 rfl rfl)
abbrev cX0_lineOf : ByteArray := method_33_code
def yX0_lineOf : MethodName := ⟨RX0, "lineOf", "(LRoyalCourt;I[J)I"⟩
def dkwX0_lineOf_0 : List UInt8 := [44, 3, 42, 27, 182, 0, 116, 133, 80, 167, 0, 9, 78, 4, 172, 78, 5, 172, 3, 172]
abbrev dktX0_lineOf_0 : List UInt8 := dkwX0_lineOf_0 ++ []
theorem dksX0_lineOf_0 : cX0_lineOf.data.toList.drop 0 = dktX0_lineOf_0 := by decide +kernel
theorem dX0_lineOf_0 : decode cX0_lineOf 0 = .ok (.aload_n 2, 1) := dk_44 (dk_at dksX0_lineOf_0 0 rfl rfl)
theorem dX0_lineOf_1 : decode cX0_lineOf 1 = .ok (.iconst 0, 1) := dk_3 (dk_at dksX0_lineOf_0 1 rfl rfl)
theorem dX0_lineOf_2 : decode cX0_lineOf 2 = .ok (.aload_n 0, 1) := dk_42 (dk_at dksX0_lineOf_0 2 rfl rfl)
theorem dX0_lineOf_3 : decode cX0_lineOf 3 = .ok (.iload_n 1, 1) := dk_27 (dk_at dksX0_lineOf_0 3 rfl rfl)
theorem dX0_lineOf_4 : decode cX0_lineOf 4 = .ok (.invokevirtual 116, 3) := dk_182 0 116 (dk_at dksX0_lineOf_0 4 rfl rfl)
theorem dX0_lineOf_7 : decode cX0_lineOf 7 = .ok (.i2l, 1) := dk_133 (dk_at dksX0_lineOf_0 7 rfl rfl)
theorem dX0_lineOf_8 : decode cX0_lineOf 8 = .ok (.lastore, 1) := dk_80 (dk_at dksX0_lineOf_0 8 rfl rfl)
theorem dX0_lineOf_9 : decode cX0_lineOf 9 = .ok (.goto 9, 3) := dk_167 0 9 (dk_at dksX0_lineOf_0 9 rfl rfl)
theorem dX0_lineOf_12 : decode cX0_lineOf 12 = .ok (.astore_n 3, 1) := dk_78 (dk_at dksX0_lineOf_0 12 rfl rfl)
theorem dX0_lineOf_13 : decode cX0_lineOf 13 = .ok (.iconst 1, 1) := dk_4 (dk_at dksX0_lineOf_0 13 rfl rfl)
theorem dX0_lineOf_14 : decode cX0_lineOf 14 = .ok (.ireturn, 1) := dk_172 (dk_at dksX0_lineOf_0 14 rfl rfl)
theorem dX0_lineOf_15 : decode cX0_lineOf 15 = .ok (.astore_n 3, 1) := dk_78 (dk_at dksX0_lineOf_0 15 rfl rfl)
theorem dX0_lineOf_16 : decode cX0_lineOf 16 = .ok (.iconst 2, 1) := dk_5 (dk_at dksX0_lineOf_0 16 rfl rfl)
theorem dX0_lineOf_17 : decode cX0_lineOf 17 = .ok (.ireturn, 1) := dk_172 (dk_at dksX0_lineOf_0 17 rfl rfl)
theorem dX0_lineOf_18 : decode cX0_lineOf 18 = .ok (.iconst 0, 1) := dk_3 (dk_at dksX0_lineOf_0 18 rfl rfl)
theorem dX0_lineOf_19 : decode cX0_lineOf 19 = .ok (.ireturn, 1) := dk_172 (dk_at dksX0_lineOf_0 19 rfl rfl)
abbrev cX0_meanValue : ByteArray := method_34_code
def yX0_meanValue : MethodName := ⟨RX0, "meanValue", "(LRoyalCourt;[D)I"⟩
def dkwX0_meanValue_0 : List UInt8 := [43, 3, 42, 182, 0, 119, 82, 167, 0, 6, 77, 4, 172, 3, 172]
abbrev dktX0_meanValue_0 : List UInt8 := dkwX0_meanValue_0 ++ []
theorem dksX0_meanValue_0 : cX0_meanValue.data.toList.drop 0 = dktX0_meanValue_0 := by decide +kernel
theorem dX0_meanValue_0 : decode cX0_meanValue 0 = .ok (.aload_n 1, 1) := dk_43 (dk_at dksX0_meanValue_0 0 rfl rfl)
theorem dX0_meanValue_1 : decode cX0_meanValue 1 = .ok (.iconst 0, 1) := dk_3 (dk_at dksX0_meanValue_0 1 rfl rfl)
theorem dX0_meanValue_2 : decode cX0_meanValue 2 = .ok (.aload_n 0, 1) := dk_42 (dk_at dksX0_meanValue_0 2 rfl rfl)
theorem dX0_meanValue_3 : decode cX0_meanValue 3 = .ok (.invokevirtual 119, 3) := dk_182 0 119 (dk_at dksX0_meanValue_0 3 rfl rfl)
theorem dX0_meanValue_6 : decode cX0_meanValue 6 = .ok (.dastore, 1) := dk_82 (dk_at dksX0_meanValue_0 6 rfl rfl)
theorem dX0_meanValue_7 : decode cX0_meanValue 7 = .ok (.goto 6, 3) := dk_167 0 6 (dk_at dksX0_meanValue_0 7 rfl rfl)
theorem dX0_meanValue_10 : decode cX0_meanValue 10 = .ok (.astore_n 2, 1) := dk_77 (dk_at dksX0_meanValue_0 10 rfl rfl)
theorem dX0_meanValue_11 : decode cX0_meanValue 11 = .ok (.iconst 1, 1) := dk_4 (dk_at dksX0_meanValue_0 11 rfl rfl)
theorem dX0_meanValue_12 : decode cX0_meanValue 12 = .ok (.ireturn, 1) := dk_172 (dk_at dksX0_meanValue_0 12 rfl rfl)
theorem dX0_meanValue_13 : decode cX0_meanValue 13 = .ok (.iconst 0, 1) := dk_3 (dk_at dksX0_meanValue_0 13 rfl rfl)
theorem dX0_meanValue_14 : decode cX0_meanValue 14 = .ok (.ireturn, 1) := dk_172 (dk_at dksX0_meanValue_0 14 rfl rfl)
abbrev cX0_favorShare : ByteArray := method_35_code
def yX0_favorShare : MethodName := ⟨RX0, "favorShare", "(LRoyalCourt;I[D)I"⟩
def dkwX0_favorShare_0 : List UInt8 := [44, 3, 42, 27, 182, 0, 125, 141, 82, 167, 0, 9, 78, 4, 172, 78, 5, 172, 3, 172]
abbrev dktX0_favorShare_0 : List UInt8 := dkwX0_favorShare_0 ++ []
theorem dksX0_favorShare_0 : cX0_favorShare.data.toList.drop 0 = dktX0_favorShare_0 := by decide +kernel
theorem dX0_favorShare_0 : decode cX0_favorShare 0 = .ok (.aload_n 2, 1) := dk_44 (dk_at dksX0_favorShare_0 0 rfl rfl)
theorem dX0_favorShare_1 : decode cX0_favorShare 1 = .ok (.iconst 0, 1) := dk_3 (dk_at dksX0_favorShare_0 1 rfl rfl)
theorem dX0_favorShare_2 : decode cX0_favorShare 2 = .ok (.aload_n 0, 1) := dk_42 (dk_at dksX0_favorShare_0 2 rfl rfl)
theorem dX0_favorShare_3 : decode cX0_favorShare 3 = .ok (.iload_n 1, 1) := dk_27 (dk_at dksX0_favorShare_0 3 rfl rfl)
theorem dX0_favorShare_4 : decode cX0_favorShare 4 = .ok (.invokevirtual 125, 3) := dk_182 0 125 (dk_at dksX0_favorShare_0 4 rfl rfl)
theorem dX0_favorShare_7 : decode cX0_favorShare 7 = .ok (.f2d, 1) := dk_141 (dk_at dksX0_favorShare_0 7 rfl rfl)
theorem dX0_favorShare_8 : decode cX0_favorShare 8 = .ok (.dastore, 1) := dk_82 (dk_at dksX0_favorShare_0 8 rfl rfl)
theorem dX0_favorShare_9 : decode cX0_favorShare 9 = .ok (.goto 9, 3) := dk_167 0 9 (dk_at dksX0_favorShare_0 9 rfl rfl)
theorem dX0_favorShare_12 : decode cX0_favorShare 12 = .ok (.astore_n 3, 1) := dk_78 (dk_at dksX0_favorShare_0 12 rfl rfl)
theorem dX0_favorShare_13 : decode cX0_favorShare 13 = .ok (.iconst 1, 1) := dk_4 (dk_at dksX0_favorShare_0 13 rfl rfl)
theorem dX0_favorShare_14 : decode cX0_favorShare 14 = .ok (.ireturn, 1) := dk_172 (dk_at dksX0_favorShare_0 14 rfl rfl)
theorem dX0_favorShare_15 : decode cX0_favorShare 15 = .ok (.astore_n 3, 1) := dk_78 (dk_at dksX0_favorShare_0 15 rfl rfl)
theorem dX0_favorShare_16 : decode cX0_favorShare 16 = .ok (.iconst 2, 1) := dk_5 (dk_at dksX0_favorShare_0 16 rfl rfl)
theorem dX0_favorShare_17 : decode cX0_favorShare 17 = .ok (.ireturn, 1) := dk_172 (dk_at dksX0_favorShare_0 17 rfl rfl)
theorem dX0_favorShare_18 : decode cX0_favorShare 18 = .ok (.iconst 0, 1) := dk_3 (dk_at dksX0_favorShare_0 18 rfl rfl)
theorem dX0_favorShare_19 : decode cX0_favorShare 19 = .ok (.ireturn, 1) := dk_172 (dk_at dksX0_favorShare_0 19 rfl rfl)
abbrev cX0_writeLine : ByteArray := method_36_code
def yX0_writeLine : MethodName := ⟨RX0, "writeLine", "(LRoyalCourt;I[J)I"⟩
def dkwX0_writeLine_0 : List UInt8 := [44, 3, 42, 27, 182, 0, 129, 133, 80, 167, 0, 6, 78, 4, 172, 3, 172]
abbrev dktX0_writeLine_0 : List UInt8 := dkwX0_writeLine_0 ++ []
theorem dksX0_writeLine_0 : cX0_writeLine.data.toList.drop 0 = dktX0_writeLine_0 := by decide +kernel
theorem dX0_writeLine_0 : decode cX0_writeLine 0 = .ok (.aload_n 2, 1) := dk_44 (dk_at dksX0_writeLine_0 0 rfl rfl)
theorem dX0_writeLine_1 : decode cX0_writeLine 1 = .ok (.iconst 0, 1) := dk_3 (dk_at dksX0_writeLine_0 1 rfl rfl)
theorem dX0_writeLine_2 : decode cX0_writeLine 2 = .ok (.aload_n 0, 1) := dk_42 (dk_at dksX0_writeLine_0 2 rfl rfl)
theorem dX0_writeLine_3 : decode cX0_writeLine 3 = .ok (.iload_n 1, 1) := dk_27 (dk_at dksX0_writeLine_0 3 rfl rfl)
theorem dX0_writeLine_4 : decode cX0_writeLine 4 = .ok (.invokevirtual 129, 3) := dk_182 0 129 (dk_at dksX0_writeLine_0 4 rfl rfl)
theorem dX0_writeLine_7 : decode cX0_writeLine 7 = .ok (.i2l, 1) := dk_133 (dk_at dksX0_writeLine_0 7 rfl rfl)
theorem dX0_writeLine_8 : decode cX0_writeLine 8 = .ok (.lastore, 1) := dk_80 (dk_at dksX0_writeLine_0 8 rfl rfl)
theorem dX0_writeLine_9 : decode cX0_writeLine 9 = .ok (.goto 6, 3) := dk_167 0 6 (dk_at dksX0_writeLine_0 9 rfl rfl)
theorem dX0_writeLine_12 : decode cX0_writeLine 12 = .ok (.astore_n 3, 1) := dk_78 (dk_at dksX0_writeLine_0 12 rfl rfl)
theorem dX0_writeLine_13 : decode cX0_writeLine 13 = .ok (.iconst 1, 1) := dk_4 (dk_at dksX0_writeLine_0 13 rfl rfl)
theorem dX0_writeLine_14 : decode cX0_writeLine 14 = .ok (.ireturn, 1) := dk_172 (dk_at dksX0_writeLine_0 14 rfl rfl)
theorem dX0_writeLine_15 : decode cX0_writeLine 15 = .ok (.iconst 0, 1) := dk_3 (dk_at dksX0_writeLine_0 15 rfl rfl)
theorem dX0_writeLine_16 : decode cX0_writeLine 16 = .ok (.ireturn, 1) := dk_172 (dk_at dksX0_writeLine_0 16 rfl rfl)
abbrev cX0_outputAt : ByteArray := method_37_code
def yX0_outputAt : MethodName := ⟨RX0, "outputAt", "(LRoyalCourt;I[J)I"⟩
def dkwX0_outputAt_0 : List UInt8 := [44, 3, 42, 27, 182, 0, 132, 133, 80, 167, 0, 6, 78, 4, 172, 3, 172]
abbrev dktX0_outputAt_0 : List UInt8 := dkwX0_outputAt_0 ++ []
theorem dksX0_outputAt_0 : cX0_outputAt.data.toList.drop 0 = dktX0_outputAt_0 := by decide +kernel
theorem dX0_outputAt_0 : decode cX0_outputAt 0 = .ok (.aload_n 2, 1) := dk_44 (dk_at dksX0_outputAt_0 0 rfl rfl)
theorem dX0_outputAt_1 : decode cX0_outputAt 1 = .ok (.iconst 0, 1) := dk_3 (dk_at dksX0_outputAt_0 1 rfl rfl)
theorem dX0_outputAt_2 : decode cX0_outputAt 2 = .ok (.aload_n 0, 1) := dk_42 (dk_at dksX0_outputAt_0 2 rfl rfl)
theorem dX0_outputAt_3 : decode cX0_outputAt 3 = .ok (.iload_n 1, 1) := dk_27 (dk_at dksX0_outputAt_0 3 rfl rfl)
theorem dX0_outputAt_4 : decode cX0_outputAt 4 = .ok (.invokevirtual 132, 3) := dk_182 0 132 (dk_at dksX0_outputAt_0 4 rfl rfl)
theorem dX0_outputAt_7 : decode cX0_outputAt 7 = .ok (.i2l, 1) := dk_133 (dk_at dksX0_outputAt_0 7 rfl rfl)
theorem dX0_outputAt_8 : decode cX0_outputAt 8 = .ok (.lastore, 1) := dk_80 (dk_at dksX0_outputAt_0 8 rfl rfl)
theorem dX0_outputAt_9 : decode cX0_outputAt 9 = .ok (.goto 6, 3) := dk_167 0 6 (dk_at dksX0_outputAt_0 9 rfl rfl)
theorem dX0_outputAt_12 : decode cX0_outputAt 12 = .ok (.astore_n 3, 1) := dk_78 (dk_at dksX0_outputAt_0 12 rfl rfl)
theorem dX0_outputAt_13 : decode cX0_outputAt 13 = .ok (.iconst 1, 1) := dk_4 (dk_at dksX0_outputAt_0 13 rfl rfl)
theorem dX0_outputAt_14 : decode cX0_outputAt 14 = .ok (.ireturn, 1) := dk_172 (dk_at dksX0_outputAt_0 14 rfl rfl)
theorem dX0_outputAt_15 : decode cX0_outputAt 15 = .ok (.iconst 0, 1) := dk_3 (dk_at dksX0_outputAt_0 15 rfl rfl)
theorem dX0_outputAt_16 : decode cX0_outputAt 16 = .ok (.ireturn, 1) := dk_172 (dk_at dksX0_outputAt_0 16 rfl rfl)
abbrev cX0_undo : ByteArray := method_38_code
def yX0_undo : MethodName := ⟨RX0, "undo", "(LRoyalCourt;[J)I"⟩
def dkwX0_undo_0 : List UInt8 := [43, 3, 42, 182, 0, 136, 133, 80, 167, 0, 6, 77, 4, 172, 3, 172]
abbrev dktX0_undo_0 : List UInt8 := dkwX0_undo_0 ++ []
theorem dksX0_undo_0 : cX0_undo.data.toList.drop 0 = dktX0_undo_0 := by decide +kernel
theorem dX0_undo_0 : decode cX0_undo 0 = .ok (.aload_n 1, 1) := dk_43 (dk_at dksX0_undo_0 0 rfl rfl)
theorem dX0_undo_1 : decode cX0_undo 1 = .ok (.iconst 0, 1) := dk_3 (dk_at dksX0_undo_0 1 rfl rfl)
theorem dX0_undo_2 : decode cX0_undo 2 = .ok (.aload_n 0, 1) := dk_42 (dk_at dksX0_undo_0 2 rfl rfl)
theorem dX0_undo_3 : decode cX0_undo 3 = .ok (.invokevirtual 136, 3) := dk_182 0 136 (dk_at dksX0_undo_0 3 rfl rfl)
theorem dX0_undo_6 : decode cX0_undo 6 = .ok (.i2l, 1) := dk_133 (dk_at dksX0_undo_0 6 rfl rfl)
theorem dX0_undo_7 : decode cX0_undo 7 = .ok (.lastore, 1) := dk_80 (dk_at dksX0_undo_0 7 rfl rfl)
theorem dX0_undo_8 : decode cX0_undo 8 = .ok (.goto 6, 3) := dk_167 0 6 (dk_at dksX0_undo_0 8 rfl rfl)
theorem dX0_undo_11 : decode cX0_undo 11 = .ok (.astore_n 2, 1) := dk_77 (dk_at dksX0_undo_0 11 rfl rfl)
theorem dX0_undo_12 : decode cX0_undo 12 = .ok (.iconst 1, 1) := dk_4 (dk_at dksX0_undo_0 12 rfl rfl)
theorem dX0_undo_13 : decode cX0_undo 13 = .ok (.ireturn, 1) := dk_172 (dk_at dksX0_undo_0 13 rfl rfl)
theorem dX0_undo_14 : decode cX0_undo 14 = .ok (.iconst 0, 1) := dk_3 (dk_at dksX0_undo_0 14 rfl rfl)
theorem dX0_undo_15 : decode cX0_undo 15 = .ok (.ireturn, 1) := dk_172 (dk_at dksX0_undo_0 15 rfl rfl)
abbrev cX0_restore : ByteArray := method_39_code
def yX0_restore : MethodName := ⟨RX0, "restore", "(LRoyalCourt;[J)I"⟩
def dkwX0_restore_0 : List UInt8 := [43, 3, 42, 182, 0, 139, 133, 80, 167, 0, 6, 77, 4, 172, 3, 172]
abbrev dktX0_restore_0 : List UInt8 := dkwX0_restore_0 ++ []
theorem dksX0_restore_0 : cX0_restore.data.toList.drop 0 = dktX0_restore_0 := by decide +kernel
theorem dX0_restore_0 : decode cX0_restore 0 = .ok (.aload_n 1, 1) := dk_43 (dk_at dksX0_restore_0 0 rfl rfl)
theorem dX0_restore_1 : decode cX0_restore 1 = .ok (.iconst 0, 1) := dk_3 (dk_at dksX0_restore_0 1 rfl rfl)
theorem dX0_restore_2 : decode cX0_restore 2 = .ok (.aload_n 0, 1) := dk_42 (dk_at dksX0_restore_0 2 rfl rfl)
theorem dX0_restore_3 : decode cX0_restore 3 = .ok (.invokevirtual 139, 3) := dk_182 0 139 (dk_at dksX0_restore_0 3 rfl rfl)
theorem dX0_restore_6 : decode cX0_restore 6 = .ok (.i2l, 1) := dk_133 (dk_at dksX0_restore_0 6 rfl rfl)
theorem dX0_restore_7 : decode cX0_restore 7 = .ok (.lastore, 1) := dk_80 (dk_at dksX0_restore_0 7 rfl rfl)
theorem dX0_restore_8 : decode cX0_restore 8 = .ok (.goto 6, 3) := dk_167 0 6 (dk_at dksX0_restore_0 8 rfl rfl)
theorem dX0_restore_11 : decode cX0_restore 11 = .ok (.astore_n 2, 1) := dk_77 (dk_at dksX0_restore_0 11 rfl rfl)
theorem dX0_restore_12 : decode cX0_restore 12 = .ok (.iconst 1, 1) := dk_4 (dk_at dksX0_restore_0 12 rfl rfl)
theorem dX0_restore_13 : decode cX0_restore 13 = .ok (.ireturn, 1) := dk_172 (dk_at dksX0_restore_0 13 rfl rfl)
theorem dX0_restore_14 : decode cX0_restore 14 = .ok (.iconst 0, 1) := dk_3 (dk_at dksX0_restore_0 14 rfl rfl)
theorem dX0_restore_15 : decode cX0_restore 15 = .ok (.ireturn, 1) := dk_172 (dk_at dksX0_restore_0 15 rfl rfl)
theorem q66 : (Jvm.Cond.initialized "RoyalCourtLaw") ∈ lw_all := lw_g (lw_at lw_m1 0 rfl) rfl
theorem q105 : (Jvm.Cond.classLink "RoyalCourtLaw" (8 : Nat) "RoyalCourt") ∈ lw_all := lw_g (lw_at lw_m1 39 rfl) rfl
theorem q107 : (Jvm.Cond.methodLink "RoyalCourtLaw" (142 : Nat) ({ cls := "RoyalCourt", name := "<init>", desc := "()V" } : Jvm.MethodName)) ∈ lw_all := lw_g (lw_at lw_m1 41 rfl) rfl
theorem q403 : (Jvm.Cond.methodLink "RoyalCourtLaw" (162 : Nat) ({ cls := "RoyalCourt", name := "courtierCount", desc := "()I" } : Jvm.MethodName)) ∈ lw_all := lw_g (lw_at lw_m2 97 rfl) rfl
theorem q407 : (Jvm.Cond.methodLink "RoyalCourtLaw" (172 : Nat) ({ cls := "RoyalCourt", name := "ruleCount", desc := "()I" } : Jvm.MethodName)) ∈ lw_all := lw_g (lw_at lw_m2 101 rfl) rfl
theorem q411 : (Jvm.Cond.methodLink "RoyalCourtLaw" (182 : Nat) ({ cls := "RoyalCourt", name := "processions", desc := "()J" } : Jvm.MethodName)) ∈ lw_all := lw_g (lw_at lw_m2 105 rfl) rfl
theorem q430 : (Jvm.Cond.methodLink "RoyalCourtLaw" (187 : Nat) ({ cls := "RoyalCourt", name := "processionsByTrying", desc := "()J" } : Jvm.MethodName)) ∈ lw_all := lw_g (lw_at lw_m2 124 rfl) rfl
theorem q442 : (Jvm.Cond.methodLink "RoyalCourtLaw" (204 : Nat) ({ cls := "RoyalCourt", name := "clearText", desc := "()I" } : Jvm.MethodName)) ∈ lw_all := lw_g (lw_at lw_m2 136 rfl) rfl
theorem q731 : (Jvm.Cond.methodLink "RoyalCourtLaw" (208 : Nat) ({ cls := "RoyalCourt", name := "isReadable", desc := "()Z" } : Jvm.MethodName)) ∈ lw_all := lw_g (lw_at lw_m3 185 rfl) rfl
theorem q863 : (Jvm.Cond.methodLink "RoyalCourtLaw" (213 : Nat) ({ cls := "RoyalCourt", name := "insultCount", desc := "()I" } : Jvm.MethodName)) ∈ lw_all := lw_g (lw_at lw_m4 77 rfl) rfl
theorem q872 : (Jvm.Cond.methodLink "RoyalCourtLaw" (239 : Nat) ({ cls := "RoyalCourt", name := "requestCount", desc := "()I" } : Jvm.MethodName)) ∈ lw_all := lw_g (lw_at lw_m4 86 rfl) rfl
theorem q880 : (Jvm.Cond.methodLink "RoyalCourtLaw" (271 : Nat) ({ cls := "RoyalCourt", name := "width", desc := "()I" } : Jvm.MethodName)) ∈ lw_all := lw_g (lw_at lw_m4 94 rfl) rfl
theorem q884 : (Jvm.Cond.methodLink "RoyalCourtLaw" (287 : Nat) ({ cls := "RoyalCourt", name := "grantedCount", desc := "()I" } : Jvm.MethodName)) ∈ lw_all := lw_g (lw_at lw_m4 98 rfl) rfl
theorem q888 : (Jvm.Cond.methodLink "RoyalCourtLaw" (291 : Nat) ({ cls := "RoyalCourt", name := "spent", desc := "()J" } : Jvm.MethodName)) ∈ lw_all := lw_g (lw_at lw_m4 102 rfl) rfl
theorem q892 : (Jvm.Cond.methodLink "RoyalCourtLaw" (295 : Nat) ({ cls := "RoyalCourt", name := "gained", desc := "()I" } : Jvm.MethodName)) ∈ lw_all := lw_g (lw_at lw_m4 106 rfl) rfl
theorem q896 : (Jvm.Cond.methodLink "RoyalCourtLaw" (299 : Nat) ({ cls := "RoyalCourt", name := "lost", desc := "()I" } : Jvm.MethodName)) ∈ lw_all := lw_g (lw_at lw_m4 110 rfl) rfl
theorem q900 : (Jvm.Cond.methodLink "RoyalCourtLaw" (314 : Nat) ({ cls := "RoyalCourt", name := "writeProcession", desc := "()I" } : Jvm.MethodName)) ∈ lw_all := lw_g (lw_at lw_m4 114 rfl) rfl
theorem q929 : (Jvm.Cond.methodLink "RoyalCourtLaw" (321 : Nat) ({ cls := "RoyalCourt", name := "isConsistent", desc := "()Z" } : Jvm.MethodName)) ∈ lw_all := lw_g (lw_at lw_m4 143 rfl) rfl
theorem q1082 : (Jvm.Cond.methodLink "RoyalCourtLaw" (328 : Nat) ({ cls := "RoyalCourt", name := "undoCount", desc := "()I" } : Jvm.MethodName)) ∈ lw_all := lw_g (lw_at lw_m5 56 rfl) rfl
theorem q1093 : (Jvm.Cond.methodLink "RoyalCourtLaw" (332 : Nat) ({ cls := "RoyalCourt", name := "save", desc := "()I" } : Jvm.MethodName)) ∈ lw_all := lw_g (lw_at lw_m5 67 rfl) rfl
theorem q1126 : (Jvm.Cond.methodLink "RoyalCourtLaw" (146 : Nat) ({ cls := "RoyalCourtLaw", name := "addCourtier", desc := "(LRoyalCourt;I[J)I" } : Jvm.MethodName)) ∈ lw_all := lw_g (lw_at lw_m5 100 rfl) rfl
theorem q1127 : (Jvm.Cond.static ({ cls := "RoyalCourtLaw", name := "addCourtier", desc := "(LRoyalCourt;I[J)I" } : Jvm.MethodName)) ∈ lw_all := lw_g (lw_at lw_m5 101 rfl) rfl
theorem q1128 : (Jvm.Cond.codeWith ({ cls := "RoyalCourtLaw", name := "addCourtier", desc := "(LRoyalCourt;I[J)I" } : Jvm.MethodName) method_3_code (4 : Nat) (Option.some Jvm.ClassFile.FieldType.int) [((0 : Nat), (9 : Nat), (12 : Nat), (13 : Nat)), ((0 : Nat), (9 : Nat), (15 : Nat), (15 : Nat))]) ∈ lw_all := lw_g (lw_at lw_m5 102 rfl) rfl
theorem q1129 : (Jvm.Cond.classLink "RoyalCourtLaw" (13 : Nat) "java/lang/IllegalArgumentException") ∈ lw_all := lw_g (lw_at lw_m5 103 rfl) rfl
theorem q1130 : (Jvm.Cond.classLink "RoyalCourtLaw" (15 : Nat) "java/lang/IllegalStateException") ∈ lw_all := lw_g (lw_at lw_m5 104 rfl) rfl
theorem q1131 : (Jvm.Cond.methodLink "RoyalCourtLaw" (7 : Nat) ({ cls := "RoyalCourt", name := "addCourtier", desc := "(I)I" } : Jvm.MethodName)) ∈ lw_all := lw_g (lw_at lw_m5 105 rfl) rfl
theorem q1175 : (Jvm.Cond.methodLink "RoyalCourtLaw" (155 : Nat) ({ cls := "RoyalCourtLaw", name := "addRule", desc := "(LRoyalCourt;II[J)I" } : Jvm.MethodName)) ∈ lw_all := lw_g (lw_at lw_m5 149 rfl) rfl
theorem q1176 : (Jvm.Cond.static ({ cls := "RoyalCourtLaw", name := "addRule", desc := "(LRoyalCourt;II[J)I" } : Jvm.MethodName)) ∈ lw_all := lw_g (lw_at lw_m5 150 rfl) rfl
theorem q1177 : (Jvm.Cond.codeWith ({ cls := "RoyalCourtLaw", name := "addRule", desc := "(LRoyalCourt;II[J)I" } : Jvm.MethodName) method_4_code (5 : Nat) (Option.some Jvm.ClassFile.FieldType.int) [((0 : Nat), (10 : Nat), (13 : Nat), (21 : Nat)), ((0 : Nat), (10 : Nat), (17 : Nat), (13 : Nat)), ((0 : Nat), (10 : Nat), (21 : Nat), (15 : Nat))]) ∈ lw_all := lw_g (lw_at lw_m5 151 rfl) rfl
theorem q1178 : (Jvm.Cond.classLink "RoyalCourtLaw" (21 : Nat) "java/lang/IndexOutOfBoundsException") ∈ lw_all := lw_g (lw_at lw_m5 152 rfl) rfl
theorem q1181 : (Jvm.Cond.methodLink "RoyalCourtLaw" (17 : Nat) ({ cls := "RoyalCourt", name := "addRule", desc := "(II)I" } : Jvm.MethodName)) ∈ lw_all := lw_g (lw_at lw_m5 155 rfl) rfl
theorem q1215 : (Jvm.Cond.methodLink "RoyalCourtLaw" (159 : Nat) ({ cls := "RoyalCourtLaw", name := "removeRule", desc := "(LRoyalCourt;II[J)I" } : Jvm.MethodName)) ∈ lw_all := lw_g (lw_at lw_m5 189 rfl) rfl
theorem q1216 : (Jvm.Cond.static ({ cls := "RoyalCourtLaw", name := "removeRule", desc := "(LRoyalCourt;II[J)I" } : Jvm.MethodName)) ∈ lw_all := lw_g (lw_at lw_m5 190 rfl) rfl
theorem q1217 : (Jvm.Cond.codeWith ({ cls := "RoyalCourtLaw", name := "removeRule", desc := "(LRoyalCourt;II[J)I" } : Jvm.MethodName) method_5_code (5 : Nat) (Option.some Jvm.ClassFile.FieldType.int) [((0 : Nat), (10 : Nat), (13 : Nat), (21 : Nat)), ((0 : Nat), (10 : Nat), (17 : Nat), (26 : Nat))]) ∈ lw_all := lw_g (lw_at lw_m5 191 rfl) rfl
theorem q1218 : (Jvm.Cond.classLink "RoyalCourtLaw" (26 : Nat) "java/util/NoSuchElementException") ∈ lw_all := lw_g (lw_at lw_m5 192 rfl) rfl
theorem q1219 : (Jvm.Cond.methodLink "RoyalCourtLaw" (23 : Nat) ({ cls := "RoyalCourt", name := "removeRule", desc := "(II)I" } : Jvm.MethodName)) ∈ lw_all := lw_g (lw_at lw_m5 193 rfl) rfl
theorem q1232 : (Jvm.Cond.methodLink "RoyalCourtLaw" (166 : Nat) ({ cls := "RoyalCourtLaw", name := "dignityOf", desc := "(LRoyalCourt;I[J)I" } : Jvm.MethodName)) ∈ lw_all := lw_g (lw_at lw_m5 206 rfl) rfl
theorem q1233 : (Jvm.Cond.static ({ cls := "RoyalCourtLaw", name := "dignityOf", desc := "(LRoyalCourt;I[J)I" } : Jvm.MethodName)) ∈ lw_all := lw_g (lw_at lw_m5 207 rfl) rfl
theorem q1234 : (Jvm.Cond.codeWith ({ cls := "RoyalCourtLaw", name := "dignityOf", desc := "(LRoyalCourt;I[J)I" } : Jvm.MethodName) method_6_code (4 : Nat) (Option.some Jvm.ClassFile.FieldType.int) [((0 : Nat), (9 : Nat), (12 : Nat), (21 : Nat))]) ∈ lw_all := lw_g (lw_at lw_m5 208 rfl) rfl
theorem q1235 : (Jvm.Cond.methodLink "RoyalCourtLaw" (28 : Nat) ({ cls := "RoyalCourt", name := "dignityOf", desc := "(I)I" } : Jvm.MethodName)) ∈ lw_all := lw_g (lw_at lw_m5 209 rfl) rfl
theorem q1240 : (Jvm.Cond.methodLink "RoyalCourtLaw" (169 : Nat) ({ cls := "RoyalCourtLaw", name := "favorOf", desc := "(LRoyalCourt;I[J)I" } : Jvm.MethodName)) ∈ lw_all := lw_g (lw_at lw_m5 214 rfl) rfl
theorem q1241 : (Jvm.Cond.static ({ cls := "RoyalCourtLaw", name := "favorOf", desc := "(LRoyalCourt;I[J)I" } : Jvm.MethodName)) ∈ lw_all := lw_g (lw_at lw_m5 215 rfl) rfl
theorem q1242 : (Jvm.Cond.codeWith ({ cls := "RoyalCourtLaw", name := "favorOf", desc := "(LRoyalCourt;I[J)I" } : Jvm.MethodName) method_7_code (4 : Nat) (Option.some Jvm.ClassFile.FieldType.int) [((0 : Nat), (9 : Nat), (12 : Nat), (21 : Nat))]) ∈ lw_all := lw_g (lw_at lw_m5 216 rfl) rfl
theorem q1243 : (Jvm.Cond.methodLink "RoyalCourtLaw" (31 : Nat) ({ cls := "RoyalCourt", name := "favorOf", desc := "(I)I" } : Jvm.MethodName)) ∈ lw_all := lw_g (lw_at lw_m5 217 rfl) rfl
theorem q1247 : (Jvm.Cond.methodLink "RoyalCourtLaw" (176 : Nat) ({ cls := "RoyalCourtLaw", name := "precedes", desc := "(LRoyalCourt;II[J)I" } : Jvm.MethodName)) ∈ lw_all := lw_g (lw_at lw_m5 221 rfl) rfl
theorem q1248 : (Jvm.Cond.static ({ cls := "RoyalCourtLaw", name := "precedes", desc := "(LRoyalCourt;II[J)I" } : Jvm.MethodName)) ∈ lw_all := lw_g (lw_at lw_m5 222 rfl) rfl
theorem q1249 : (Jvm.Cond.codeWith ({ cls := "RoyalCourtLaw", name := "precedes", desc := "(LRoyalCourt;II[J)I" } : Jvm.MethodName) method_8_code (5 : Nat) (Option.some Jvm.ClassFile.FieldType.int) [((0 : Nat), (17 : Nat), (20 : Nat), (21 : Nat))]) ∈ lw_all := lw_g (lw_at lw_m5 223 rfl) rfl
theorem q1250 : (Jvm.Cond.methodLink "RoyalCourtLaw" (34 : Nat) ({ cls := "RoyalCourt", name := "precedes", desc := "(II)Z" } : Jvm.MethodName)) ∈ lw_all := lw_g (lw_at lw_m5 224 rfl) rfl
theorem q1256 : (Jvm.Cond.methodLink "RoyalCourtLaw" (179 : Nat) ({ cls := "RoyalCourtLaw", name := "courtierByDignity", desc := "(LRoyalCourt;I[J)I" } : Jvm.MethodName)) ∈ lw_all := lw_g (lw_at lw_m5 230 rfl) rfl
theorem q1257 : (Jvm.Cond.static ({ cls := "RoyalCourtLaw", name := "courtierByDignity", desc := "(LRoyalCourt;I[J)I" } : Jvm.MethodName)) ∈ lw_all := lw_g (lw_at lw_m5 231 rfl) rfl
theorem q1258 : (Jvm.Cond.codeWith ({ cls := "RoyalCourtLaw", name := "courtierByDignity", desc := "(LRoyalCourt;I[J)I" } : Jvm.MethodName) method_9_code (4 : Nat) (Option.some Jvm.ClassFile.FieldType.int) [((0 : Nat), (9 : Nat), (12 : Nat), (26 : Nat))]) ∈ lw_all := lw_g (lw_at lw_m5 232 rfl) rfl
theorem q1259 : (Jvm.Cond.methodLink "RoyalCourtLaw" (38 : Nat) ({ cls := "RoyalCourt", name := "courtierByDignity", desc := "(I)I" } : Jvm.MethodName)) ∈ lw_all := lw_g (lw_at lw_m5 233 rfl) rfl
theorem q1271 : (Jvm.Cond.methodLink "RoyalCourtLaw" (191 : Nat) ({ cls := "RoyalCourtLaw", name := "firstProcessionAt", desc := "(LRoyalCourt;I[J)I" } : Jvm.MethodName)) ∈ lw_all := lw_g (lw_at lw_m6 5 rfl) rfl
theorem q1272 : (Jvm.Cond.static ({ cls := "RoyalCourtLaw", name := "firstProcessionAt", desc := "(LRoyalCourt;I[J)I" } : Jvm.MethodName)) ∈ lw_all := lw_g (lw_at lw_m6 6 rfl) rfl
theorem q1273 : (Jvm.Cond.codeWith ({ cls := "RoyalCourtLaw", name := "firstProcessionAt", desc := "(LRoyalCourt;I[J)I" } : Jvm.MethodName) method_10_code (4 : Nat) (Option.some Jvm.ClassFile.FieldType.int) [((0 : Nat), (9 : Nat), (12 : Nat), (26 : Nat))]) ∈ lw_all := lw_g (lw_at lw_m6 7 rfl) rfl
theorem q1274 : (Jvm.Cond.methodLink "RoyalCourtLaw" (41 : Nat) ({ cls := "RoyalCourt", name := "firstProcessionAt", desc := "(I)I" } : Jvm.MethodName)) ∈ lw_all := lw_g (lw_at lw_m6 8 rfl) rfl
theorem q1288 : (Jvm.Cond.methodLink "RoyalCourtLaw" (194 : Nat) ({ cls := "RoyalCourtLaw", name := "grandProcessionAt", desc := "(LRoyalCourt;I[J)I" } : Jvm.MethodName)) ∈ lw_all := lw_g (lw_at lw_m6 22 rfl) rfl
theorem q1289 : (Jvm.Cond.static ({ cls := "RoyalCourtLaw", name := "grandProcessionAt", desc := "(LRoyalCourt;I[J)I" } : Jvm.MethodName)) ∈ lw_all := lw_g (lw_at lw_m6 23 rfl) rfl
theorem q1290 : (Jvm.Cond.codeWith ({ cls := "RoyalCourtLaw", name := "grandProcessionAt", desc := "(LRoyalCourt;I[J)I" } : Jvm.MethodName) method_11_code (4 : Nat) (Option.some Jvm.ClassFile.FieldType.int) [((0 : Nat), (9 : Nat), (12 : Nat), (26 : Nat))]) ∈ lw_all := lw_g (lw_at lw_m6 24 rfl) rfl
theorem q1291 : (Jvm.Cond.methodLink "RoyalCourtLaw" (44 : Nat) ({ cls := "RoyalCourt", name := "grandProcessionAt", desc := "(I)I" } : Jvm.MethodName)) ∈ lw_all := lw_g (lw_at lw_m6 25 rfl) rfl
theorem q1296 : (Jvm.Cond.methodLink "RoyalCourtLaw" (197 : Nat) ({ cls := "RoyalCourtLaw", name := "lowestPlaceOf", desc := "(LRoyalCourt;I[J)I" } : Jvm.MethodName)) ∈ lw_all := lw_g (lw_at lw_m6 30 rfl) rfl
theorem q1297 : (Jvm.Cond.static ({ cls := "RoyalCourtLaw", name := "lowestPlaceOf", desc := "(LRoyalCourt;I[J)I" } : Jvm.MethodName)) ∈ lw_all := lw_g (lw_at lw_m6 31 rfl) rfl
theorem q1298 : (Jvm.Cond.codeWith ({ cls := "RoyalCourtLaw", name := "lowestPlaceOf", desc := "(LRoyalCourt;I[J)I" } : Jvm.MethodName) method_12_code (4 : Nat) (Option.some Jvm.ClassFile.FieldType.int) [((0 : Nat), (9 : Nat), (12 : Nat), (21 : Nat))]) ∈ lw_all := lw_g (lw_at lw_m6 32 rfl) rfl
theorem q1299 : (Jvm.Cond.methodLink "RoyalCourtLaw" (47 : Nat) ({ cls := "RoyalCourt", name := "lowestPlaceOf", desc := "(I)I" } : Jvm.MethodName)) ∈ lw_all := lw_g (lw_at lw_m6 33 rfl) rfl
theorem q1307 : (Jvm.Cond.methodLink "RoyalCourtLaw" (200 : Nat) ({ cls := "RoyalCourtLaw", name := "type", desc := "(LRoyalCourt;C[J)I" } : Jvm.MethodName)) ∈ lw_all := lw_g (lw_at lw_m6 41 rfl) rfl
theorem q1308 : (Jvm.Cond.static ({ cls := "RoyalCourtLaw", name := "type", desc := "(LRoyalCourt;C[J)I" } : Jvm.MethodName)) ∈ lw_all := lw_g (lw_at lw_m6 42 rfl) rfl
theorem q1309 : (Jvm.Cond.codeWith ({ cls := "RoyalCourtLaw", name := "type", desc := "(LRoyalCourt;C[J)I" } : Jvm.MethodName) method_13_code (4 : Nat) (Option.some Jvm.ClassFile.FieldType.int) [((0 : Nat), (9 : Nat), (12 : Nat), (13 : Nat)), ((0 : Nat), (9 : Nat), (15 : Nat), (15 : Nat))]) ∈ lw_all := lw_g (lw_at lw_m6 43 rfl) rfl
theorem q1310 : (Jvm.Cond.methodLink "RoyalCourtLaw" (50 : Nat) ({ cls := "RoyalCourt", name := "type", desc := "(C)I" } : Jvm.MethodName)) ∈ lw_all := lw_g (lw_at lw_m6 44 rfl) rfl
theorem q1317 : (Jvm.Cond.methodLink "RoyalCourtLaw" (217 : Nat) ({ cls := "RoyalCourtLaw", name := "removals", desc := "(LRoyalCourt;[J)I" } : Jvm.MethodName)) ∈ lw_all := lw_g (lw_at lw_m6 51 rfl) rfl
theorem q1318 : (Jvm.Cond.static ({ cls := "RoyalCourtLaw", name := "removals", desc := "(LRoyalCourt;[J)I" } : Jvm.MethodName)) ∈ lw_all := lw_g (lw_at lw_m6 52 rfl) rfl
theorem q1319 : (Jvm.Cond.codeWith ({ cls := "RoyalCourtLaw", name := "removals", desc := "(LRoyalCourt;[J)I" } : Jvm.MethodName) method_14_code (3 : Nat) (Option.some Jvm.ClassFile.FieldType.int) [((0 : Nat), (8 : Nat), (11 : Nat), (26 : Nat))]) ∈ lw_all := lw_g (lw_at lw_m6 53 rfl) rfl
theorem q1320 : (Jvm.Cond.methodLink "RoyalCourtLaw" (54 : Nat) ({ cls := "RoyalCourt", name := "removals", desc := "()I" } : Jvm.MethodName)) ∈ lw_all := lw_g (lw_at lw_m6 54 rfl) rfl
theorem q1358 : (Jvm.Cond.methodLink "RoyalCourtLaw" (221 : Nat) ({ cls := "RoyalCourtLaw", name := "removalsByParts", desc := "(LRoyalCourt;[J)I" } : Jvm.MethodName)) ∈ lw_all := lw_g (lw_at lw_m6 92 rfl) rfl
theorem q1359 : (Jvm.Cond.static ({ cls := "RoyalCourtLaw", name := "removalsByParts", desc := "(LRoyalCourt;[J)I" } : Jvm.MethodName)) ∈ lw_all := lw_g (lw_at lw_m6 93 rfl) rfl
theorem q1360 : (Jvm.Cond.codeWith ({ cls := "RoyalCourtLaw", name := "removalsByParts", desc := "(LRoyalCourt;[J)I" } : Jvm.MethodName) method_15_code (3 : Nat) (Option.some Jvm.ClassFile.FieldType.int) [((0 : Nat), (8 : Nat), (11 : Nat), (26 : Nat))]) ∈ lw_all := lw_g (lw_at lw_m6 94 rfl) rfl
theorem q1361 : (Jvm.Cond.methodLink "RoyalCourtLaw" (58 : Nat) ({ cls := "RoyalCourt", name := "removalsByParts", desc := "()I" } : Jvm.MethodName)) ∈ lw_all := lw_g (lw_at lw_m6 95 rfl) rfl
theorem q1400 : (Jvm.Cond.methodLink "RoyalCourtLaw" (224 : Nat) ({ cls := "RoyalCourtLaw", name := "textError", desc := "(LRoyalCourt;[J)I" } : Jvm.MethodName)) ∈ lw_all := lw_g (lw_at lw_m6 134 rfl) rfl
theorem q1401 : (Jvm.Cond.static ({ cls := "RoyalCourtLaw", name := "textError", desc := "(LRoyalCourt;[J)I" } : Jvm.MethodName)) ∈ lw_all := lw_g (lw_at lw_m6 135 rfl) rfl
theorem q1402 : (Jvm.Cond.codeWith ({ cls := "RoyalCourtLaw", name := "textError", desc := "(LRoyalCourt;[J)I" } : Jvm.MethodName) method_16_code (3 : Nat) (Option.some Jvm.ClassFile.FieldType.int) [((0 : Nat), (8 : Nat), (11 : Nat), (26 : Nat))]) ∈ lw_all := lw_g (lw_at lw_m6 136 rfl) rfl
theorem q1403 : (Jvm.Cond.methodLink "RoyalCourtLaw" (61 : Nat) ({ cls := "RoyalCourt", name := "textError", desc := "()I" } : Jvm.MethodName)) ∈ lw_all := lw_g (lw_at lw_m6 137 rfl) rfl
theorem q1407 : (Jvm.Cond.methodLink "RoyalCourtLaw" (227 : Nat) ({ cls := "RoyalCourtLaw", name := "submit", desc := "(LRoyalCourt;I[J)I" } : Jvm.MethodName)) ∈ lw_all := lw_g (lw_at lw_m6 141 rfl) rfl
theorem q1408 : (Jvm.Cond.static ({ cls := "RoyalCourtLaw", name := "submit", desc := "(LRoyalCourt;I[J)I" } : Jvm.MethodName)) ∈ lw_all := lw_g (lw_at lw_m6 142 rfl) rfl
theorem q1409 : (Jvm.Cond.codeWith ({ cls := "RoyalCourtLaw", name := "submit", desc := "(LRoyalCourt;I[J)I" } : Jvm.MethodName) method_17_code (4 : Nat) (Option.some Jvm.ClassFile.FieldType.int) [((0 : Nat), (9 : Nat), (12 : Nat), (21 : Nat)), ((0 : Nat), (9 : Nat), (15 : Nat), (13 : Nat)), ((0 : Nat), (9 : Nat), (18 : Nat), (15 : Nat))]) ∈ lw_all := lw_g (lw_at lw_m6 143 rfl) rfl
theorem q1410 : (Jvm.Cond.methodLink "RoyalCourtLaw" (64 : Nat) ({ cls := "RoyalCourt", name := "submit", desc := "(I)I" } : Jvm.MethodName)) ∈ lw_all := lw_g (lw_at lw_m6 144 rfl) rfl
theorem q1460 : (Jvm.Cond.methodLink "RoyalCourtLaw" (230 : Nat) ({ cls := "RoyalCourtLaw", name := "grant", desc := "(LRoyalCourt;I[J)I" } : Jvm.MethodName)) ∈ lw_all := lw_g (lw_at lw_m6 194 rfl) rfl
theorem q1461 : (Jvm.Cond.static ({ cls := "RoyalCourtLaw", name := "grant", desc := "(LRoyalCourt;I[J)I" } : Jvm.MethodName)) ∈ lw_all := lw_g (lw_at lw_m6 195 rfl) rfl
theorem q1462 : (Jvm.Cond.codeWith ({ cls := "RoyalCourtLaw", name := "grant", desc := "(LRoyalCourt;I[J)I" } : Jvm.MethodName) method_18_code (4 : Nat) (Option.some Jvm.ClassFile.FieldType.int) [((0 : Nat), (9 : Nat), (12 : Nat), (21 : Nat)), ((0 : Nat), (9 : Nat), (15 : Nat), (70 : Nat))]) ∈ lw_all := lw_g (lw_at lw_m6 196 rfl) rfl
theorem q1463 : (Jvm.Cond.classLink "RoyalCourtLaw" (70 : Nat) "java/lang/UnsupportedOperationException") ∈ lw_all := lw_g (lw_at lw_m6 197 rfl) rfl
theorem q1464 : (Jvm.Cond.methodLink "RoyalCourtLaw" (67 : Nat) ({ cls := "RoyalCourt", name := "grant", desc := "(I)I" } : Jvm.MethodName)) ∈ lw_all := lw_g (lw_at lw_m6 198 rfl) rfl
theorem q1503 : (Jvm.Cond.methodLink "RoyalCourtLaw" (233 : Nat) ({ cls := "RoyalCourtLaw", name := "withdraw", desc := "(LRoyalCourt;I[J)I" } : Jvm.MethodName)) ∈ lw_all := lw_g (lw_at lw_m6 237 rfl) rfl
theorem q1504 : (Jvm.Cond.static ({ cls := "RoyalCourtLaw", name := "withdraw", desc := "(LRoyalCourt;I[J)I" } : Jvm.MethodName)) ∈ lw_all := lw_g (lw_at lw_m6 238 rfl) rfl
theorem q1505 : (Jvm.Cond.codeWith ({ cls := "RoyalCourtLaw", name := "withdraw", desc := "(LRoyalCourt;I[J)I" } : Jvm.MethodName) method_19_code (4 : Nat) (Option.some Jvm.ClassFile.FieldType.int) [((0 : Nat), (9 : Nat), (12 : Nat), (21 : Nat))]) ∈ lw_all := lw_g (lw_at lw_m6 239 rfl) rfl
theorem q1506 : (Jvm.Cond.methodLink "RoyalCourtLaw" (72 : Nat) ({ cls := "RoyalCourt", name := "withdraw", desc := "(I)I" } : Jvm.MethodName)) ∈ lw_all := lw_g (lw_at lw_m7 0 rfl) rfl
theorem q1514 : (Jvm.Cond.methodLink "RoyalCourtLaw" (236 : Nat) ({ cls := "RoyalCourtLaw", name := "errorPosition", desc := "(LRoyalCourt;[J)I" } : Jvm.MethodName)) ∈ lw_all := lw_g (lw_at lw_m7 8 rfl) rfl
theorem q1515 : (Jvm.Cond.static ({ cls := "RoyalCourtLaw", name := "errorPosition", desc := "(LRoyalCourt;[J)I" } : Jvm.MethodName)) ∈ lw_all := lw_g (lw_at lw_m7 9 rfl) rfl
theorem q1516 : (Jvm.Cond.codeWith ({ cls := "RoyalCourtLaw", name := "errorPosition", desc := "(LRoyalCourt;[J)I" } : Jvm.MethodName) method_20_code (3 : Nat) (Option.some Jvm.ClassFile.FieldType.int) [((0 : Nat), (8 : Nat), (11 : Nat), (26 : Nat))]) ∈ lw_all := lw_g (lw_at lw_m7 10 rfl) rfl
theorem q1517 : (Jvm.Cond.methodLink "RoyalCourtLaw" (75 : Nat) ({ cls := "RoyalCourt", name := "errorPosition", desc := "()I" } : Jvm.MethodName)) ∈ lw_all := lw_g (lw_at lw_m7 11 rfl) rfl
theorem q1521 : (Jvm.Cond.methodLink "RoyalCourtLaw" (243 : Nat) ({ cls := "RoyalCourtLaw", name := "courtierOf", desc := "(LRoyalCourt;I[J)I" } : Jvm.MethodName)) ∈ lw_all := lw_g (lw_at lw_m7 15 rfl) rfl
theorem q1522 : (Jvm.Cond.static ({ cls := "RoyalCourtLaw", name := "courtierOf", desc := "(LRoyalCourt;I[J)I" } : Jvm.MethodName)) ∈ lw_all := lw_g (lw_at lw_m7 16 rfl) rfl
theorem q1523 : (Jvm.Cond.codeWith ({ cls := "RoyalCourtLaw", name := "courtierOf", desc := "(LRoyalCourt;I[J)I" } : Jvm.MethodName) method_21_code (4 : Nat) (Option.some Jvm.ClassFile.FieldType.int) [((0 : Nat), (9 : Nat), (12 : Nat), (21 : Nat))]) ∈ lw_all := lw_g (lw_at lw_m7 17 rfl) rfl
theorem q1524 : (Jvm.Cond.methodLink "RoyalCourtLaw" (78 : Nat) ({ cls := "RoyalCourt", name := "courtierOf", desc := "(I)I" } : Jvm.MethodName)) ∈ lw_all := lw_g (lw_at lw_m7 18 rfl) rfl
theorem q1529 : (Jvm.Cond.methodLink "RoyalCourtLaw" (246 : Nat) ({ cls := "RoyalCourtLaw", name := "valueOf", desc := "(LRoyalCourt;I[J)I" } : Jvm.MethodName)) ∈ lw_all := lw_g (lw_at lw_m7 23 rfl) rfl
theorem q1530 : (Jvm.Cond.static ({ cls := "RoyalCourtLaw", name := "valueOf", desc := "(LRoyalCourt;I[J)I" } : Jvm.MethodName)) ∈ lw_all := lw_g (lw_at lw_m7 24 rfl) rfl
theorem q1531 : (Jvm.Cond.codeWith ({ cls := "RoyalCourtLaw", name := "valueOf", desc := "(LRoyalCourt;I[J)I" } : Jvm.MethodName) method_22_code (4 : Nat) (Option.some Jvm.ClassFile.FieldType.int) [((0 : Nat), (9 : Nat), (12 : Nat), (21 : Nat))]) ∈ lw_all := lw_g (lw_at lw_m7 25 rfl) rfl
theorem q1532 : (Jvm.Cond.methodLink "RoyalCourtLaw" (81 : Nat) ({ cls := "RoyalCourt", name := "valueOf", desc := "(I)I" } : Jvm.MethodName)) ∈ lw_all := lw_g (lw_at lw_m7 26 rfl) rfl
theorem q1536 : (Jvm.Cond.methodLink "RoyalCourtLaw" (249 : Nat) ({ cls := "RoyalCourtLaw", name := "lengthOf", desc := "(LRoyalCourt;I[J)I" } : Jvm.MethodName)) ∈ lw_all := lw_g (lw_at lw_m7 30 rfl) rfl
theorem q1537 : (Jvm.Cond.static ({ cls := "RoyalCourtLaw", name := "lengthOf", desc := "(LRoyalCourt;I[J)I" } : Jvm.MethodName)) ∈ lw_all := lw_g (lw_at lw_m7 31 rfl) rfl
theorem q1538 : (Jvm.Cond.codeWith ({ cls := "RoyalCourtLaw", name := "lengthOf", desc := "(LRoyalCourt;I[J)I" } : Jvm.MethodName) method_23_code (4 : Nat) (Option.some Jvm.ClassFile.FieldType.int) [((0 : Nat), (9 : Nat), (12 : Nat), (21 : Nat))]) ∈ lw_all := lw_g (lw_at lw_m7 32 rfl) rfl
theorem q1539 : (Jvm.Cond.methodLink "RoyalCourtLaw" (84 : Nat) ({ cls := "RoyalCourt", name := "lengthOf", desc := "(I)I" } : Jvm.MethodName)) ∈ lw_all := lw_g (lw_at lw_m7 33 rfl) rfl
theorem q1543 : (Jvm.Cond.methodLink "RoyalCourtLaw" (252 : Nat) ({ cls := "RoyalCourtLaw", name := "symbolOf", desc := "(LRoyalCourt;II[J)I" } : Jvm.MethodName)) ∈ lw_all := lw_g (lw_at lw_m7 37 rfl) rfl
theorem q1544 : (Jvm.Cond.static ({ cls := "RoyalCourtLaw", name := "symbolOf", desc := "(LRoyalCourt;II[J)I" } : Jvm.MethodName)) ∈ lw_all := lw_g (lw_at lw_m7 38 rfl) rfl
theorem q1545 : (Jvm.Cond.codeWith ({ cls := "RoyalCourtLaw", name := "symbolOf", desc := "(LRoyalCourt;II[J)I" } : Jvm.MethodName) method_24_code (5 : Nat) (Option.some Jvm.ClassFile.FieldType.int) [((0 : Nat), (10 : Nat), (13 : Nat), (21 : Nat))]) ∈ lw_all := lw_g (lw_at lw_m7 39 rfl) rfl
theorem q1546 : (Jvm.Cond.methodLink "RoyalCourtLaw" (87 : Nat) ({ cls := "RoyalCourt", name := "symbolOf", desc := "(II)C" } : Jvm.MethodName)) ∈ lw_all := lw_g (lw_at lw_m7 40 rfl) rfl
theorem q1551 : (Jvm.Cond.methodLink "RoyalCourtLaw" (255 : Nat) ({ cls := "RoyalCourtLaw", name := "depthOf", desc := "(LRoyalCourt;I[J)I" } : Jvm.MethodName)) ∈ lw_all := lw_g (lw_at lw_m7 45 rfl) rfl
theorem q1552 : (Jvm.Cond.static ({ cls := "RoyalCourtLaw", name := "depthOf", desc := "(LRoyalCourt;I[J)I" } : Jvm.MethodName)) ∈ lw_all := lw_g (lw_at lw_m7 46 rfl) rfl
theorem q1553 : (Jvm.Cond.codeWith ({ cls := "RoyalCourtLaw", name := "depthOf", desc := "(LRoyalCourt;I[J)I" } : Jvm.MethodName) method_25_code (4 : Nat) (Option.some Jvm.ClassFile.FieldType.int) [((0 : Nat), (9 : Nat), (12 : Nat), (21 : Nat))]) ∈ lw_all := lw_g (lw_at lw_m7 47 rfl) rfl
theorem q1554 : (Jvm.Cond.methodLink "RoyalCourtLaw" (91 : Nat) ({ cls := "RoyalCourt", name := "depthOf", desc := "(I)I" } : Jvm.MethodName)) ∈ lw_all := lw_g (lw_at lw_m7 48 rfl) rfl
theorem q1558 : (Jvm.Cond.methodLink "RoyalCourtLaw" (258 : Nat) ({ cls := "RoyalCourtLaw", name := "countOf", desc := "(LRoyalCourt;IC[J)I" } : Jvm.MethodName)) ∈ lw_all := lw_g (lw_at lw_m7 52 rfl) rfl
theorem q1559 : (Jvm.Cond.static ({ cls := "RoyalCourtLaw", name := "countOf", desc := "(LRoyalCourt;IC[J)I" } : Jvm.MethodName)) ∈ lw_all := lw_g (lw_at lw_m7 53 rfl) rfl
theorem q1560 : (Jvm.Cond.codeWith ({ cls := "RoyalCourtLaw", name := "countOf", desc := "(LRoyalCourt;IC[J)I" } : Jvm.MethodName) method_26_code (5 : Nat) (Option.some Jvm.ClassFile.FieldType.int) [((0 : Nat), (10 : Nat), (13 : Nat), (21 : Nat))]) ∈ lw_all := lw_g (lw_at lw_m7 54 rfl) rfl
theorem q1561 : (Jvm.Cond.methodLink "RoyalCourtLaw" (94 : Nat) ({ cls := "RoyalCourt", name := "countOf", desc := "(IC)I" } : Jvm.MethodName)) ∈ lw_all := lw_g (lw_at lw_m7 55 rfl) rfl
theorem q1566 : (Jvm.Cond.methodLink "RoyalCourtLaw" (262 : Nat) ({ cls := "RoyalCourtLaw", name := "areAlike", desc := "(LRoyalCourt;II[J)I" } : Jvm.MethodName)) ∈ lw_all := lw_g (lw_at lw_m7 60 rfl) rfl
theorem q1567 : (Jvm.Cond.static ({ cls := "RoyalCourtLaw", name := "areAlike", desc := "(LRoyalCourt;II[J)I" } : Jvm.MethodName)) ∈ lw_all := lw_g (lw_at lw_m7 61 rfl) rfl
theorem q1568 : (Jvm.Cond.codeWith ({ cls := "RoyalCourtLaw", name := "areAlike", desc := "(LRoyalCourt;II[J)I" } : Jvm.MethodName) method_27_code (5 : Nat) (Option.some Jvm.ClassFile.FieldType.int) [((0 : Nat), (17 : Nat), (20 : Nat), (21 : Nat))]) ∈ lw_all := lw_g (lw_at lw_m7 62 rfl) rfl
theorem q1569 : (Jvm.Cond.methodLink "RoyalCourtLaw" (98 : Nat) ({ cls := "RoyalCourt", name := "areAlike", desc := "(II)Z" } : Jvm.MethodName)) ∈ lw_all := lw_g (lw_at lw_m7 63 rfl) rfl
theorem q1577 : (Jvm.Cond.methodLink "RoyalCourtLaw" (265 : Nat) ({ cls := "RoyalCourtLaw", name := "requestByValue", desc := "(LRoyalCourt;I[J)I" } : Jvm.MethodName)) ∈ lw_all := lw_g (lw_at lw_m7 71 rfl) rfl
theorem q1578 : (Jvm.Cond.static ({ cls := "RoyalCourtLaw", name := "requestByValue", desc := "(LRoyalCourt;I[J)I" } : Jvm.MethodName)) ∈ lw_all := lw_g (lw_at lw_m7 72 rfl) rfl
theorem q1579 : (Jvm.Cond.codeWith ({ cls := "RoyalCourtLaw", name := "requestByValue", desc := "(LRoyalCourt;I[J)I" } : Jvm.MethodName) method_28_code (4 : Nat) (Option.some Jvm.ClassFile.FieldType.int) [((0 : Nat), (9 : Nat), (12 : Nat), (26 : Nat))]) ∈ lw_all := lw_g (lw_at lw_m7 73 rfl) rfl
theorem q1580 : (Jvm.Cond.methodLink "RoyalCourtLaw" (101 : Nat) ({ cls := "RoyalCourt", name := "requestByValue", desc := "(I)I" } : Jvm.MethodName)) ∈ lw_all := lw_g (lw_at lw_m7 74 rfl) rfl
theorem q1595 : (Jvm.Cond.methodLink "RoyalCourtLaw" (268 : Nat) ({ cls := "RoyalCourtLaw", name := "setWidth", desc := "(LRoyalCourt;I[J)I" } : Jvm.MethodName)) ∈ lw_all := lw_g (lw_at lw_m7 89 rfl) rfl
theorem q1596 : (Jvm.Cond.static ({ cls := "RoyalCourtLaw", name := "setWidth", desc := "(LRoyalCourt;I[J)I" } : Jvm.MethodName)) ∈ lw_all := lw_g (lw_at lw_m7 90 rfl) rfl
theorem q1597 : (Jvm.Cond.codeWith ({ cls := "RoyalCourtLaw", name := "setWidth", desc := "(LRoyalCourt;I[J)I" } : Jvm.MethodName) method_29_code (4 : Nat) (Option.some Jvm.ClassFile.FieldType.int) [((0 : Nat), (9 : Nat), (12 : Nat), (13 : Nat))]) ∈ lw_all := lw_g (lw_at lw_m7 91 rfl) rfl
theorem q1598 : (Jvm.Cond.methodLink "RoyalCourtLaw" (104 : Nat) ({ cls := "RoyalCourt", name := "setWidth", desc := "(I)I" } : Jvm.MethodName)) ∈ lw_all := lw_g (lw_at lw_m7 92 rfl) rfl
theorem q1606 : (Jvm.Cond.methodLink "RoyalCourtLaw" (275 : Nat) ({ cls := "RoyalCourtLaw", name := "raggedness", desc := "(LRoyalCourt;[J)I" } : Jvm.MethodName)) ∈ lw_all := lw_g (lw_at lw_m7 100 rfl) rfl
theorem q1607 : (Jvm.Cond.static ({ cls := "RoyalCourtLaw", name := "raggedness", desc := "(LRoyalCourt;[J)I" } : Jvm.MethodName)) ∈ lw_all := lw_g (lw_at lw_m7 101 rfl) rfl
theorem q1608 : (Jvm.Cond.codeWith ({ cls := "RoyalCourtLaw", name := "raggedness", desc := "(LRoyalCourt;[J)I" } : Jvm.MethodName) method_30_code (3 : Nat) (Option.some Jvm.ClassFile.FieldType.int) [((0 : Nat), (8 : Nat), (11 : Nat), (26 : Nat))]) ∈ lw_all := lw_g (lw_at lw_m7 102 rfl) rfl
theorem q1609 : (Jvm.Cond.methodLink "RoyalCourtLaw" (107 : Nat) ({ cls := "RoyalCourt", name := "raggedness", desc := "()I" } : Jvm.MethodName)) ∈ lw_all := lw_g (lw_at lw_m7 103 rfl) rfl
theorem q1618 : (Jvm.Cond.methodLink "RoyalCourtLaw" (278 : Nat) ({ cls := "RoyalCourtLaw", name := "raggednessByTrying", desc := "(LRoyalCourt;[J)I" } : Jvm.MethodName)) ∈ lw_all := lw_g (lw_at lw_m7 112 rfl) rfl
theorem q1619 : (Jvm.Cond.static ({ cls := "RoyalCourtLaw", name := "raggednessByTrying", desc := "(LRoyalCourt;[J)I" } : Jvm.MethodName)) ∈ lw_all := lw_g (lw_at lw_m7 113 rfl) rfl
theorem q1620 : (Jvm.Cond.codeWith ({ cls := "RoyalCourtLaw", name := "raggednessByTrying", desc := "(LRoyalCourt;[J)I" } : Jvm.MethodName) method_31_code (3 : Nat) (Option.some Jvm.ClassFile.FieldType.int) [((0 : Nat), (8 : Nat), (11 : Nat), (26 : Nat))]) ∈ lw_all := lw_g (lw_at lw_m7 114 rfl) rfl
theorem q1621 : (Jvm.Cond.methodLink "RoyalCourtLaw" (110 : Nat) ({ cls := "RoyalCourt", name := "raggednessByTrying", desc := "()I" } : Jvm.MethodName)) ∈ lw_all := lw_g (lw_at lw_m7 115 rfl) rfl
theorem q1626 : (Jvm.Cond.methodLink "RoyalCourtLaw" (281 : Nat) ({ cls := "RoyalCourtLaw", name := "lineCount", desc := "(LRoyalCourt;[J)I" } : Jvm.MethodName)) ∈ lw_all := lw_g (lw_at lw_m7 120 rfl) rfl
theorem q1627 : (Jvm.Cond.static ({ cls := "RoyalCourtLaw", name := "lineCount", desc := "(LRoyalCourt;[J)I" } : Jvm.MethodName)) ∈ lw_all := lw_g (lw_at lw_m7 121 rfl) rfl
theorem q1628 : (Jvm.Cond.codeWith ({ cls := "RoyalCourtLaw", name := "lineCount", desc := "(LRoyalCourt;[J)I" } : Jvm.MethodName) method_32_code (3 : Nat) (Option.some Jvm.ClassFile.FieldType.int) [((0 : Nat), (8 : Nat), (11 : Nat), (26 : Nat))]) ∈ lw_all := lw_g (lw_at lw_m7 122 rfl) rfl
theorem q1629 : (Jvm.Cond.methodLink "RoyalCourtLaw" (113 : Nat) ({ cls := "RoyalCourt", name := "lineCount", desc := "()I" } : Jvm.MethodName)) ∈ lw_all := lw_g (lw_at lw_m7 123 rfl) rfl
theorem q1642 : (Jvm.Cond.methodLink "RoyalCourtLaw" (284 : Nat) ({ cls := "RoyalCourtLaw", name := "lineOf", desc := "(LRoyalCourt;I[J)I" } : Jvm.MethodName)) ∈ lw_all := lw_g (lw_at lw_m7 136 rfl) rfl
theorem q1643 : (Jvm.Cond.static ({ cls := "RoyalCourtLaw", name := "lineOf", desc := "(LRoyalCourt;I[J)I" } : Jvm.MethodName)) ∈ lw_all := lw_g (lw_at lw_m7 137 rfl) rfl
theorem q1644 : (Jvm.Cond.codeWith ({ cls := "RoyalCourtLaw", name := "lineOf", desc := "(LRoyalCourt;I[J)I" } : Jvm.MethodName) method_33_code (4 : Nat) (Option.some Jvm.ClassFile.FieldType.int) [((0 : Nat), (9 : Nat), (12 : Nat), (21 : Nat)), ((0 : Nat), (9 : Nat), (15 : Nat), (26 : Nat))]) ∈ lw_all := lw_g (lw_at lw_m7 138 rfl) rfl
theorem q1645 : (Jvm.Cond.methodLink "RoyalCourtLaw" (116 : Nat) ({ cls := "RoyalCourt", name := "lineOf", desc := "(I)I" } : Jvm.MethodName)) ∈ lw_all := lw_g (lw_at lw_m7 139 rfl) rfl
theorem q1650 : (Jvm.Cond.methodLink "RoyalCourtLaw" (303 : Nat) ({ cls := "RoyalCourtLaw", name := "meanValue", desc := "(LRoyalCourt;[D)I" } : Jvm.MethodName)) ∈ lw_all := lw_g (lw_at lw_m7 144 rfl) rfl
theorem q1651 : (Jvm.Cond.static ({ cls := "RoyalCourtLaw", name := "meanValue", desc := "(LRoyalCourt;[D)I" } : Jvm.MethodName)) ∈ lw_all := lw_g (lw_at lw_m7 145 rfl) rfl
theorem q1652 : (Jvm.Cond.codeWith ({ cls := "RoyalCourtLaw", name := "meanValue", desc := "(LRoyalCourt;[D)I" } : Jvm.MethodName) method_34_code (3 : Nat) (Option.some Jvm.ClassFile.FieldType.int) [((0 : Nat), (7 : Nat), (10 : Nat), (123 : Nat))]) ∈ lw_all := lw_g (lw_at lw_m7 146 rfl) rfl
theorem q1653 : (Jvm.Cond.classLink "RoyalCourtLaw" (123 : Nat) "java/lang/ArithmeticException") ∈ lw_all := lw_g (lw_at lw_m7 147 rfl) rfl
theorem q1667 : (Jvm.Cond.methodLink "RoyalCourtLaw" (119 : Nat) ({ cls := "RoyalCourt", name := "meanValue", desc := "()D" } : Jvm.MethodName)) ∈ lw_all := lw_g (lw_at lw_m7 161 rfl) rfl
theorem q1683 : (Jvm.Cond.methodLink "RoyalCourtLaw" (307 : Nat) ({ cls := "RoyalCourtLaw", name := "favorShare", desc := "(LRoyalCourt;I[D)I" } : Jvm.MethodName)) ∈ lw_all := lw_g (lw_at lw_m7 177 rfl) rfl
theorem q1684 : (Jvm.Cond.static ({ cls := "RoyalCourtLaw", name := "favorShare", desc := "(LRoyalCourt;I[D)I" } : Jvm.MethodName)) ∈ lw_all := lw_g (lw_at lw_m7 178 rfl) rfl
theorem q1685 : (Jvm.Cond.codeWith ({ cls := "RoyalCourtLaw", name := "favorShare", desc := "(LRoyalCourt;I[D)I" } : Jvm.MethodName) method_35_code (4 : Nat) (Option.some Jvm.ClassFile.FieldType.int) [((0 : Nat), (9 : Nat), (12 : Nat), (21 : Nat)), ((0 : Nat), (9 : Nat), (15 : Nat), (123 : Nat))]) ∈ lw_all := lw_g (lw_at lw_m7 179 rfl) rfl
theorem q1686 : (Jvm.Cond.methodLink "RoyalCourtLaw" (125 : Nat) ({ cls := "RoyalCourt", name := "favorShare", desc := "(I)F" } : Jvm.MethodName)) ∈ lw_all := lw_g (lw_at lw_m7 180 rfl) rfl
theorem q1691 : (Jvm.Cond.methodLink "RoyalCourtLaw" (311 : Nat) ({ cls := "RoyalCourtLaw", name := "writeLine", desc := "(LRoyalCourt;I[J)I" } : Jvm.MethodName)) ∈ lw_all := lw_g (lw_at lw_m7 185 rfl) rfl
theorem q1692 : (Jvm.Cond.static ({ cls := "RoyalCourtLaw", name := "writeLine", desc := "(LRoyalCourt;I[J)I" } : Jvm.MethodName)) ∈ lw_all := lw_g (lw_at lw_m7 186 rfl) rfl
theorem q1693 : (Jvm.Cond.codeWith ({ cls := "RoyalCourtLaw", name := "writeLine", desc := "(LRoyalCourt;I[J)I" } : Jvm.MethodName) method_36_code (4 : Nat) (Option.some Jvm.ClassFile.FieldType.int) [((0 : Nat), (9 : Nat), (12 : Nat), (26 : Nat))]) ∈ lw_all := lw_g (lw_at lw_m7 187 rfl) rfl
theorem q1694 : (Jvm.Cond.methodLink "RoyalCourtLaw" (129 : Nat) ({ cls := "RoyalCourt", name := "writeLine", desc := "(I)I" } : Jvm.MethodName)) ∈ lw_all := lw_g (lw_at lw_m7 188 rfl) rfl
theorem q1707 : (Jvm.Cond.methodLink "RoyalCourtLaw" (318 : Nat) ({ cls := "RoyalCourtLaw", name := "outputAt", desc := "(LRoyalCourt;I[J)I" } : Jvm.MethodName)) ∈ lw_all := lw_g (lw_at lw_m7 201 rfl) rfl
theorem q1708 : (Jvm.Cond.static ({ cls := "RoyalCourtLaw", name := "outputAt", desc := "(LRoyalCourt;I[J)I" } : Jvm.MethodName)) ∈ lw_all := lw_g (lw_at lw_m7 202 rfl) rfl
theorem q1709 : (Jvm.Cond.codeWith ({ cls := "RoyalCourtLaw", name := "outputAt", desc := "(LRoyalCourt;I[J)I" } : Jvm.MethodName) method_37_code (4 : Nat) (Option.some Jvm.ClassFile.FieldType.int) [((0 : Nat), (9 : Nat), (12 : Nat), (21 : Nat))]) ∈ lw_all := lw_g (lw_at lw_m7 203 rfl) rfl
theorem q1710 : (Jvm.Cond.methodLink "RoyalCourtLaw" (132 : Nat) ({ cls := "RoyalCourt", name := "outputAt", desc := "(I)C" } : Jvm.MethodName)) ∈ lw_all := lw_g (lw_at lw_m7 204 rfl) rfl
theorem q1714 : (Jvm.Cond.methodLink "RoyalCourtLaw" (325 : Nat) ({ cls := "RoyalCourtLaw", name := "undo", desc := "(LRoyalCourt;[J)I" } : Jvm.MethodName)) ∈ lw_all := lw_g (lw_at lw_m7 208 rfl) rfl
theorem q1715 : (Jvm.Cond.static ({ cls := "RoyalCourtLaw", name := "undo", desc := "(LRoyalCourt;[J)I" } : Jvm.MethodName)) ∈ lw_all := lw_g (lw_at lw_m7 209 rfl) rfl
theorem q1716 : (Jvm.Cond.codeWith ({ cls := "RoyalCourtLaw", name := "undo", desc := "(LRoyalCourt;[J)I" } : Jvm.MethodName) method_38_code (3 : Nat) (Option.some Jvm.ClassFile.FieldType.int) [((0 : Nat), (8 : Nat), (11 : Nat), (15 : Nat))]) ∈ lw_all := lw_g (lw_at lw_m7 210 rfl) rfl
theorem q1717 : (Jvm.Cond.methodLink "RoyalCourtLaw" (136 : Nat) ({ cls := "RoyalCourt", name := "undo", desc := "()I" } : Jvm.MethodName)) ∈ lw_all := lw_g (lw_at lw_m7 211 rfl) rfl
theorem q1728 : (Jvm.Cond.methodLink "RoyalCourtLaw" (336 : Nat) ({ cls := "RoyalCourtLaw", name := "restore", desc := "(LRoyalCourt;[J)I" } : Jvm.MethodName)) ∈ lw_all := lw_g (lw_at lw_m7 222 rfl) rfl
theorem q1729 : (Jvm.Cond.static ({ cls := "RoyalCourtLaw", name := "restore", desc := "(LRoyalCourt;[J)I" } : Jvm.MethodName)) ∈ lw_all := lw_g (lw_at lw_m7 223 rfl) rfl
theorem q1730 : (Jvm.Cond.codeWith ({ cls := "RoyalCourtLaw", name := "restore", desc := "(LRoyalCourt;[J)I" } : Jvm.MethodName) method_39_code (3 : Nat) (Option.some Jvm.ClassFile.FieldType.int) [((0 : Nat), (8 : Nat), (11 : Nat), (15 : Nat))]) ∈ lw_all := lw_g (lw_at lw_m7 224 rfl) rfl
theorem q1731 : (Jvm.Cond.methodLink "RoyalCourtLaw" (139 : Nat) ({ cls := "RoyalCourt", name := "restore", desc := "()I" } : Jvm.MethodName)) ∈ lw_all := lw_g (lw_at lw_m7 225 rfl) rfl
theorem q1735 : (Jvm.Cond.classLink "RoyalCourtLaw" (143 : Nat) "RoyalCourtModel") ∈ lw_all := lw_g (lw_at lw_m7 229 rfl) rfl
theorem q1737 : (Jvm.Cond.methodLink "RoyalCourtLaw" (145 : Nat) ({ cls := "RoyalCourtModel", name := "<init>", desc := "()V" } : Jvm.MethodName)) ∈ lw_all := lw_g (lw_at lw_m7 231 rfl) rfl
theorem q1802 : (Jvm.Cond.methodLink "RoyalCourtLaw" (152 : Nat) ({ cls := "RoyalCourtModel", name := "thrown", desc := "()I" } : Jvm.MethodName)) ∈ lw_all := lw_g (lw_at lw_m8 56 rfl) rfl
theorem q1806 : (Jvm.Cond.methodLink "RoyalCourtLaw" (151 : Nat) ({ cls := "RoyalCourtModel", name := "addCourtier", desc := "(I)I" } : Jvm.MethodName)) ∈ lw_all := lw_g (lw_at lw_m8 60 rfl) rfl
theorem q1824 : (Jvm.Cond.methodLink "RoyalCourtLaw" (158 : Nat) ({ cls := "RoyalCourtModel", name := "addRule", desc := "(II)I" } : Jvm.MethodName)) ∈ lw_all := lw_g (lw_at lw_m8 78 rfl) rfl
theorem q1851 : (Jvm.Cond.methodLink "RoyalCourtLaw" (161 : Nat) ({ cls := "RoyalCourtModel", name := "removeRule", desc := "(II)I" } : Jvm.MethodName)) ∈ lw_all := lw_g (lw_at lw_m8 105 rfl) rfl
theorem q1855 : (Jvm.Cond.methodLink "RoyalCourtLaw" (165 : Nat) ({ cls := "RoyalCourtModel", name := "courtierCount", desc := "()I" } : Jvm.MethodName)) ∈ lw_all := lw_g (lw_at lw_m8 109 rfl) rfl
theorem q1859 : (Jvm.Cond.methodLink "RoyalCourtLaw" (168 : Nat) ({ cls := "RoyalCourtModel", name := "dignityOf", desc := "(I)I" } : Jvm.MethodName)) ∈ lw_all := lw_g (lw_at lw_m8 113 rfl) rfl
theorem q1867 : (Jvm.Cond.methodLink "RoyalCourtLaw" (171 : Nat) ({ cls := "RoyalCourtModel", name := "favorOf", desc := "(I)I" } : Jvm.MethodName)) ∈ lw_all := lw_g (lw_at lw_m8 121 rfl) rfl
theorem q1871 : (Jvm.Cond.methodLink "RoyalCourtLaw" (175 : Nat) ({ cls := "RoyalCourtModel", name := "ruleCount", desc := "()I" } : Jvm.MethodName)) ∈ lw_all := lw_g (lw_at lw_m8 125 rfl) rfl
theorem q1875 : (Jvm.Cond.methodLink "RoyalCourtLaw" (178 : Nat) ({ cls := "RoyalCourtModel", name := "precedes", desc := "(II)Z" } : Jvm.MethodName)) ∈ lw_all := lw_g (lw_at lw_m8 129 rfl) rfl
theorem q1879 : (Jvm.Cond.methodLink "RoyalCourtLaw" (181 : Nat) ({ cls := "RoyalCourtModel", name := "courtierByDignity", desc := "(I)I" } : Jvm.MethodName)) ∈ lw_all := lw_g (lw_at lw_m8 133 rfl) rfl
theorem q1883 : (Jvm.Cond.methodLink "RoyalCourtLaw" (186 : Nat) ({ cls := "RoyalCourtModel", name := "processions", desc := "()J" } : Jvm.MethodName)) ∈ lw_all := lw_g (lw_at lw_m8 137 rfl) rfl
theorem q1899 : (Jvm.Cond.methodLink "RoyalCourtLaw" (190 : Nat) ({ cls := "RoyalCourtModel", name := "processionsByTrying", desc := "()J" } : Jvm.MethodName)) ∈ lw_all := lw_g (lw_at lw_m8 153 rfl) rfl
theorem q1903 : (Jvm.Cond.methodLink "RoyalCourtLaw" (193 : Nat) ({ cls := "RoyalCourtModel", name := "firstProcessionAt", desc := "(I)I" } : Jvm.MethodName)) ∈ lw_all := lw_g (lw_at lw_m8 157 rfl) rfl
theorem q1915 : (Jvm.Cond.methodLink "RoyalCourtLaw" (196 : Nat) ({ cls := "RoyalCourtModel", name := "grandProcessionAt", desc := "(I)I" } : Jvm.MethodName)) ∈ lw_all := lw_g (lw_at lw_m8 169 rfl) rfl
theorem q1919 : (Jvm.Cond.methodLink "RoyalCourtLaw" (199 : Nat) ({ cls := "RoyalCourtModel", name := "lowestPlaceOf", desc := "(I)I" } : Jvm.MethodName)) ∈ lw_all := lw_g (lw_at lw_m8 173 rfl) rfl
theorem q1923 : (Jvm.Cond.methodLink "RoyalCourtLaw" (203 : Nat) ({ cls := "RoyalCourtModel", name := "type", desc := "(C)I" } : Jvm.MethodName)) ∈ lw_all := lw_g (lw_at lw_m8 177 rfl) rfl
theorem q1927 : (Jvm.Cond.methodLink "RoyalCourtLaw" (207 : Nat) ({ cls := "RoyalCourtModel", name := "clearText", desc := "()I" } : Jvm.MethodName)) ∈ lw_all := lw_g (lw_at lw_m8 181 rfl) rfl
theorem q1931 : (Jvm.Cond.methodLink "RoyalCourtLaw" (212 : Nat) ({ cls := "RoyalCourtModel", name := "isReadable", desc := "()Z" } : Jvm.MethodName)) ∈ lw_all := lw_g (lw_at lw_m8 185 rfl) rfl
theorem q1951 : (Jvm.Cond.methodLink "RoyalCourtLaw" (216 : Nat) ({ cls := "RoyalCourtModel", name := "insultCount", desc := "()I" } : Jvm.MethodName)) ∈ lw_all := lw_g (lw_at lw_m8 205 rfl) rfl
theorem q1959 : (Jvm.Cond.methodLink "RoyalCourtLaw" (220 : Nat) ({ cls := "RoyalCourtModel", name := "removals", desc := "()I" } : Jvm.MethodName)) ∈ lw_all := lw_g (lw_at lw_m8 213 rfl) rfl
theorem q1978 : (Jvm.Cond.methodLink "RoyalCourtLaw" (223 : Nat) ({ cls := "RoyalCourtModel", name := "removalsByParts", desc := "()I" } : Jvm.MethodName)) ∈ lw_all := lw_g (lw_at lw_m8 232 rfl) rfl
theorem q1982 : (Jvm.Cond.methodLink "RoyalCourtLaw" (226 : Nat) ({ cls := "RoyalCourtModel", name := "textError", desc := "()I" } : Jvm.MethodName)) ∈ lw_all := lw_g (lw_at lw_m8 236 rfl) rfl
theorem q1986 : (Jvm.Cond.methodLink "RoyalCourtLaw" (229 : Nat) ({ cls := "RoyalCourtModel", name := "submit", desc := "(I)I" } : Jvm.MethodName)) ∈ lw_all := lw_g (lw_at lw_m9 0 rfl) rfl
theorem q1997 : (Jvm.Cond.methodLink "RoyalCourtLaw" (232 : Nat) ({ cls := "RoyalCourtModel", name := "grant", desc := "(I)I" } : Jvm.MethodName)) ∈ lw_all := lw_g (lw_at lw_m9 11 rfl) rfl
theorem q2025 : (Jvm.Cond.methodLink "RoyalCourtLaw" (235 : Nat) ({ cls := "RoyalCourtModel", name := "withdraw", desc := "(I)I" } : Jvm.MethodName)) ∈ lw_all := lw_g (lw_at lw_m9 39 rfl) rfl
theorem q2029 : (Jvm.Cond.methodLink "RoyalCourtLaw" (238 : Nat) ({ cls := "RoyalCourtModel", name := "errorPosition", desc := "()I" } : Jvm.MethodName)) ∈ lw_all := lw_g (lw_at lw_m9 43 rfl) rfl
theorem q2033 : (Jvm.Cond.methodLink "RoyalCourtLaw" (242 : Nat) ({ cls := "RoyalCourtModel", name := "requestCount", desc := "()I" } : Jvm.MethodName)) ∈ lw_all := lw_g (lw_at lw_m9 47 rfl) rfl
theorem q2037 : (Jvm.Cond.methodLink "RoyalCourtLaw" (245 : Nat) ({ cls := "RoyalCourtModel", name := "courtierOf", desc := "(I)I" } : Jvm.MethodName)) ∈ lw_all := lw_g (lw_at lw_m9 51 rfl) rfl
theorem q2041 : (Jvm.Cond.methodLink "RoyalCourtLaw" (248 : Nat) ({ cls := "RoyalCourtModel", name := "valueOf", desc := "(I)I" } : Jvm.MethodName)) ∈ lw_all := lw_g (lw_at lw_m9 55 rfl) rfl
theorem q2045 : (Jvm.Cond.methodLink "RoyalCourtLaw" (251 : Nat) ({ cls := "RoyalCourtModel", name := "lengthOf", desc := "(I)I" } : Jvm.MethodName)) ∈ lw_all := lw_g (lw_at lw_m9 59 rfl) rfl
theorem q2053 : (Jvm.Cond.methodLink "RoyalCourtLaw" (254 : Nat) ({ cls := "RoyalCourtModel", name := "symbolOf", desc := "(II)C" } : Jvm.MethodName)) ∈ lw_all := lw_g (lw_at lw_m9 67 rfl) rfl
theorem q2057 : (Jvm.Cond.methodLink "RoyalCourtLaw" (257 : Nat) ({ cls := "RoyalCourtModel", name := "depthOf", desc := "(I)I" } : Jvm.MethodName)) ∈ lw_all := lw_g (lw_at lw_m9 71 rfl) rfl
theorem q2061 : (Jvm.Cond.methodLink "RoyalCourtLaw" (261 : Nat) ({ cls := "RoyalCourtModel", name := "countOf", desc := "(IC)I" } : Jvm.MethodName)) ∈ lw_all := lw_g (lw_at lw_m9 75 rfl) rfl
theorem q2065 : (Jvm.Cond.methodLink "RoyalCourtLaw" (264 : Nat) ({ cls := "RoyalCourtModel", name := "areAlike", desc := "(II)Z" } : Jvm.MethodName)) ∈ lw_all := lw_g (lw_at lw_m9 79 rfl) rfl
theorem q2069 : (Jvm.Cond.methodLink "RoyalCourtLaw" (267 : Nat) ({ cls := "RoyalCourtModel", name := "requestByValue", desc := "(I)I" } : Jvm.MethodName)) ∈ lw_all := lw_g (lw_at lw_m9 83 rfl) rfl
theorem q2073 : (Jvm.Cond.methodLink "RoyalCourtLaw" (270 : Nat) ({ cls := "RoyalCourtModel", name := "setWidth", desc := "(I)I" } : Jvm.MethodName)) ∈ lw_all := lw_g (lw_at lw_m9 87 rfl) rfl
theorem q2077 : (Jvm.Cond.methodLink "RoyalCourtLaw" (274 : Nat) ({ cls := "RoyalCourtModel", name := "width", desc := "()I" } : Jvm.MethodName)) ∈ lw_all := lw_g (lw_at lw_m9 91 rfl) rfl
theorem q2081 : (Jvm.Cond.methodLink "RoyalCourtLaw" (277 : Nat) ({ cls := "RoyalCourtModel", name := "raggedness", desc := "()I" } : Jvm.MethodName)) ∈ lw_all := lw_g (lw_at lw_m9 95 rfl) rfl
theorem q2090 : (Jvm.Cond.methodLink "RoyalCourtLaw" (280 : Nat) ({ cls := "RoyalCourtModel", name := "raggednessByTrying", desc := "()I" } : Jvm.MethodName)) ∈ lw_all := lw_g (lw_at lw_m9 104 rfl) rfl
theorem q2094 : (Jvm.Cond.methodLink "RoyalCourtLaw" (283 : Nat) ({ cls := "RoyalCourtModel", name := "lineCount", desc := "()I" } : Jvm.MethodName)) ∈ lw_all := lw_g (lw_at lw_m9 108 rfl) rfl
theorem q2102 : (Jvm.Cond.methodLink "RoyalCourtLaw" (286 : Nat) ({ cls := "RoyalCourtModel", name := "lineOf", desc := "(I)I" } : Jvm.MethodName)) ∈ lw_all := lw_g (lw_at lw_m9 116 rfl) rfl
theorem q2106 : (Jvm.Cond.methodLink "RoyalCourtLaw" (290 : Nat) ({ cls := "RoyalCourtModel", name := "grantedCount", desc := "()I" } : Jvm.MethodName)) ∈ lw_all := lw_g (lw_at lw_m9 120 rfl) rfl
theorem q2110 : (Jvm.Cond.methodLink "RoyalCourtLaw" (294 : Nat) ({ cls := "RoyalCourtModel", name := "spent", desc := "()J" } : Jvm.MethodName)) ∈ lw_all := lw_g (lw_at lw_m9 124 rfl) rfl
theorem q2114 : (Jvm.Cond.methodLink "RoyalCourtLaw" (298 : Nat) ({ cls := "RoyalCourtModel", name := "gained", desc := "()I" } : Jvm.MethodName)) ∈ lw_all := lw_g (lw_at lw_m9 128 rfl) rfl
theorem q2118 : (Jvm.Cond.methodLink "RoyalCourtLaw" (302 : Nat) ({ cls := "RoyalCourtModel", name := "lost", desc := "()I" } : Jvm.MethodName)) ∈ lw_all := lw_g (lw_at lw_m9 132 rfl) rfl
theorem q2122 : (Jvm.Cond.methodLink "RoyalCourtLaw" (306 : Nat) ({ cls := "RoyalCourtModel", name := "meanValue", desc := "()D" } : Jvm.MethodName)) ∈ lw_all := lw_g (lw_at lw_m9 136 rfl) rfl
theorem q2126 : (Jvm.Cond.methodLink "RoyalCourtLaw" (310 : Nat) ({ cls := "RoyalCourtModel", name := "favorShare", desc := "(I)F" } : Jvm.MethodName)) ∈ lw_all := lw_g (lw_at lw_m9 140 rfl) rfl
theorem q2134 : (Jvm.Cond.methodLink "RoyalCourtLaw" (313 : Nat) ({ cls := "RoyalCourtModel", name := "writeLine", desc := "(I)I" } : Jvm.MethodName)) ∈ lw_all := lw_g (lw_at lw_m9 148 rfl) rfl
theorem q2142 : (Jvm.Cond.methodLink "RoyalCourtLaw" (317 : Nat) ({ cls := "RoyalCourtModel", name := "writeProcession", desc := "()I" } : Jvm.MethodName)) ∈ lw_all := lw_g (lw_at lw_m9 156 rfl) rfl
theorem q2146 : (Jvm.Cond.methodLink "RoyalCourtLaw" (320 : Nat) ({ cls := "RoyalCourtModel", name := "outputAt", desc := "(I)C" } : Jvm.MethodName)) ∈ lw_all := lw_g (lw_at lw_m9 160 rfl) rfl
theorem q2150 : (Jvm.Cond.methodLink "RoyalCourtLaw" (324 : Nat) ({ cls := "RoyalCourtModel", name := "isConsistent", desc := "()Z" } : Jvm.MethodName)) ∈ lw_all := lw_g (lw_at lw_m9 164 rfl) rfl
theorem q2154 : (Jvm.Cond.methodLink "RoyalCourtLaw" (327 : Nat) ({ cls := "RoyalCourtModel", name := "undo", desc := "()I" } : Jvm.MethodName)) ∈ lw_all := lw_g (lw_at lw_m9 168 rfl) rfl
theorem q2158 : (Jvm.Cond.methodLink "RoyalCourtLaw" (331 : Nat) ({ cls := "RoyalCourtModel", name := "undoCount", desc := "()I" } : Jvm.MethodName)) ∈ lw_all := lw_g (lw_at lw_m9 172 rfl) rfl
theorem q2162 : (Jvm.Cond.methodLink "RoyalCourtLaw" (335 : Nat) ({ cls := "RoyalCourtModel", name := "save", desc := "()I" } : Jvm.MethodName)) ∈ lw_all := lw_g (lw_at lw_m9 176 rfl) rfl
theorem q2166 : (Jvm.Cond.methodLink "RoyalCourtLaw" (338 : Nat) ({ cls := "RoyalCourtModel", name := "restore", desc := "()I" } : Jvm.MethodName)) ∈ lw_all := lw_g (lw_at lw_m9 180 rfl) rfl
