/-! RoyalCourt -/
set_option maxRecDepth 100000
def RX1 : String := "RoyalCourt"
def TX1 : u_T := fun k => match k with
  | 0 => ("RoyalCourt", "state", "LRoyalCourt$State;", true)
  | 1 => ("RoyalCourt", "attempt", "LRoyalCourt$State;", true)
  | 2 => ("RoyalCourt", "snapshot", "LRoyalCourt$State;", true)
  | 3 => ("RoyalCourt", "hasSnapshot", "Z", false)
  | 4 => ("RoyalCourt", "history", "Ljava/util/ArrayDeque;", true)
  | 5 => ("RoyalCourt", "spare", "Ljava/util/ArrayDeque;", true)
  | 6 => ("RoyalCourt", "buffer", "Ljava/lang/StringBuilder;", true)
  | 7 => ("RoyalCourt", "output", "Ljava/lang/StringBuilder;", true)
  | _ => ("RoyalCourt", "errorPosition", "I", false)
def tyX1 : Nat → FieldType := fun k => match k with
  | 0 => .object "RoyalCourt$State"
  | 1 => .object "RoyalCourt$State"
  | 2 => .object "RoyalCourt$State"
  | 3 => .boolean
  | 4 => .object "java/util/ArrayDeque"
  | 5 => .object "java/util/ArrayDeque"
  | 6 => .object "java/lang/StringBuilder"
  | 7 => .object "java/lang/StringBuilder"
  | _ => .int
abbrev wsX10 : List Cond := u_ws RX1 TX1 9
theorem nmX1 : ∀ a, a < 9 → ∀ b, b < 9 → a ≠ b → (TX1 a).2.1 ≠ (TX1 b).2.1 := by decide +kernel
theorem tyX1_ok : ∀ k, k < 9 → parseFieldDescriptor (TX1 k).2.2.1 = some (tyX1 k) := by decide +kernel
abbrev cX1_init : ByteArray := prog_1_method_5_code
def yX1_init : MethodName := ⟨RX1, "<init>", "()V"⟩
def dkwX1_init_4 : List UInt8 := [162, 0, 23, 42, 180, 0, 33, 187, 0, 13, 89, 183, 0, 15, 182, 0, 50, 132, 1, 1, 167, 255, 233, 177]
abbrev dktX1_init_4 : List UInt8 := dkwX1_init_4 ++ []
def dkwX1_init_3 : List UInt8 := [181, 0, 39, 42, 187, 0, 36, 89, 183, 0, 38, 181, 0, 43, 42, 2, 181, 0, 46, 3, 60, 27, 16, 8]
abbrev dktX1_init_3 : List UInt8 := dkwX1_init_3 ++ dktX1_init_4
def dkwX1_init_2 : List UInt8 := [181, 0, 29, 42, 187, 0, 26, 89, 183, 0, 28, 181, 0, 33, 42, 187, 0, 36, 89, 183, 0, 38]
abbrev dktX1_init_2 : List UInt8 := dkwX1_init_2 ++ dktX1_init_3
def dkwX1_init_1 : List UInt8 := [181, 0, 20, 42, 187, 0, 13, 89, 183, 0, 15, 181, 0, 23, 42, 187, 0, 26, 89, 183, 0, 28]
abbrev dktX1_init_1 : List UInt8 := dkwX1_init_1 ++ dktX1_init_2
def dkwX1_init_0 : List UInt8 := [42, 183, 0, 7, 42, 187, 0, 13, 89, 183, 0, 15, 181, 0, 16, 42, 187, 0, 13, 89, 183, 0, 15]
abbrev dktX1_init_0 : List UInt8 := dkwX1_init_0 ++ dktX1_init_1
theorem dksX1_init_0 : cX1_init.data.toList.drop 0 = dktX1_init_0 := by decide +kernel
theorem dksX1_init_1 : cX1_init.data.toList.drop 23 = dktX1_init_1 := dk_seg dksX1_init_0 23 rfl rfl
theorem dksX1_init_2 : cX1_init.data.toList.drop 45 = dktX1_init_2 := dk_seg dksX1_init_1 22 rfl rfl
theorem dksX1_init_3 : cX1_init.data.toList.drop 67 = dktX1_init_3 := dk_seg dksX1_init_2 22 rfl rfl
theorem dksX1_init_4 : cX1_init.data.toList.drop 91 = dktX1_init_4 := dk_seg dksX1_init_3 24 rfl rfl
theorem dX1_init_0 : decode cX1_init 0 = .ok (.aload_n 0, 1) := dk_42 (dk_at dksX1_init_0 0 rfl rfl)
theorem dX1_init_1 : decode cX1_init 1 = .ok (.invokespecial 7, 3) := dk_183 0 7 (dk_at dksX1_init_0 1 rfl rfl)
theorem dX1_init_4 : decode cX1_init 4 = .ok (.aload_n 0, 1) := dk_42 (dk_at dksX1_init_0 4 rfl rfl)
theorem dX1_init_5 : decode cX1_init 5 = .ok (.new 13, 3) := dk_187 0 13 (dk_at dksX1_init_0 5 rfl rfl)
theorem dX1_init_8 : decode cX1_init 8 = .ok (.dup, 1) := dk_89 (dk_at dksX1_init_0 8 rfl rfl)
theorem dX1_init_9 : decode cX1_init 9 = .ok (.invokespecial 15, 3) := dk_183 0 15 (dk_at dksX1_init_0 9 rfl rfl)
theorem dX1_init_12 : decode cX1_init 12 = .ok (.putfield 16, 3) := dk_181 0 16 (dk_at dksX1_init_0 12 rfl rfl)
theorem dX1_init_15 : decode cX1_init 15 = .ok (.aload_n 0, 1) := dk_42 (dk_at dksX1_init_0 15 rfl rfl)
theorem dX1_init_16 : decode cX1_init 16 = .ok (.new 13, 3) := dk_187 0 13 (dk_at dksX1_init_0 16 rfl rfl)
theorem dX1_init_19 : decode cX1_init 19 = .ok (.dup, 1) := dk_89 (dk_at dksX1_init_0 19 rfl rfl)
theorem dX1_init_20 : decode cX1_init 20 = .ok (.invokespecial 15, 3) := dk_183 0 15 (dk_at dksX1_init_0 20 rfl rfl)
theorem dX1_init_23 : decode cX1_init 23 = .ok (.putfield 20, 3) := dk_181 0 20 (dk_at dksX1_init_1 0 rfl rfl)
theorem dX1_init_26 : decode cX1_init 26 = .ok (.aload_n 0, 1) := dk_42 (dk_at dksX1_init_1 3 rfl rfl)
theorem dX1_init_27 : decode cX1_init 27 = .ok (.new 13, 3) := dk_187 0 13 (dk_at dksX1_init_1 4 rfl rfl)
theorem dX1_init_30 : decode cX1_init 30 = .ok (.dup, 1) := dk_89 (dk_at dksX1_init_1 7 rfl rfl)
theorem dX1_init_31 : decode cX1_init 31 = .ok (.invokespecial 15, 3) := dk_183 0 15 (dk_at dksX1_init_1 8 rfl rfl)
theorem dX1_init_34 : decode cX1_init 34 = .ok (.putfield 23, 3) := dk_181 0 23 (dk_at dksX1_init_1 11 rfl rfl)
theorem dX1_init_37 : decode cX1_init 37 = .ok (.aload_n 0, 1) := dk_42 (dk_at dksX1_init_1 14 rfl rfl)
theorem dX1_init_38 : decode cX1_init 38 = .ok (.new 26, 3) := dk_187 0 26 (dk_at dksX1_init_1 15 rfl rfl)
theorem dX1_init_41 : decode cX1_init 41 = .ok (.dup, 1) := dk_89 (dk_at dksX1_init_1 18 rfl rfl)
theorem dX1_init_42 : decode cX1_init 42 = .ok (.invokespecial 28, 3) := dk_183 0 28 (dk_at dksX1_init_1 19 rfl rfl)
theorem dX1_init_45 : decode cX1_init 45 = .ok (.putfield 29, 3) := dk_181 0 29 (dk_at dksX1_init_2 0 rfl rfl)
theorem dX1_init_48 : decode cX1_init 48 = .ok (.aload_n 0, 1) := dk_42 (dk_at dksX1_init_2 3 rfl rfl)
theorem dX1_init_49 : decode cX1_init 49 = .ok (.new 26, 3) := dk_187 0 26 (dk_at dksX1_init_2 4 rfl rfl)
theorem dX1_init_52 : decode cX1_init 52 = .ok (.dup, 1) := dk_89 (dk_at dksX1_init_2 7 rfl rfl)
theorem dX1_init_53 : decode cX1_init 53 = .ok (.invokespecial 28, 3) := dk_183 0 28 (dk_at dksX1_init_2 8 rfl rfl)
theorem dX1_init_56 : decode cX1_init 56 = .ok (.putfield 33, 3) := dk_181 0 33 (dk_at dksX1_init_2 11 rfl rfl)
theorem dX1_init_59 : decode cX1_init 59 = .ok (.aload_n 0, 1) := dk_42 (dk_at dksX1_init_2 14 rfl rfl)
theorem dX1_init_60 : decode cX1_init 60 = .ok (.new 36, 3) := dk_187 0 36 (dk_at dksX1_init_2 15 rfl rfl)
theorem dX1_init_63 : decode cX1_init 63 = .ok (.dup, 1) := dk_89 (dk_at dksX1_init_2 18 rfl rfl)
theorem dX1_init_64 : decode cX1_init 64 = .ok (.invokespecial 38, 3) := dk_183 0 38 (dk_at dksX1_init_2 19 rfl rfl)
theorem dX1_init_67 : decode cX1_init 67 = .ok (.putfield 39, 3) := dk_181 0 39 (dk_at dksX1_init_3 0 rfl rfl)
theorem dX1_init_70 : decode cX1_init 70 = .ok (.aload_n 0, 1) := dk_42 (dk_at dksX1_init_3 3 rfl rfl)
theorem dX1_init_71 : decode cX1_init 71 = .ok (.new 36, 3) := dk_187 0 36 (dk_at dksX1_init_3 4 rfl rfl)
theorem dX1_init_74 : decode cX1_init 74 = .ok (.dup, 1) := dk_89 (dk_at dksX1_init_3 7 rfl rfl)
theorem dX1_init_75 : decode cX1_init 75 = .ok (.invokespecial 38, 3) := dk_183 0 38 (dk_at dksX1_init_3 8 rfl rfl)
theorem dX1_init_78 : decode cX1_init 78 = .ok (.putfield 43, 3) := dk_181 0 43 (dk_at dksX1_init_3 11 rfl rfl)
theorem dX1_init_81 : decode cX1_init 81 = .ok (.aload_n 0, 1) := dk_42 (dk_at dksX1_init_3 14 rfl rfl)
theorem dX1_init_82 : decode cX1_init 82 = .ok (.iconst (-1), 1) := dk_2 (dk_at dksX1_init_3 15 rfl rfl)
theorem dX1_init_83 : decode cX1_init 83 = .ok (.putfield 46, 3) := dk_181 0 46 (dk_at dksX1_init_3 16 rfl rfl)
theorem dX1_init_86 : decode cX1_init 86 = .ok (.iconst 0, 1) := dk_3 (dk_at dksX1_init_3 19 rfl rfl)
theorem dX1_init_87 : decode cX1_init 87 = .ok (.istore_n 1, 1) := dk_60 (dk_at dksX1_init_3 20 rfl rfl)
theorem dX1_init_88 : decode cX1_init 88 = .ok (.iload_n 1, 1) := dk_27 (dk_at dksX1_init_3 21 rfl rfl)
theorem dX1_init_89 : decode cX1_init 89 = .ok (.bipush 8, 2) := dk_16 8 (dk_at dksX1_init_3 22 rfl rfl)
theorem dX1_init_91 : decode cX1_init 91 = .ok (.if_icmp .ge 23, 3) := dk_162 0 23 (dk_at dksX1_init_4 0 rfl rfl)
theorem dX1_init_94 : decode cX1_init 94 = .ok (.aload_n 0, 1) := dk_42 (dk_at dksX1_init_4 3 rfl rfl)
theorem dX1_init_95 : decode cX1_init 95 = .ok (.getfield 33, 3) := dk_180 0 33 (dk_at dksX1_init_4 4 rfl rfl)
theorem dX1_init_98 : decode cX1_init 98 = .ok (.new 13, 3) := dk_187 0 13 (dk_at dksX1_init_4 7 rfl rfl)
theorem dX1_init_101 : decode cX1_init 101 = .ok (.dup, 1) := dk_89 (dk_at dksX1_init_4 10 rfl rfl)
theorem dX1_init_102 : decode cX1_init 102 = .ok (.invokespecial 15, 3) := dk_183 0 15 (dk_at dksX1_init_4 11 rfl rfl)
theorem dX1_init_105 : decode cX1_init 105 = .ok (.invokevirtual 50, 3) := dk_182 0 50 (dk_at dksX1_init_4 14 rfl rfl)
theorem dX1_init_108 : decode cX1_init 108 = .ok (.iinc 1 1, 3) := dk_132 1 1 (dk_at dksX1_init_4 17 rfl rfl)
theorem dX1_init_111 : decode cX1_init 111 = .ok (.goto (-23), 3) := dk_167 255 233 (dk_at dksX1_init_4 20 rfl rfl)
theorem dX1_init_114 : decode cX1_init 114 = .ok (.return_, 1) := dk_177 (dk_at dksX1_init_4 23 rfl rfl)
abbrev cX1_courtierCount : ByteArray := prog_1_method_18_code
def yX1_courtierCount : MethodName := ⟨RX1, "courtierCount", "()I"⟩
def dkwX1_courtierCount_0 : List UInt8 := [42, 180, 0, 16, 180, 0, 106, 172]
abbrev dktX1_courtierCount_0 : List UInt8 := dkwX1_courtierCount_0 ++ []
theorem dksX1_courtierCount_0 : cX1_courtierCount.data.toList.drop 0 = dktX1_courtierCount_0 := by decide +kernel
theorem dX1_courtierCount_0 : decode cX1_courtierCount 0 = .ok (.aload_n 0, 1) := dk_42 (dk_at dksX1_courtierCount_0 0 rfl rfl)
theorem dX1_courtierCount_1 : decode cX1_courtierCount 1 = .ok (.getfield 16, 3) := dk_180 0 16 (dk_at dksX1_courtierCount_0 1 rfl rfl)
theorem dX1_courtierCount_4 : decode cX1_courtierCount 4 = .ok (.getfield 106, 3) := dk_180 0 106 (dk_at dksX1_courtierCount_0 4 rfl rfl)
theorem dX1_courtierCount_7 : decode cX1_courtierCount 7 = .ok (.ireturn, 1) := dk_172 (dk_at dksX1_courtierCount_0 7 rfl rfl)
abbrev cX1_ruleCount : ByteArray := prog_1_method_21_code
def yX1_ruleCount : MethodName := ⟨RX1, "ruleCount", "()I"⟩
def dkwX1_ruleCount_0 : List UInt8 := [42, 180, 0, 16, 180, 0, 120, 172]
abbrev dktX1_ruleCount_0 : List UInt8 := dkwX1_ruleCount_0 ++ []
theorem dksX1_ruleCount_0 : cX1_ruleCount.data.toList.drop 0 = dktX1_ruleCount_0 := by decide +kernel
theorem dX1_ruleCount_0 : decode cX1_ruleCount 0 = .ok (.aload_n 0, 1) := dk_42 (dk_at dksX1_ruleCount_0 0 rfl rfl)
theorem dX1_ruleCount_1 : decode cX1_ruleCount 1 = .ok (.getfield 16, 3) := dk_180 0 16 (dk_at dksX1_ruleCount_0 1 rfl rfl)
theorem dX1_ruleCount_4 : decode cX1_ruleCount 4 = .ok (.getfield 120, 3) := dk_180 0 120 (dk_at dksX1_ruleCount_0 4 rfl rfl)
theorem dX1_ruleCount_7 : decode cX1_ruleCount 7 = .ok (.ireturn, 1) := dk_172 (dk_at dksX1_ruleCount_0 7 rfl rfl)
abbrev cX1_processions : ByteArray := prog_1_method_24_code
def yX1_processions : MethodName := ⟨RX1, "processions", "()J"⟩
def dkwX1_processions_0 : List UInt8 := [42, 180, 0, 16, 182, 0, 137, 173]
abbrev dktX1_processions_0 : List UInt8 := dkwX1_processions_0 ++ []
theorem dksX1_processions_0 : cX1_processions.data.toList.drop 0 = dktX1_processions_0 := by decide +kernel
theorem dX1_processions_0 : decode cX1_processions 0 = .ok (.aload_n 0, 1) := dk_42 (dk_at dksX1_processions_0 0 rfl rfl)
theorem dX1_processions_1 : decode cX1_processions 1 = .ok (.getfield 16, 3) := dk_180 0 16 (dk_at dksX1_processions_0 1 rfl rfl)
theorem dX1_processions_4 : decode cX1_processions 4 = .ok (.invokevirtual 137, 3) := dk_182 0 137 (dk_at dksX1_processions_0 4 rfl rfl)
theorem dX1_processions_7 : decode cX1_processions 7 = .ok (.lreturn, 1) := dk_173 (dk_at dksX1_processions_0 7 rfl rfl)
abbrev cX1_isIn : ByteArray := prog_1_method_2_code
def yX1_isIn : MethodName := ⟨RX1, "isIn", "(II)Z"⟩
def dkwX1_isIn_0 : List UInt8 := [26, 27, 122, 4, 126, 4, 160, 0, 7, 4, 167, 0, 4, 3, 172]
abbrev dktX1_isIn_0 : List UInt8 := dkwX1_isIn_0 ++ []
theorem dksX1_isIn_0 : cX1_isIn.data.toList.drop 0 = dktX1_isIn_0 := by decide +kernel
theorem dX1_isIn_0 : decode cX1_isIn 0 = .ok (.iload_n 0, 1) := dk_26 (dk_at dksX1_isIn_0 0 rfl rfl)
theorem dX1_isIn_1 : decode cX1_isIn 1 = .ok (.iload_n 1, 1) := dk_27 (dk_at dksX1_isIn_0 1 rfl rfl)
theorem dX1_isIn_2 : decode cX1_isIn 2 = .ok (.ishr, 1) := dk_122 (dk_at dksX1_isIn_0 2 rfl rfl)
theorem dX1_isIn_3 : decode cX1_isIn 3 = .ok (.iconst 1, 1) := dk_4 (dk_at dksX1_isIn_0 3 rfl rfl)
theorem dX1_isIn_4 : decode cX1_isIn 4 = .ok (.iand, 1) := dk_126 (dk_at dksX1_isIn_0 4 rfl rfl)
theorem dX1_isIn_5 : decode cX1_isIn 5 = .ok (.iconst 1, 1) := dk_4 (dk_at dksX1_isIn_0 5 rfl rfl)
theorem dX1_isIn_6 : decode cX1_isIn 6 = .ok (.if_icmp .ne 7, 3) := dk_160 0 7 (dk_at dksX1_isIn_0 6 rfl rfl)
theorem dX1_isIn_9 : decode cX1_isIn 9 = .ok (.iconst 1, 1) := dk_4 (dk_at dksX1_isIn_0 9 rfl rfl)
theorem dX1_isIn_10 : decode cX1_isIn 10 = .ok (.goto 4, 3) := dk_167 0 4 (dk_at dksX1_isIn_0 10 rfl rfl)
theorem dX1_isIn_13 : decode cX1_isIn 13 = .ok (.iconst 0, 1) := dk_3 (dk_at dksX1_isIn_0 13 rfl rfl)
theorem dX1_isIn_14 : decode cX1_isIn 14 = .ok (.ireturn, 1) := dk_172 (dk_at dksX1_isIn_0 14 rfl rfl)
abbrev cX1_processionsByTrying : ByteArray := prog_1_method_25_code
def yX1_processionsByTrying : MethodName := ⟨RX1, "processionsByTrying", "()J"⟩
def dkwX1_processionsByTrying_0 : List UInt8 := [42, 180, 0, 16, 182, 0, 141, 173]
abbrev dktX1_processionsByTrying_0 : List UInt8 := dkwX1_processionsByTrying_0 ++ []
theorem dksX1_processionsByTrying_0 : cX1_processionsByTrying.data.toList.drop 0 = dktX1_processionsByTrying_0 := by decide +kernel
theorem dX1_processionsByTrying_0 : decode cX1_processionsByTrying 0 = .ok (.aload_n 0, 1) := dk_42 (dk_at dksX1_processionsByTrying_0 0 rfl rfl)
theorem dX1_processionsByTrying_1 : decode cX1_processionsByTrying 1 = .ok (.getfield 16, 3) := dk_180 0 16 (dk_at dksX1_processionsByTrying_0 1 rfl rfl)
theorem dX1_processionsByTrying_4 : decode cX1_processionsByTrying 4 = .ok (.invokevirtual 141, 3) := dk_182 0 141 (dk_at dksX1_processionsByTrying_0 4 rfl rfl)
theorem dX1_processionsByTrying_7 : decode cX1_processionsByTrying 7 = .ok (.lreturn, 1) := dk_173 (dk_at dksX1_processionsByTrying_0 7 rfl rfl)
abbrev cX1_clearText : ByteArray := prog_1_method_31_code
def yX1_clearText : MethodName := ⟨RX1, "clearText", "()I"⟩
def dkwX1_clearText_0 : List UInt8 := [42, 180, 0, 39, 182, 0, 160, 60, 42, 180, 0, 39, 3, 182, 0, 171, 27, 172]
abbrev dktX1_clearText_0 : List UInt8 := dkwX1_clearText_0 ++ []
theorem dksX1_clearText_0 : cX1_clearText.data.toList.drop 0 = dktX1_clearText_0 := by decide +kernel
theorem dX1_clearText_0 : decode cX1_clearText 0 = .ok (.aload_n 0, 1) := dk_42 (dk_at dksX1_clearText_0 0 rfl rfl)
theorem dX1_clearText_1 : decode cX1_clearText 1 = .ok (.getfield 39, 3) := dk_180 0 39 (dk_at dksX1_clearText_0 1 rfl rfl)
theorem dX1_clearText_4 : decode cX1_clearText 4 = .ok (.invokevirtual 160, 3) := dk_182 0 160 (dk_at dksX1_clearText_0 4 rfl rfl)
theorem dX1_clearText_7 : decode cX1_clearText 7 = .ok (.istore_n 1, 1) := dk_60 (dk_at dksX1_clearText_0 7 rfl rfl)
theorem dX1_clearText_8 : decode cX1_clearText 8 = .ok (.aload_n 0, 1) := dk_42 (dk_at dksX1_clearText_0 8 rfl rfl)
theorem dX1_clearText_9 : decode cX1_clearText 9 = .ok (.getfield 39, 3) := dk_180 0 39 (dk_at dksX1_clearText_0 9 rfl rfl)
theorem dX1_clearText_12 : decode cX1_clearText 12 = .ok (.iconst 0, 1) := dk_3 (dk_at dksX1_clearText_0 12 rfl rfl)
theorem dX1_clearText_13 : decode cX1_clearText 13 = .ok (.invokevirtual 171, 3) := dk_182 0 171 (dk_at dksX1_clearText_0 13 rfl rfl)
theorem dX1_clearText_16 : decode cX1_clearText 16 = .ok (.iload_n 1, 1) := dk_27 (dk_at dksX1_clearText_0 16 rfl rfl)
theorem dX1_clearText_17 : decode cX1_clearText 17 = .ok (.ireturn, 1) := dk_172 (dk_at dksX1_clearText_0 17 rfl rfl)
abbrev cX1_isReadable : ByteArray := prog_1_method_33_code
def yX1_isReadable : MethodName := ⟨RX1, "isReadable", "()Z"⟩
def dkwX1_isReadable_0 : List UInt8 := [42, 182, 0, 187, 2, 160, 0, 7, 4, 167, 0, 4, 3, 172]
abbrev dktX1_isReadable_0 : List UInt8 := dkwX1_isReadable_0 ++ []
theorem dksX1_isReadable_0 : cX1_isReadable.data.toList.drop 0 = dktX1_isReadable_0 := by decide +kernel
theorem dX1_isReadable_0 : decode cX1_isReadable 0 = .ok (.aload_n 0, 1) := dk_42 (dk_at dksX1_isReadable_0 0 rfl rfl)
theorem dX1_isReadable_1 : decode cX1_isReadable 1 = .ok (.invokevirtual 187, 3) := dk_182 0 187 (dk_at dksX1_isReadable_0 1 rfl rfl)
theorem dX1_isReadable_4 : decode cX1_isReadable 4 = .ok (.iconst (-1), 1) := dk_2 (dk_at dksX1_isReadable_0 4 rfl rfl)
theorem dX1_isReadable_5 : decode cX1_isReadable 5 = .ok (.if_icmp .ne 7, 3) := dk_160 0 7 (dk_at dksX1_isReadable_0 5 rfl rfl)
theorem dX1_isReadable_8 : decode cX1_isReadable 8 = .ok (.iconst 1, 1) := dk_4 (dk_at dksX1_isReadable_0 8 rfl rfl)
theorem dX1_isReadable_9 : decode cX1_isReadable 9 = .ok (.goto 4, 3) := dk_167 0 4 (dk_at dksX1_isReadable_0 9 rfl rfl)
theorem dX1_isReadable_12 : decode cX1_isReadable 12 = .ok (.iconst 0, 1) := dk_3 (dk_at dksX1_isReadable_0 12 rfl rfl)
theorem dX1_isReadable_13 : decode cX1_isReadable 13 = .ok (.ireturn, 1) := dk_172 (dk_at dksX1_isReadable_0 13 rfl rfl)
abbrev cX1_errorOfText : ByteArray := prog_1_method_32_code
def yX1_errorOfText : MethodName := ⟨RX1, "errorOfText", "()I"⟩
def dkwX1_errorOfText_0 : List UInt8 := [187, 0, 174, 89, 42, 180, 0, 39, 183, 0, 176, 182, 0, 179, 87, 2, 172, 76, 43, 180, 0, 184, 172]
abbrev dktX1_errorOfText_0 : List UInt8 := dkwX1_errorOfText_0 ++ []
theorem dksX1_errorOfText_0 : cX1_errorOfText.data.toList.drop 0 = dktX1_errorOfText_0 := by decide +kernel
theorem dX1_errorOfText_0 : decode cX1_errorOfText 0 = .ok (.new 174, 3) := dk_187 0 174 (dk_at dksX1_errorOfText_0 0 rfl rfl)
theorem dX1_errorOfText_3 : decode cX1_errorOfText 3 = .ok (.dup, 1) := dk_89 (dk_at dksX1_errorOfText_0 3 rfl rfl)
theorem dX1_errorOfText_4 : decode cX1_errorOfText 4 = .ok (.aload_n 0, 1) := dk_42 (dk_at dksX1_errorOfText_0 4 rfl rfl)
theorem dX1_errorOfText_5 : decode cX1_errorOfText 5 = .ok (.getfield 39, 3) := dk_180 0 39 (dk_at dksX1_errorOfText_0 5 rfl rfl)
theorem dX1_errorOfText_8 : decode cX1_errorOfText 8 = .ok (.invokespecial 176, 3) := dk_183 0 176 (dk_at dksX1_errorOfText_0 8 rfl rfl)
theorem dX1_errorOfText_11 : decode cX1_errorOfText 11 = .ok (.invokevirtual 179, 3) := dk_182 0 179 (dk_at dksX1_errorOfText_0 11 rfl rfl)
theorem dX1_errorOfText_14 : decode cX1_errorOfText 14 = .ok (.pop, 1) := dk_87 (dk_at dksX1_errorOfText_0 14 rfl rfl)
theorem dX1_errorOfText_15 : decode cX1_errorOfText 15 = .ok (.iconst (-1), 1) := dk_2 (dk_at dksX1_errorOfText_0 15 rfl rfl)
theorem dX1_errorOfText_16 : decode cX1_errorOfText 16 = .ok (.ireturn, 1) := dk_172 (dk_at dksX1_errorOfText_0 16 rfl rfl)
theorem dX1_errorOfText_17 : decode cX1_errorOfText 17 = .ok (.astore_n 1, 1) := dk_76 (dk_at dksX1_errorOfText_0 17 rfl rfl)
theorem dX1_errorOfText_18 : decode cX1_errorOfText 18 = .ok (.aload_n 1, 1) := dk_43 (dk_at dksX1_errorOfText_0 18 rfl rfl)
theorem dX1_errorOfText_19 : decode cX1_errorOfText 19 = .ok (.getfield 184, 3) := dk_180 0 184 (dk_at dksX1_errorOfText_0 19 rfl rfl)
theorem dX1_errorOfText_22 : decode cX1_errorOfText 22 = .ok (.ireturn, 1) := dk_172 (dk_at dksX1_errorOfText_0 22 rfl rfl)
abbrev cX1_isDigit : ByteArray := prog_1_method_3_code
def yX1_isDigit : MethodName := ⟨RX1, "isDigit", "(I)Z"⟩
def dkwX1_isDigit_0 : List UInt8 := [26, 16, 48, 16, 57, 184, 0, 1, 172]
abbrev dktX1_isDigit_0 : List UInt8 := dkwX1_isDigit_0 ++ []
theorem dksX1_isDigit_0 : cX1_isDigit.data.toList.drop 0 = dktX1_isDigit_0 := by decide +kernel
theorem dX1_isDigit_0 : decode cX1_isDigit 0 = .ok (.iload_n 0, 1) := dk_26 (dk_at dksX1_isDigit_0 0 rfl rfl)
theorem dX1_isDigit_1 : decode cX1_isDigit 1 = .ok (.bipush 48, 2) := dk_16 48 (dk_at dksX1_isDigit_0 1 rfl rfl)
theorem dX1_isDigit_3 : decode cX1_isDigit 3 = .ok (.bipush 57, 2) := dk_16 57 (dk_at dksX1_isDigit_0 3 rfl rfl)
theorem dX1_isDigit_5 : decode cX1_isDigit 5 = .ok (.invokestatic 1, 3) := dk_184 0 1 (dk_at dksX1_isDigit_0 5 rfl rfl)
theorem dX1_isDigit_8 : decode cX1_isDigit 8 = .ok (.ireturn, 1) := dk_172 (dk_at dksX1_isDigit_0 8 rfl rfl)
abbrev cX1_inRange : ByteArray := prog_1_method_1_code
def yX1_inRange : MethodName := ⟨RX1, "inRange", "(III)Z"⟩
def dkwX1_inRange_0 : List UInt8 := [26, 27, 161, 0, 12, 26, 28, 163, 0, 7, 4, 167, 0, 4, 3, 172]
abbrev dktX1_inRange_0 : List UInt8 := dkwX1_inRange_0 ++ []
theorem dksX1_inRange_0 : cX1_inRange.data.toList.drop 0 = dktX1_inRange_0 := by decide +kernel
theorem dX1_inRange_0 : decode cX1_inRange 0 = .ok (.iload_n 0, 1) := dk_26 (dk_at dksX1_inRange_0 0 rfl rfl)
theorem dX1_inRange_1 : decode cX1_inRange 1 = .ok (.iload_n 1, 1) := dk_27 (dk_at dksX1_inRange_0 1 rfl rfl)
theorem dX1_inRange_2 : decode cX1_inRange 2 = .ok (.if_icmp .lt 12, 3) := dk_161 0 12 (dk_at dksX1_inRange_0 2 rfl rfl)
theorem dX1_inRange_5 : decode cX1_inRange 5 = .ok (.iload_n 0, 1) := dk_26 (dk_at dksX1_inRange_0 5 rfl rfl)
theorem dX1_inRange_6 : decode cX1_inRange 6 = .ok (.iload_n 2, 1) := dk_28 (dk_at dksX1_inRange_0 6 rfl rfl)
theorem dX1_inRange_7 : decode cX1_inRange 7 = .ok (.if_icmp .gt 7, 3) := dk_163 0 7 (dk_at dksX1_inRange_0 7 rfl rfl)
theorem dX1_inRange_10 : decode cX1_inRange 10 = .ok (.iconst 1, 1) := dk_4 (dk_at dksX1_inRange_0 10 rfl rfl)
theorem dX1_inRange_11 : decode cX1_inRange 11 = .ok (.goto 4, 3) := dk_167 0 4 (dk_at dksX1_inRange_0 11 rfl rfl)
theorem dX1_inRange_14 : decode cX1_inRange 14 = .ok (.iconst 0, 1) := dk_3 (dk_at dksX1_inRange_0 14 rfl rfl)
theorem dX1_inRange_15 : decode cX1_inRange 15 = .ok (.ireturn, 1) := dk_172 (dk_at dksX1_inRange_0 15 rfl rfl)
abbrev cX1_insultCount : ByteArray := prog_1_method_35_code
def yX1_insultCount : MethodName := ⟨RX1, "insultCount", "()I"⟩
def dkwX1_insultCount_0 : List UInt8 := [42, 16, 33, 16, 33, 182, 0, 194, 172]
abbrev dktX1_insultCount_0 : List UInt8 := dkwX1_insultCount_0 ++ []
theorem dksX1_insultCount_0 : cX1_insultCount.data.toList.drop 0 = dktX1_insultCount_0 := by decide +kernel
theorem dX1_insultCount_0 : decode cX1_insultCount 0 = .ok (.aload_n 0, 1) := dk_42 (dk_at dksX1_insultCount_0 0 rfl rfl)
theorem dX1_insultCount_1 : decode cX1_insultCount 1 = .ok (.bipush 33, 2) := dk_16 33 (dk_at dksX1_insultCount_0 1 rfl rfl)
theorem dX1_insultCount_3 : decode cX1_insultCount 3 = .ok (.bipush 33, 2) := dk_16 33 (dk_at dksX1_insultCount_0 3 rfl rfl)
theorem dX1_insultCount_5 : decode cX1_insultCount 5 = .ok (.invokevirtual 194, 3) := dk_182 0 194 (dk_at dksX1_insultCount_0 5 rfl rfl)
theorem dX1_insultCount_8 : decode cX1_insultCount 8 = .ok (.ireturn, 1) := dk_172 (dk_at dksX1_insultCount_0 8 rfl rfl)
abbrev cX1_countInText : ByteArray := prog_1_method_34_code
def yX1_countInText : MethodName := ⟨RX1, "countInText", "(II)I"⟩
def dkwX1_countInText_2 : List UInt8 := [29, 172]
abbrev dktX1_countInText_2 : List UInt8 := dkwX1_countInText_2 ++ []
def dkwX1_countInText_1 : List UInt8 := [182, 0, 190, 27, 28, 184, 0, 1, 153, 0, 7, 4, 167, 0, 4, 3, 96, 62, 132, 4, 1, 167, 255, 216]
abbrev dktX1_countInText_1 : List UInt8 := dkwX1_countInText_1 ++ dktX1_countInText_2
def dkwX1_countInText_0 : List UInt8 := [3, 62, 3, 54, 4, 21, 4, 42, 180, 0, 39, 182, 0, 160, 162, 0, 34, 29, 42, 180, 0, 39, 21, 4]
abbrev dktX1_countInText_0 : List UInt8 := dkwX1_countInText_0 ++ dktX1_countInText_1
theorem dksX1_countInText_0 : cX1_countInText.data.toList.drop 0 = dktX1_countInText_0 := by decide +kernel
theorem dksX1_countInText_1 : cX1_countInText.data.toList.drop 24 = dktX1_countInText_1 := dk_seg dksX1_countInText_0 24 rfl rfl
theorem dksX1_countInText_2 : cX1_countInText.data.toList.drop 48 = dktX1_countInText_2 := dk_seg dksX1_countInText_1 24 rfl rfl
theorem dX1_countInText_0 : decode cX1_countInText 0 = .ok (.iconst 0, 1) := dk_3 (dk_at dksX1_countInText_0 0 rfl rfl)
theorem dX1_countInText_1 : decode cX1_countInText 1 = .ok (.istore_n 3, 1) := dk_62 (dk_at dksX1_countInText_0 1 rfl rfl)
theorem dX1_countInText_2 : decode cX1_countInText 2 = .ok (.iconst 0, 1) := dk_3 (dk_at dksX1_countInText_0 2 rfl rfl)
theorem dX1_countInText_3 : decode cX1_countInText 3 = .ok (.istore 4, 2) := dk_54 4 (dk_at dksX1_countInText_0 3 rfl rfl)
theorem dX1_countInText_5 : decode cX1_countInText 5 = .ok (.iload 4, 2) := dk_21 4 (dk_at dksX1_countInText_0 5 rfl rfl)
theorem dX1_countInText_7 : decode cX1_countInText 7 = .ok (.aload_n 0, 1) := dk_42 (dk_at dksX1_countInText_0 7 rfl rfl)
theorem dX1_countInText_8 : decode cX1_countInText 8 = .ok (.getfield 39, 3) := dk_180 0 39 (dk_at dksX1_countInText_0 8 rfl rfl)
theorem dX1_countInText_11 : decode cX1_countInText 11 = .ok (.invokevirtual 160, 3) := dk_182 0 160 (dk_at dksX1_countInText_0 11 rfl rfl)
theorem dX1_countInText_14 : decode cX1_countInText 14 = .ok (.if_icmp .ge 34, 3) := dk_162 0 34 (dk_at dksX1_countInText_0 14 rfl rfl)
theorem dX1_countInText_17 : decode cX1_countInText 17 = .ok (.iload_n 3, 1) := dk_29 (dk_at dksX1_countInText_0 17 rfl rfl)
theorem dX1_countInText_18 : decode cX1_countInText 18 = .ok (.aload_n 0, 1) := dk_42 (dk_at dksX1_countInText_0 18 rfl rfl)
theorem dX1_countInText_19 : decode cX1_countInText 19 = .ok (.getfield 39, 3) := dk_180 0 39 (dk_at dksX1_countInText_0 19 rfl rfl)
theorem dX1_countInText_22 : decode cX1_countInText 22 = .ok (.iload 4, 2) := dk_21 4 (dk_at dksX1_countInText_0 22 rfl rfl)
theorem dX1_countInText_24 : decode cX1_countInText 24 = .ok (.invokevirtual 190, 3) := dk_182 0 190 (dk_at dksX1_countInText_1 0 rfl rfl)
theorem dX1_countInText_27 : decode cX1_countInText 27 = .ok (.iload_n 1, 1) := dk_27 (dk_at dksX1_countInText_1 3 rfl rfl)
theorem dX1_countInText_28 : decode cX1_countInText 28 = .ok (.iload_n 2, 1) := dk_28 (dk_at dksX1_countInText_1 4 rfl rfl)
theorem dX1_countInText_29 : decode cX1_countInText 29 = .ok (.invokestatic 1, 3) := dk_184 0 1 (dk_at dksX1_countInText_1 5 rfl rfl)
theorem dX1_countInText_32 : decode cX1_countInText 32 = .ok (.ifCond .eq 7, 3) := dk_153 0 7 (dk_at dksX1_countInText_1 8 rfl rfl)
theorem dX1_countInText_35 : decode cX1_countInText 35 = .ok (.iconst 1, 1) := dk_4 (dk_at dksX1_countInText_1 11 rfl rfl)
theorem dX1_countInText_36 : decode cX1_countInText 36 = .ok (.goto 4, 3) := dk_167 0 4 (dk_at dksX1_countInText_1 12 rfl rfl)
theorem dX1_countInText_39 : decode cX1_countInText 39 = .ok (.iconst 0, 1) := dk_3 (dk_at dksX1_countInText_1 15 rfl rfl)
theorem dX1_countInText_40 : decode cX1_countInText 40 = .ok (.iadd, 1) := dk_96 (dk_at dksX1_countInText_1 16 rfl rfl)
theorem dX1_countInText_41 : decode cX1_countInText 41 = .ok (.istore_n 3, 1) := dk_62 (dk_at dksX1_countInText_1 17 rfl rfl)
theorem dX1_countInText_42 : decode cX1_countInText 42 = .ok (.iinc 4 1, 3) := dk_132 4 1 (dk_at dksX1_countInText_1 18 rfl rfl)
theorem dX1_countInText_45 : decode cX1_countInText 45 = .ok (.goto (-40), 3) := dk_167 255 216 (dk_at dksX1_countInText_1 21 rfl rfl)
theorem dX1_countInText_48 : decode cX1_countInText 48 = .ok (.iload_n 3, 1) := dk_29 (dk_at dksX1_countInText_2 0 rfl rfl)
theorem dX1_countInText_49 : decode cX1_countInText 49 = .ok (.ireturn, 1) := dk_172 (dk_at dksX1_countInText_2 1 rfl rfl)
abbrev cX1_requestCount : ByteArray := prog_1_method_43_code
def yX1_requestCount : MethodName := ⟨RX1, "requestCount", "()I"⟩
def dkwX1_requestCount_0 : List UInt8 := [42, 180, 0, 16, 180, 0, 217, 182, 0, 221, 172]
abbrev dktX1_requestCount_0 : List UInt8 := dkwX1_requestCount_0 ++ []
theorem dksX1_requestCount_0 : cX1_requestCount.data.toList.drop 0 = dktX1_requestCount_0 := by decide +kernel
theorem dX1_requestCount_0 : decode cX1_requestCount 0 = .ok (.aload_n 0, 1) := dk_42 (dk_at dksX1_requestCount_0 0 rfl rfl)
theorem dX1_requestCount_1 : decode cX1_requestCount 1 = .ok (.getfield 16, 3) := dk_180 0 16 (dk_at dksX1_requestCount_0 1 rfl rfl)
theorem dX1_requestCount_4 : decode cX1_requestCount 4 = .ok (.getfield 217, 3) := dk_180 0 217 (dk_at dksX1_requestCount_0 4 rfl rfl)
theorem dX1_requestCount_7 : decode cX1_requestCount 7 = .ok (.invokevirtual 221, 3) := dk_182 0 221 (dk_at dksX1_requestCount_0 7 rfl rfl)
theorem dX1_requestCount_10 : decode cX1_requestCount 10 = .ok (.ireturn, 1) := dk_172 (dk_at dksX1_requestCount_0 10 rfl rfl)
abbrev cX1_width : ByteArray := prog_1_method_53_code
def yX1_width : MethodName := ⟨RX1, "width", "()I"⟩
def dkwX1_width_0 : List UInt8 := [42, 180, 0, 16, 180, 1, 6, 172]
abbrev dktX1_width_0 : List UInt8 := dkwX1_width_0 ++ []
theorem dksX1_width_0 : cX1_width.data.toList.drop 0 = dktX1_width_0 := by decide +kernel
theorem dX1_width_0 : decode cX1_width 0 = .ok (.aload_n 0, 1) := dk_42 (dk_at dksX1_width_0 0 rfl rfl)
theorem dX1_width_1 : decode cX1_width 1 = .ok (.getfield 16, 3) := dk_180 0 16 (dk_at dksX1_width_0 1 rfl rfl)
theorem dX1_width_4 : decode cX1_width 4 = .ok (.getfield 262, 3) := dk_180 1 6 (dk_at dksX1_width_0 4 rfl rfl)
theorem dX1_width_7 : decode cX1_width 7 = .ok (.ireturn, 1) := dk_172 (dk_at dksX1_width_0 7 rfl rfl)
abbrev cX1_grantedCount : ByteArray := prog_1_method_58_code
def yX1_grantedCount : MethodName := ⟨RX1, "grantedCount", "()I"⟩
def dkwX1_grantedCount_0 : List UInt8 := [42, 180, 0, 16, 180, 1, 27, 172]
abbrev dktX1_grantedCount_0 : List UInt8 := dkwX1_grantedCount_0 ++ []
theorem dksX1_grantedCount_0 : cX1_grantedCount.data.toList.drop 0 = dktX1_grantedCount_0 := by decide +kernel
theorem dX1_grantedCount_0 : decode cX1_grantedCount 0 = .ok (.aload_n 0, 1) := dk_42 (dk_at dksX1_grantedCount_0 0 rfl rfl)
theorem dX1_grantedCount_1 : decode cX1_grantedCount 1 = .ok (.getfield 16, 3) := dk_180 0 16 (dk_at dksX1_grantedCount_0 1 rfl rfl)
theorem dX1_grantedCount_4 : decode cX1_grantedCount 4 = .ok (.getfield 283, 3) := dk_180 1 27 (dk_at dksX1_grantedCount_0 4 rfl rfl)
theorem dX1_grantedCount_7 : decode cX1_grantedCount 7 = .ok (.ireturn, 1) := dk_172 (dk_at dksX1_grantedCount_0 7 rfl rfl)
abbrev cX1_spent : ByteArray := prog_1_method_59_code
def yX1_spent : MethodName := ⟨RX1, "spent", "()J"⟩
def dkwX1_spent_0 : List UInt8 := [42, 180, 0, 16, 180, 1, 30, 173]
abbrev dktX1_spent_0 : List UInt8 := dkwX1_spent_0 ++ []
theorem dksX1_spent_0 : cX1_spent.data.toList.drop 0 = dktX1_spent_0 := by decide +kernel
theorem dX1_spent_0 : decode cX1_spent 0 = .ok (.aload_n 0, 1) := dk_42 (dk_at dksX1_spent_0 0 rfl rfl)
theorem dX1_spent_1 : decode cX1_spent 1 = .ok (.getfield 16, 3) := dk_180 0 16 (dk_at dksX1_spent_0 1 rfl rfl)
theorem dX1_spent_4 : decode cX1_spent 4 = .ok (.getfield 286, 3) := dk_180 1 30 (dk_at dksX1_spent_0 4 rfl rfl)
theorem dX1_spent_7 : decode cX1_spent 7 = .ok (.lreturn, 1) := dk_173 (dk_at dksX1_spent_0 7 rfl rfl)
abbrev cX1_gained : ByteArray := prog_1_method_60_code
def yX1_gained : MethodName := ⟨RX1, "gained", "()I"⟩
def dkwX1_gained_0 : List UInt8 := [42, 180, 0, 16, 180, 1, 34, 172]
abbrev dktX1_gained_0 : List UInt8 := dkwX1_gained_0 ++ []
theorem dksX1_gained_0 : cX1_gained.data.toList.drop 0 = dktX1_gained_0 := by decide +kernel
theorem dX1_gained_0 : decode cX1_gained 0 = .ok (.aload_n 0, 1) := dk_42 (dk_at dksX1_gained_0 0 rfl rfl)
theorem dX1_gained_1 : decode cX1_gained 1 = .ok (.getfield 16, 3) := dk_180 0 16 (dk_at dksX1_gained_0 1 rfl rfl)
theorem dX1_gained_4 : decode cX1_gained 4 = .ok (.getfield 290, 3) := dk_180 1 34 (dk_at dksX1_gained_0 4 rfl rfl)
theorem dX1_gained_7 : decode cX1_gained 7 = .ok (.ireturn, 1) := dk_172 (dk_at dksX1_gained_0 7 rfl rfl)
abbrev cX1_lost : ByteArray := prog_1_method_61_code
def yX1_lost : MethodName := ⟨RX1, "lost", "()I"⟩
def dkwX1_lost_0 : List UInt8 := [42, 180, 0, 16, 180, 1, 37, 172]
abbrev dktX1_lost_0 : List UInt8 := dkwX1_lost_0 ++ []
theorem dksX1_lost_0 : cX1_lost.data.toList.drop 0 = dktX1_lost_0 := by decide +kernel
theorem dX1_lost_0 : decode cX1_lost 0 = .ok (.aload_n 0, 1) := dk_42 (dk_at dksX1_lost_0 0 rfl rfl)
theorem dX1_lost_1 : decode cX1_lost 1 = .ok (.getfield 16, 3) := dk_180 0 16 (dk_at dksX1_lost_0 1 rfl rfl)
theorem dX1_lost_4 : decode cX1_lost 4 = .ok (.getfield 293, 3) := dk_180 1 37 (dk_at dksX1_lost_0 4 rfl rfl)
theorem dX1_lost_7 : decode cX1_lost 7 = .ok (.ireturn, 1) := dk_172 (dk_at dksX1_lost_0 7 rfl rfl)
abbrev cX1_writeProcession : ByteArray := prog_1_method_65_code
def yX1_writeProcession : MethodName := ⟨RX1, "writeProcession", "()I"⟩
def dkwX1_writeProcession_1 : List UInt8 := [182, 0, 160, 172]
abbrev dktX1_writeProcession_1 : List UInt8 := dkwX1_writeProcession_1 ++ []
def dkwX1_writeProcession_0 : List UInt8 := [42, 180, 0, 43, 3, 182, 0, 171, 42, 180, 0, 16, 42, 180, 0, 43, 182, 1, 53, 42, 180, 0, 43]
abbrev dktX1_writeProcession_0 : List UInt8 := dkwX1_writeProcession_0 ++ dktX1_writeProcession_1
theorem dksX1_writeProcession_0 : cX1_writeProcession.data.toList.drop 0 = dktX1_writeProcession_0 := by decide +kernel
theorem dksX1_writeProcession_1 : cX1_writeProcession.data.toList.drop 23 = dktX1_writeProcession_1 := dk_seg dksX1_writeProcession_0 23 rfl rfl
theorem dX1_writeProcession_0 : decode cX1_writeProcession 0 = .ok (.aload_n 0, 1) := dk_42 (dk_at dksX1_writeProcession_0 0 rfl rfl)
theorem dX1_writeProcession_1 : decode cX1_writeProcession 1 = .ok (.getfield 43, 3) := dk_180 0 43 (dk_at dksX1_writeProcession_0 1 rfl rfl)
theorem dX1_writeProcession_4 : decode cX1_writeProcession 4 = .ok (.iconst 0, 1) := dk_3 (dk_at dksX1_writeProcession_0 4 rfl rfl)
theorem dX1_writeProcession_5 : decode cX1_writeProcession 5 = .ok (.invokevirtual 171, 3) := dk_182 0 171 (dk_at dksX1_writeProcession_0 5 rfl rfl)
theorem dX1_writeProcession_8 : decode cX1_writeProcession 8 = .ok (.aload_n 0, 1) := dk_42 (dk_at dksX1_writeProcession_0 8 rfl rfl)
theorem dX1_writeProcession_9 : decode cX1_writeProcession 9 = .ok (.getfield 16, 3) := dk_180 0 16 (dk_at dksX1_writeProcession_0 9 rfl rfl)
theorem dX1_writeProcession_12 : decode cX1_writeProcession 12 = .ok (.aload_n 0, 1) := dk_42 (dk_at dksX1_writeProcession_0 12 rfl rfl)
theorem dX1_writeProcession_13 : decode cX1_writeProcession 13 = .ok (.getfield 43, 3) := dk_180 0 43 (dk_at dksX1_writeProcession_0 13 rfl rfl)
theorem dX1_writeProcession_16 : decode cX1_writeProcession 16 = .ok (.invokevirtual 309, 3) := dk_182 1 53 (dk_at dksX1_writeProcession_0 16 rfl rfl)
theorem dX1_writeProcession_19 : decode cX1_writeProcession 19 = .ok (.aload_n 0, 1) := dk_42 (dk_at dksX1_writeProcession_0 19 rfl rfl)
theorem dX1_writeProcession_20 : decode cX1_writeProcession 20 = .ok (.getfield 43, 3) := dk_180 0 43 (dk_at dksX1_writeProcession_0 20 rfl rfl)
theorem dX1_writeProcession_23 : decode cX1_writeProcession 23 = .ok (.invokevirtual 160, 3) := dk_182 0 160 (dk_at dksX1_writeProcession_1 0 rfl rfl)
theorem dX1_writeProcession_26 : decode cX1_writeProcession 26 = .ok (.ireturn, 1) := dk_172 (dk_at dksX1_writeProcession_1 3 rfl rfl)
abbrev cX1_isConsistent : ByteArray := prog_1_method_67_code
def yX1_isConsistent : MethodName := ⟨RX1, "isConsistent", "()Z"⟩
def dkwX1_isConsistent_0 : List UInt8 := [42, 180, 0, 16, 182, 1, 56, 172]
abbrev dktX1_isConsistent_0 : List UInt8 := dkwX1_isConsistent_0 ++ []
theorem dksX1_isConsistent_0 : cX1_isConsistent.data.toList.drop 0 = dktX1_isConsistent_0 := by decide +kernel
theorem dX1_isConsistent_0 : decode cX1_isConsistent 0 = .ok (.aload_n 0, 1) := dk_42 (dk_at dksX1_isConsistent_0 0 rfl rfl)
theorem dX1_isConsistent_1 : decode cX1_isConsistent 1 = .ok (.getfield 16, 3) := dk_180 0 16 (dk_at dksX1_isConsistent_0 1 rfl rfl)
theorem dX1_isConsistent_4 : decode cX1_isConsistent 4 = .ok (.invokevirtual 312, 3) := dk_182 1 56 (dk_at dksX1_isConsistent_0 4 rfl rfl)
theorem dX1_isConsistent_7 : decode cX1_isConsistent 7 = .ok (.ireturn, 1) := dk_172 (dk_at dksX1_isConsistent_0 7 rfl rfl)
abbrev cX1_sum : ByteArray := prog_1_method_4_code
def yX1_sum : MethodName := ⟨RX1, "sum", "([I)I"⟩
def dkwX1_sum_1 : List UInt8 := [21, 5, 96, 60, 132, 4, 1, 167, 255, 236, 27, 172]
abbrev dktX1_sum_1 : List UInt8 := dkwX1_sum_1 ++ []
def dkwX1_sum_0 : List UInt8 := [3, 60, 42, 77, 44, 190, 62, 3, 54, 4, 21, 4, 29, 162, 0, 20, 44, 21, 4, 46, 54, 5, 27]
abbrev dktX1_sum_0 : List UInt8 := dkwX1_sum_0 ++ dktX1_sum_1
theorem dksX1_sum_0 : cX1_sum.data.toList.drop 0 = dktX1_sum_0 := by decide +kernel
theorem dksX1_sum_1 : cX1_sum.data.toList.drop 23 = dktX1_sum_1 := dk_seg dksX1_sum_0 23 rfl rfl
theorem dX1_sum_0 : decode cX1_sum 0 = .ok (.iconst 0, 1) := dk_3 (dk_at dksX1_sum_0 0 rfl rfl)
theorem dX1_sum_1 : decode cX1_sum 1 = .ok (.istore_n 1, 1) := dk_60 (dk_at dksX1_sum_0 1 rfl rfl)
theorem dX1_sum_2 : decode cX1_sum 2 = .ok (.aload_n 0, 1) := dk_42 (dk_at dksX1_sum_0 2 rfl rfl)
theorem dX1_sum_3 : decode cX1_sum 3 = .ok (.astore_n 2, 1) := dk_77 (dk_at dksX1_sum_0 3 rfl rfl)
theorem dX1_sum_4 : decode cX1_sum 4 = .ok (.aload_n 2, 1) := dk_44 (dk_at dksX1_sum_0 4 rfl rfl)
theorem dX1_sum_5 : decode cX1_sum 5 = .ok (.arraylength, 1) := dk_190 (dk_at dksX1_sum_0 5 rfl rfl)
theorem dX1_sum_6 : decode cX1_sum 6 = .ok (.istore_n 3, 1) := dk_62 (dk_at dksX1_sum_0 6 rfl rfl)
theorem dX1_sum_7 : decode cX1_sum 7 = .ok (.iconst 0, 1) := dk_3 (dk_at dksX1_sum_0 7 rfl rfl)
theorem dX1_sum_8 : decode cX1_sum 8 = .ok (.istore 4, 2) := dk_54 4 (dk_at dksX1_sum_0 8 rfl rfl)
theorem dX1_sum_10 : decode cX1_sum 10 = .ok (.iload 4, 2) := dk_21 4 (dk_at dksX1_sum_0 10 rfl rfl)
theorem dX1_sum_12 : decode cX1_sum 12 = .ok (.iload_n 3, 1) := dk_29 (dk_at dksX1_sum_0 12 rfl rfl)
theorem dX1_sum_13 : decode cX1_sum 13 = .ok (.if_icmp .ge 20, 3) := dk_162 0 20 (dk_at dksX1_sum_0 13 rfl rfl)
theorem dX1_sum_16 : decode cX1_sum 16 = .ok (.aload_n 2, 1) := dk_44 (dk_at dksX1_sum_0 16 rfl rfl)
theorem dX1_sum_17 : decode cX1_sum 17 = .ok (.iload 4, 2) := dk_21 4 (dk_at dksX1_sum_0 17 rfl rfl)
theorem dX1_sum_19 : decode cX1_sum 19 = .ok (.iaload, 1) := dk_46 (dk_at dksX1_sum_0 19 rfl rfl)
theorem dX1_sum_20 : decode cX1_sum 20 = .ok (.istore 5, 2) := dk_54 5 (dk_at dksX1_sum_0 20 rfl rfl)
theorem dX1_sum_22 : decode cX1_sum 22 = .ok (.iload_n 1, 1) := dk_27 (dk_at dksX1_sum_0 22 rfl rfl)
theorem dX1_sum_23 : decode cX1_sum 23 = .ok (.iload 5, 2) := dk_21 5 (dk_at dksX1_sum_1 0 rfl rfl)
theorem dX1_sum_25 : decode cX1_sum 25 = .ok (.iadd, 1) := dk_96 (dk_at dksX1_sum_1 2 rfl rfl)
theorem dX1_sum_26 : decode cX1_sum 26 = .ok (.istore_n 1, 1) := dk_60 (dk_at dksX1_sum_1 3 rfl rfl)
theorem dX1_sum_27 : decode cX1_sum 27 = .ok (.iinc 4 1, 3) := dk_132 4 1 (dk_at dksX1_sum_1 4 rfl rfl)
theorem dX1_sum_30 : decode cX1_sum 30 = .ok (.goto (-20), 3) := dk_167 255 236 (dk_at dksX1_sum_1 7 rfl rfl)
theorem dX1_sum_33 : decode cX1_sum 33 = .ok (.iload_n 1, 1) := dk_27 (dk_at dksX1_sum_1 10 rfl rfl)
theorem dX1_sum_34 : decode cX1_sum 34 = .ok (.ireturn, 1) := dk_172 (dk_at dksX1_sum_1 11 rfl rfl)
abbrev cX1_undoCount : ByteArray := prog_1_method_69_code
def yX1_undoCount : MethodName := ⟨RX1, "undoCount", "()I"⟩
def dkwX1_undoCount_0 : List UInt8 := [42, 180, 0, 29, 182, 1, 62, 172]
abbrev dktX1_undoCount_0 : List UInt8 := dkwX1_undoCount_0 ++ []
theorem dksX1_undoCount_0 : cX1_undoCount.data.toList.drop 0 = dktX1_undoCount_0 := by decide +kernel
theorem dX1_undoCount_0 : decode cX1_undoCount 0 = .ok (.aload_n 0, 1) := dk_42 (dk_at dksX1_undoCount_0 0 rfl rfl)
theorem dX1_undoCount_1 : decode cX1_undoCount 1 = .ok (.getfield 29, 3) := dk_180 0 29 (dk_at dksX1_undoCount_0 1 rfl rfl)
theorem dX1_undoCount_4 : decode cX1_undoCount 4 = .ok (.invokevirtual 318, 3) := dk_182 1 62 (dk_at dksX1_undoCount_0 4 rfl rfl)
theorem dX1_undoCount_7 : decode cX1_undoCount 7 = .ok (.ireturn, 1) := dk_172 (dk_at dksX1_undoCount_0 7 rfl rfl)
abbrev cX1_save : ByteArray := prog_1_method_70_code
def yX1_save : MethodName := ⟨RX1, "save", "()I"⟩
def dkwX1_save_1 : List UInt8 := [182, 0, 221, 172]
abbrev dktX1_save_1 : List UInt8 := dkwX1_save_1 ++ []
def dkwX1_save_0 : List UInt8 := [42, 180, 0, 23, 42, 180, 0, 16, 182, 0, 76, 42, 4, 181, 1, 63, 42, 180, 0, 16, 180, 0, 217]
abbrev dktX1_save_0 : List UInt8 := dkwX1_save_0 ++ dktX1_save_1
theorem dksX1_save_0 : cX1_save.data.toList.drop 0 = dktX1_save_0 := by decide +kernel
theorem dksX1_save_1 : cX1_save.data.toList.drop 23 = dktX1_save_1 := dk_seg dksX1_save_0 23 rfl rfl
theorem dX1_save_0 : decode cX1_save 0 = .ok (.aload_n 0, 1) := dk_42 (dk_at dksX1_save_0 0 rfl rfl)
theorem dX1_save_1 : decode cX1_save 1 = .ok (.getfield 23, 3) := dk_180 0 23 (dk_at dksX1_save_0 1 rfl rfl)
theorem dX1_save_4 : decode cX1_save 4 = .ok (.aload_n 0, 1) := dk_42 (dk_at dksX1_save_0 4 rfl rfl)
theorem dX1_save_5 : decode cX1_save 5 = .ok (.getfield 16, 3) := dk_180 0 16 (dk_at dksX1_save_0 5 rfl rfl)
theorem dX1_save_8 : decode cX1_save 8 = .ok (.invokevirtual 76, 3) := dk_182 0 76 (dk_at dksX1_save_0 8 rfl rfl)
theorem dX1_save_11 : decode cX1_save 11 = .ok (.aload_n 0, 1) := dk_42 (dk_at dksX1_save_0 11 rfl rfl)
theorem dX1_save_12 : decode cX1_save 12 = .ok (.iconst 1, 1) := dk_4 (dk_at dksX1_save_0 12 rfl rfl)
theorem dX1_save_13 : decode cX1_save 13 = .ok (.putfield 319, 3) := dk_181 1 63 (dk_at dksX1_save_0 13 rfl rfl)
theorem dX1_save_16 : decode cX1_save 16 = .ok (.aload_n 0, 1) := dk_42 (dk_at dksX1_save_0 16 rfl rfl)
theorem dX1_save_17 : decode cX1_save 17 = .ok (.getfield 16, 3) := dk_180 0 16 (dk_at dksX1_save_0 17 rfl rfl)
theorem dX1_save_20 : decode cX1_save 20 = .ok (.getfield 217, 3) := dk_180 0 217 (dk_at dksX1_save_0 20 rfl rfl)
theorem dX1_save_23 : decode cX1_save 23 = .ok (.invokevirtual 221, 3) := dk_182 0 221 (dk_at dksX1_save_1 0 rfl rfl)
theorem dX1_save_26 : decode cX1_save 26 = .ok (.ireturn, 1) := dk_172 (dk_at dksX1_save_1 3 rfl rfl)
abbrev cX1_addCourtier : ByteArray := prog_1_method_15_code
def yX1_addCourtier : MethodName := ⟨RX1, "addCourtier", "(I)I"⟩
def dkwX1_addCourtier_0 : List UInt8 := [42, 42, 182, 0, 88, 27, 182, 0, 92, 182, 0, 96, 172]
abbrev dktX1_addCourtier_0 : List UInt8 := dkwX1_addCourtier_0 ++ []
theorem dksX1_addCourtier_0 : cX1_addCourtier.data.toList.drop 0 = dktX1_addCourtier_0 := by decide +kernel
theorem dX1_addCourtier_0 : decode cX1_addCourtier 0 = .ok (.aload_n 0, 1) := dk_42 (dk_at dksX1_addCourtier_0 0 rfl rfl)
theorem dX1_addCourtier_1 : decode cX1_addCourtier 1 = .ok (.aload_n 0, 1) := dk_42 (dk_at dksX1_addCourtier_0 1 rfl rfl)
theorem dX1_addCourtier_2 : decode cX1_addCourtier 2 = .ok (.invokevirtual 88, 3) := dk_182 0 88 (dk_at dksX1_addCourtier_0 2 rfl rfl)
theorem dX1_addCourtier_5 : decode cX1_addCourtier 5 = .ok (.iload_n 1, 1) := dk_27 (dk_at dksX1_addCourtier_0 5 rfl rfl)
theorem dX1_addCourtier_6 : decode cX1_addCourtier 6 = .ok (.invokevirtual 92, 3) := dk_182 0 92 (dk_at dksX1_addCourtier_0 6 rfl rfl)
theorem dX1_addCourtier_9 : decode cX1_addCourtier 9 = .ok (.invokevirtual 96, 3) := dk_182 0 96 (dk_at dksX1_addCourtier_0 9 rfl rfl)
theorem dX1_addCourtier_12 : decode cX1_addCourtier 12 = .ok (.ireturn, 1) := dk_172 (dk_at dksX1_addCourtier_0 12 rfl rfl)
abbrev cX1_begin : ByteArray := prog_1_method_13_code
def yX1_begin : MethodName := ⟨RX1, "begin", "()LRoyalCourt$State;"⟩
def dkwX1_begin_0 : List UInt8 := [42, 180, 0, 20, 42, 180, 0, 16, 182, 0, 76, 42, 180, 0, 20, 176]
abbrev dktX1_begin_0 : List UInt8 := dkwX1_begin_0 ++ []
theorem dksX1_begin_0 : cX1_begin.data.toList.drop 0 = dktX1_begin_0 := by decide +kernel
theorem dX1_begin_0 : decode cX1_begin 0 = .ok (.aload_n 0, 1) := dk_42 (dk_at dksX1_begin_0 0 rfl rfl)
theorem dX1_begin_1 : decode cX1_begin 1 = .ok (.getfield 20, 3) := dk_180 0 20 (dk_at dksX1_begin_0 1 rfl rfl)
theorem dX1_begin_4 : decode cX1_begin 4 = .ok (.aload_n 0, 1) := dk_42 (dk_at dksX1_begin_0 4 rfl rfl)
theorem dX1_begin_5 : decode cX1_begin 5 = .ok (.getfield 16, 3) := dk_180 0 16 (dk_at dksX1_begin_0 5 rfl rfl)
theorem dX1_begin_8 : decode cX1_begin 8 = .ok (.invokevirtual 76, 3) := dk_182 0 76 (dk_at dksX1_begin_0 8 rfl rfl)
theorem dX1_begin_11 : decode cX1_begin 11 = .ok (.aload_n 0, 1) := dk_42 (dk_at dksX1_begin_0 11 rfl rfl)
theorem dX1_begin_12 : decode cX1_begin 12 = .ok (.getfield 20, 3) := dk_180 0 20 (dk_at dksX1_begin_0 12 rfl rfl)
theorem dX1_begin_15 : decode cX1_begin 15 = .ok (.areturn, 1) := dk_176 (dk_at dksX1_begin_0 15 rfl rfl)
abbrev cX1_checkArgument : ByteArray := prog_1_method_6_code
def yX1_checkArgument : MethodName := ⟨RX1, "checkArgument", "(Z)V"⟩
def dkwX1_checkArgument_0 : List UInt8 := [26, 154, 0, 11, 187, 0, 54, 89, 183, 0, 56, 191, 177]
abbrev dktX1_checkArgument_0 : List UInt8 := dkwX1_checkArgument_0 ++ []
theorem dksX1_checkArgument_0 : cX1_checkArgument.data.toList.drop 0 = dktX1_checkArgument_0 := by decide +kernel
theorem dX1_checkArgument_0 : decode cX1_checkArgument 0 = .ok (.iload_n 0, 1) := dk_26 (dk_at dksX1_checkArgument_0 0 rfl rfl)
theorem dX1_checkArgument_1 : decode cX1_checkArgument 1 = .ok (.ifCond .ne 11, 3) := dk_154 0 11 (dk_at dksX1_checkArgument_0 1 rfl rfl)
theorem dX1_checkArgument_4 : decode cX1_checkArgument 4 = .ok (.new 54, 3) := dk_187 0 54 (dk_at dksX1_checkArgument_0 4 rfl rfl)
theorem dX1_checkArgument_7 : decode cX1_checkArgument 7 = .ok (.dup, 1) := dk_89 (dk_at dksX1_checkArgument_0 7 rfl rfl)
theorem dX1_checkArgument_8 : decode cX1_checkArgument 8 = .ok (.invokespecial 56, 3) := dk_183 0 56 (dk_at dksX1_checkArgument_0 8 rfl rfl)
theorem dX1_checkArgument_11 : decode cX1_checkArgument 11 = .ok (.athrow, 1) := dk_191 (dk_at dksX1_checkArgument_0 11 rfl rfl)
theorem dX1_checkArgument_12 : decode cX1_checkArgument 12 = .ok (.return_, 1) := dk_177 (dk_at dksX1_checkArgument_0 12 rfl rfl)
abbrev cX1_checkState : ByteArray := prog_1_method_8_code
def yX1_checkState : MethodName := ⟨RX1, "checkState", "(Z)V"⟩
def dkwX1_checkState_0 : List UInt8 := [26, 154, 0, 11, 187, 0, 60, 89, 183, 0, 62, 191, 177]
abbrev dktX1_checkState_0 : List UInt8 := dkwX1_checkState_0 ++ []
theorem dksX1_checkState_0 : cX1_checkState.data.toList.drop 0 = dktX1_checkState_0 := by decide +kernel
theorem dX1_checkState_0 : decode cX1_checkState 0 = .ok (.iload_n 0, 1) := dk_26 (dk_at dksX1_checkState_0 0 rfl rfl)
theorem dX1_checkState_1 : decode cX1_checkState 1 = .ok (.ifCond .ne 11, 3) := dk_154 0 11 (dk_at dksX1_checkState_0 1 rfl rfl)
theorem dX1_checkState_4 : decode cX1_checkState 4 = .ok (.new 60, 3) := dk_187 0 60 (dk_at dksX1_checkState_0 4 rfl rfl)
theorem dX1_checkState_7 : decode cX1_checkState 7 = .ok (.dup, 1) := dk_89 (dk_at dksX1_checkState_0 7 rfl rfl)
theorem dX1_checkState_8 : decode cX1_checkState 8 = .ok (.invokespecial 62, 3) := dk_183 0 62 (dk_at dksX1_checkState_0 8 rfl rfl)
theorem dX1_checkState_11 : decode cX1_checkState 11 = .ok (.athrow, 1) := dk_191 (dk_at dksX1_checkState_0 11 rfl rfl)
theorem dX1_checkState_12 : decode cX1_checkState 12 = .ok (.return_, 1) := dk_177 (dk_at dksX1_checkState_0 12 rfl rfl)
abbrev cX1_commit : ByteArray := prog_1_method_14_code
def yX1_commit : MethodName := ⟨RX1, "commit", "(I)I"⟩
def dkwX1_commit_2 : List UInt8 := [182, 0, 50, 42, 180, 0, 16, 42, 180, 0, 20, 182, 0, 76, 27, 172]
abbrev dktX1_commit_2 : List UInt8 := dkwX1_commit_2 ++ []
def dkwX1_commit_1 : List UInt8 := [180, 0, 33, 182, 0, 84, 192, 0, 13, 77, 44, 42, 180, 0, 16, 182, 0, 76, 42, 180, 0, 29, 44]
abbrev dktX1_commit_1 : List UInt8 := dkwX1_commit_1 ++ dktX1_commit_2
def dkwX1_commit_0 : List UInt8 := [42, 180, 0, 33, 182, 0, 80, 153, 0, 16, 42, 180, 0, 29, 182, 0, 84, 192, 0, 13, 167, 0, 13, 42]
abbrev dktX1_commit_0 : List UInt8 := dkwX1_commit_0 ++ dktX1_commit_1
theorem dksX1_commit_0 : cX1_commit.data.toList.drop 0 = dktX1_commit_0 := by decide +kernel
theorem dksX1_commit_1 : cX1_commit.data.toList.drop 24 = dktX1_commit_1 := dk_seg dksX1_commit_0 24 rfl rfl
theorem dksX1_commit_2 : cX1_commit.data.toList.drop 47 = dktX1_commit_2 := dk_seg dksX1_commit_1 23 rfl rfl
theorem dX1_commit_0 : decode cX1_commit 0 = .ok (.aload_n 0, 1) := dk_42 (dk_at dksX1_commit_0 0 rfl rfl)
theorem dX1_commit_1 : decode cX1_commit 1 = .ok (.getfield 33, 3) := dk_180 0 33 (dk_at dksX1_commit_0 1 rfl rfl)
theorem dX1_commit_4 : decode cX1_commit 4 = .ok (.invokevirtual 80, 3) := dk_182 0 80 (dk_at dksX1_commit_0 4 rfl rfl)
theorem dX1_commit_7 : decode cX1_commit 7 = .ok (.ifCond .eq 16, 3) := dk_153 0 16 (dk_at dksX1_commit_0 7 rfl rfl)
theorem dX1_commit_10 : decode cX1_commit 10 = .ok (.aload_n 0, 1) := dk_42 (dk_at dksX1_commit_0 10 rfl rfl)
theorem dX1_commit_11 : decode cX1_commit 11 = .ok (.getfield 29, 3) := dk_180 0 29 (dk_at dksX1_commit_0 11 rfl rfl)
theorem dX1_commit_14 : decode cX1_commit 14 = .ok (.invokevirtual 84, 3) := dk_182 0 84 (dk_at dksX1_commit_0 14 rfl rfl)
theorem dX1_commit_17 : decode cX1_commit 17 = .ok (.checkcast 13, 3) := dk_192 0 13 (dk_at dksX1_commit_0 17 rfl rfl)
theorem dX1_commit_20 : decode cX1_commit 20 = .ok (.goto 13, 3) := dk_167 0 13 (dk_at dksX1_commit_0 20 rfl rfl)
theorem dX1_commit_23 : decode cX1_commit 23 = .ok (.aload_n 0, 1) := dk_42 (dk_at dksX1_commit_0 23 rfl rfl)
theorem dX1_commit_24 : decode cX1_commit 24 = .ok (.getfield 33, 3) := dk_180 0 33 (dk_at dksX1_commit_1 0 rfl rfl)
theorem dX1_commit_27 : decode cX1_commit 27 = .ok (.invokevirtual 84, 3) := dk_182 0 84 (dk_at dksX1_commit_1 3 rfl rfl)
theorem dX1_commit_30 : decode cX1_commit 30 = .ok (.checkcast 13, 3) := dk_192 0 13 (dk_at dksX1_commit_1 6 rfl rfl)
theorem dX1_commit_33 : decode cX1_commit 33 = .ok (.astore_n 2, 1) := dk_77 (dk_at dksX1_commit_1 9 rfl rfl)
theorem dX1_commit_34 : decode cX1_commit 34 = .ok (.aload_n 2, 1) := dk_44 (dk_at dksX1_commit_1 10 rfl rfl)
theorem dX1_commit_35 : decode cX1_commit 35 = .ok (.aload_n 0, 1) := dk_42 (dk_at dksX1_commit_1 11 rfl rfl)
theorem dX1_commit_36 : decode cX1_commit 36 = .ok (.getfield 16, 3) := dk_180 0 16 (dk_at dksX1_commit_1 12 rfl rfl)
theorem dX1_commit_39 : decode cX1_commit 39 = .ok (.invokevirtual 76, 3) := dk_182 0 76 (dk_at dksX1_commit_1 15 rfl rfl)
theorem dX1_commit_42 : decode cX1_commit 42 = .ok (.aload_n 0, 1) := dk_42 (dk_at dksX1_commit_1 18 rfl rfl)
theorem dX1_commit_43 : decode cX1_commit 43 = .ok (.getfield 29, 3) := dk_180 0 29 (dk_at dksX1_commit_1 19 rfl rfl)
theorem dX1_commit_46 : decode cX1_commit 46 = .ok (.aload_n 2, 1) := dk_44 (dk_at dksX1_commit_1 22 rfl rfl)
theorem dX1_commit_47 : decode cX1_commit 47 = .ok (.invokevirtual 50, 3) := dk_182 0 50 (dk_at dksX1_commit_2 0 rfl rfl)
theorem dX1_commit_50 : decode cX1_commit 50 = .ok (.aload_n 0, 1) := dk_42 (dk_at dksX1_commit_2 3 rfl rfl)
theorem dX1_commit_51 : decode cX1_commit 51 = .ok (.getfield 16, 3) := dk_180 0 16 (dk_at dksX1_commit_2 4 rfl rfl)
theorem dX1_commit_54 : decode cX1_commit 54 = .ok (.aload_n 0, 1) := dk_42 (dk_at dksX1_commit_2 7 rfl rfl)
theorem dX1_commit_55 : decode cX1_commit 55 = .ok (.getfield 20, 3) := dk_180 0 20 (dk_at dksX1_commit_2 8 rfl rfl)
theorem dX1_commit_58 : decode cX1_commit 58 = .ok (.invokevirtual 76, 3) := dk_182 0 76 (dk_at dksX1_commit_2 11 rfl rfl)
theorem dX1_commit_61 : decode cX1_commit 61 = .ok (.iload_n 1, 1) := dk_27 (dk_at dksX1_commit_2 14 rfl rfl)
theorem dX1_commit_62 : decode cX1_commit 62 = .ok (.ireturn, 1) := dk_172 (dk_at dksX1_commit_2 15 rfl rfl)
abbrev cX1_addRule : ByteArray := prog_1_method_16_code
def yX1_addRule : MethodName := ⟨RX1, "addRule", "(II)I"⟩
def dkwX1_addRule_0 : List UInt8 := [42, 42, 182, 0, 88, 27, 28, 182, 0, 99, 182, 0, 96, 172]
abbrev dktX1_addRule_0 : List UInt8 := dkwX1_addRule_0 ++ []
theorem dksX1_addRule_0 : cX1_addRule.data.toList.drop 0 = dktX1_addRule_0 := by decide +kernel
theorem dX1_addRule_0 : decode cX1_addRule 0 = .ok (.aload_n 0, 1) := dk_42 (dk_at dksX1_addRule_0 0 rfl rfl)
theorem dX1_addRule_1 : decode cX1_addRule 1 = .ok (.aload_n 0, 1) := dk_42 (dk_at dksX1_addRule_0 1 rfl rfl)
theorem dX1_addRule_2 : decode cX1_addRule 2 = .ok (.invokevirtual 88, 3) := dk_182 0 88 (dk_at dksX1_addRule_0 2 rfl rfl)
theorem dX1_addRule_5 : decode cX1_addRule 5 = .ok (.iload_n 1, 1) := dk_27 (dk_at dksX1_addRule_0 5 rfl rfl)
theorem dX1_addRule_6 : decode cX1_addRule 6 = .ok (.iload_n 2, 1) := dk_28 (dk_at dksX1_addRule_0 6 rfl rfl)
theorem dX1_addRule_7 : decode cX1_addRule 7 = .ok (.invokevirtual 99, 3) := dk_182 0 99 (dk_at dksX1_addRule_0 7 rfl rfl)
theorem dX1_addRule_10 : decode cX1_addRule 10 = .ok (.invokevirtual 96, 3) := dk_182 0 96 (dk_at dksX1_addRule_0 10 rfl rfl)
theorem dX1_addRule_13 : decode cX1_addRule 13 = .ok (.ireturn, 1) := dk_172 (dk_at dksX1_addRule_0 13 rfl rfl)
abbrev cX1_checkIndex : ByteArray := prog_1_method_9_code
def yX1_checkIndex : MethodName := ⟨RX1, "checkIndex", "(Z)V"⟩
def dkwX1_checkIndex_0 : List UInt8 := [26, 154, 0, 11, 187, 0, 63, 89, 183, 0, 65, 191, 177]
abbrev dktX1_checkIndex_0 : List UInt8 := dkwX1_checkIndex_0 ++ []
theorem dksX1_checkIndex_0 : cX1_checkIndex.data.toList.drop 0 = dktX1_checkIndex_0 := by decide +kernel
theorem dX1_checkIndex_0 : decode cX1_checkIndex 0 = .ok (.iload_n 0, 1) := dk_26 (dk_at dksX1_checkIndex_0 0 rfl rfl)
theorem dX1_checkIndex_1 : decode cX1_checkIndex 1 = .ok (.ifCond .ne 11, 3) := dk_154 0 11 (dk_at dksX1_checkIndex_0 1 rfl rfl)
theorem dX1_checkIndex_4 : decode cX1_checkIndex 4 = .ok (.new 63, 3) := dk_187 0 63 (dk_at dksX1_checkIndex_0 4 rfl rfl)
theorem dX1_checkIndex_7 : decode cX1_checkIndex 7 = .ok (.dup, 1) := dk_89 (dk_at dksX1_checkIndex_0 7 rfl rfl)
theorem dX1_checkIndex_8 : decode cX1_checkIndex 8 = .ok (.invokespecial 65, 3) := dk_183 0 65 (dk_at dksX1_checkIndex_0 8 rfl rfl)
theorem dX1_checkIndex_11 : decode cX1_checkIndex 11 = .ok (.athrow, 1) := dk_191 (dk_at dksX1_checkIndex_0 11 rfl rfl)
theorem dX1_checkIndex_12 : decode cX1_checkIndex 12 = .ok (.return_, 1) := dk_177 (dk_at dksX1_checkIndex_0 12 rfl rfl)
abbrev cX1_removeRule : ByteArray := prog_1_method_17_code
def yX1_removeRule : MethodName := ⟨RX1, "removeRule", "(II)I"⟩
def dkwX1_removeRule_0 : List UInt8 := [42, 42, 182, 0, 88, 27, 28, 182, 0, 103, 182, 0, 96, 172]
abbrev dktX1_removeRule_0 : List UInt8 := dkwX1_removeRule_0 ++ []
theorem dksX1_removeRule_0 : cX1_removeRule.data.toList.drop 0 = dktX1_removeRule_0 := by decide +kernel
theorem dX1_removeRule_0 : decode cX1_removeRule 0 = .ok (.aload_n 0, 1) := dk_42 (dk_at dksX1_removeRule_0 0 rfl rfl)
theorem dX1_removeRule_1 : decode cX1_removeRule 1 = .ok (.aload_n 0, 1) := dk_42 (dk_at dksX1_removeRule_0 1 rfl rfl)
theorem dX1_removeRule_2 : decode cX1_removeRule 2 = .ok (.invokevirtual 88, 3) := dk_182 0 88 (dk_at dksX1_removeRule_0 2 rfl rfl)
theorem dX1_removeRule_5 : decode cX1_removeRule 5 = .ok (.iload_n 1, 1) := dk_27 (dk_at dksX1_removeRule_0 5 rfl rfl)
theorem dX1_removeRule_6 : decode cX1_removeRule 6 = .ok (.iload_n 2, 1) := dk_28 (dk_at dksX1_removeRule_0 6 rfl rfl)
theorem dX1_removeRule_7 : decode cX1_removeRule 7 = .ok (.invokevirtual 103, 3) := dk_182 0 103 (dk_at dksX1_removeRule_0 7 rfl rfl)
theorem dX1_removeRule_10 : decode cX1_removeRule 10 = .ok (.invokevirtual 96, 3) := dk_182 0 96 (dk_at dksX1_removeRule_0 10 rfl rfl)
theorem dX1_removeRule_13 : decode cX1_removeRule 13 = .ok (.ireturn, 1) := dk_172 (dk_at dksX1_removeRule_0 13 rfl rfl)
abbrev cX1_checkElement : ByteArray := prog_1_method_7_code
def yX1_checkElement : MethodName := ⟨RX1, "checkElement", "(Z)V"⟩
def dkwX1_checkElement_0 : List UInt8 := [26, 154, 0, 11, 187, 0, 57, 89, 183, 0, 59, 191, 177]
abbrev dktX1_checkElement_0 : List UInt8 := dkwX1_checkElement_0 ++ []
theorem dksX1_checkElement_0 : cX1_checkElement.data.toList.drop 0 = dktX1_checkElement_0 := by decide +kernel
theorem dX1_checkElement_0 : decode cX1_checkElement 0 = .ok (.iload_n 0, 1) := dk_26 (dk_at dksX1_checkElement_0 0 rfl rfl)
theorem dX1_checkElement_1 : decode cX1_checkElement 1 = .ok (.ifCond .ne 11, 3) := dk_154 0 11 (dk_at dksX1_checkElement_0 1 rfl rfl)
theorem dX1_checkElement_4 : decode cX1_checkElement 4 = .ok (.new 57, 3) := dk_187 0 57 (dk_at dksX1_checkElement_0 4 rfl rfl)
theorem dX1_checkElement_7 : decode cX1_checkElement 7 = .ok (.dup, 1) := dk_89 (dk_at dksX1_checkElement_0 7 rfl rfl)
theorem dX1_checkElement_8 : decode cX1_checkElement 8 = .ok (.invokespecial 59, 3) := dk_183 0 59 (dk_at dksX1_checkElement_0 8 rfl rfl)
theorem dX1_checkElement_11 : decode cX1_checkElement 11 = .ok (.athrow, 1) := dk_191 (dk_at dksX1_checkElement_0 11 rfl rfl)
theorem dX1_checkElement_12 : decode cX1_checkElement 12 = .ok (.return_, 1) := dk_177 (dk_at dksX1_checkElement_0 12 rfl rfl)
abbrev cX1_dignityOf : ByteArray := prog_1_method_19_code
def yX1_dignityOf : MethodName := ⟨RX1, "dignityOf", "(I)I"⟩
def dkwX1_dignityOf_0 : List UInt8 := [42, 180, 0, 16, 27, 182, 0, 109, 42, 180, 0, 16, 180, 0, 113, 27, 46, 172]
abbrev dktX1_dignityOf_0 : List UInt8 := dkwX1_dignityOf_0 ++ []
theorem dksX1_dignityOf_0 : cX1_dignityOf.data.toList.drop 0 = dktX1_dignityOf_0 := by decide +kernel
theorem dX1_dignityOf_0 : decode cX1_dignityOf 0 = .ok (.aload_n 0, 1) := dk_42 (dk_at dksX1_dignityOf_0 0 rfl rfl)
theorem dX1_dignityOf_1 : decode cX1_dignityOf 1 = .ok (.getfield 16, 3) := dk_180 0 16 (dk_at dksX1_dignityOf_0 1 rfl rfl)
theorem dX1_dignityOf_4 : decode cX1_dignityOf 4 = .ok (.iload_n 1, 1) := dk_27 (dk_at dksX1_dignityOf_0 4 rfl rfl)
theorem dX1_dignityOf_5 : decode cX1_dignityOf 5 = .ok (.invokevirtual 109, 3) := dk_182 0 109 (dk_at dksX1_dignityOf_0 5 rfl rfl)
theorem dX1_dignityOf_8 : decode cX1_dignityOf 8 = .ok (.aload_n 0, 1) := dk_42 (dk_at dksX1_dignityOf_0 8 rfl rfl)
theorem dX1_dignityOf_9 : decode cX1_dignityOf 9 = .ok (.getfield 16, 3) := dk_180 0 16 (dk_at dksX1_dignityOf_0 9 rfl rfl)
theorem dX1_dignityOf_12 : decode cX1_dignityOf 12 = .ok (.getfield 113, 3) := dk_180 0 113 (dk_at dksX1_dignityOf_0 12 rfl rfl)
theorem dX1_dignityOf_15 : decode cX1_dignityOf 15 = .ok (.iload_n 1, 1) := dk_27 (dk_at dksX1_dignityOf_0 15 rfl rfl)
theorem dX1_dignityOf_16 : decode cX1_dignityOf 16 = .ok (.iaload, 1) := dk_46 (dk_at dksX1_dignityOf_0 16 rfl rfl)
theorem dX1_dignityOf_17 : decode cX1_dignityOf 17 = .ok (.ireturn, 1) := dk_172 (dk_at dksX1_dignityOf_0 17 rfl rfl)
abbrev cX1_favorOf : ByteArray := prog_1_method_20_code
def yX1_favorOf : MethodName := ⟨RX1, "favorOf", "(I)I"⟩
def dkwX1_favorOf_0 : List UInt8 := [42, 180, 0, 16, 27, 182, 0, 109, 42, 180, 0, 16, 180, 0, 117, 27, 46, 172]
abbrev dktX1_favorOf_0 : List UInt8 := dkwX1_favorOf_0 ++ []
theorem dksX1_favorOf_0 : cX1_favorOf.data.toList.drop 0 = dktX1_favorOf_0 := by decide +kernel
theorem dX1_favorOf_0 : decode cX1_favorOf 0 = .ok (.aload_n 0, 1) := dk_42 (dk_at dksX1_favorOf_0 0 rfl rfl)
theorem dX1_favorOf_1 : decode cX1_favorOf 1 = .ok (.getfield 16, 3) := dk_180 0 16 (dk_at dksX1_favorOf_0 1 rfl rfl)
theorem dX1_favorOf_4 : decode cX1_favorOf 4 = .ok (.iload_n 1, 1) := dk_27 (dk_at dksX1_favorOf_0 4 rfl rfl)
theorem dX1_favorOf_5 : decode cX1_favorOf 5 = .ok (.invokevirtual 109, 3) := dk_182 0 109 (dk_at dksX1_favorOf_0 5 rfl rfl)
theorem dX1_favorOf_8 : decode cX1_favorOf 8 = .ok (.aload_n 0, 1) := dk_42 (dk_at dksX1_favorOf_0 8 rfl rfl)
theorem dX1_favorOf_9 : decode cX1_favorOf 9 = .ok (.getfield 16, 3) := dk_180 0 16 (dk_at dksX1_favorOf_0 9 rfl rfl)
theorem dX1_favorOf_12 : decode cX1_favorOf 12 = .ok (.getfield 117, 3) := dk_180 0 117 (dk_at dksX1_favorOf_0 12 rfl rfl)
theorem dX1_favorOf_15 : decode cX1_favorOf 15 = .ok (.iload_n 1, 1) := dk_27 (dk_at dksX1_favorOf_0 15 rfl rfl)
theorem dX1_favorOf_16 : decode cX1_favorOf 16 = .ok (.iaload, 1) := dk_46 (dk_at dksX1_favorOf_0 16 rfl rfl)
theorem dX1_favorOf_17 : decode cX1_favorOf 17 = .ok (.ireturn, 1) := dk_172 (dk_at dksX1_favorOf_0 17 rfl rfl)
abbrev cX1_precedes : ByteArray := prog_1_method_22_code
def yX1_precedes : MethodName := ⟨RX1, "precedes", "(II)Z"⟩
def dkwX1_precedes_0 : List UInt8 := [42, 180, 0, 16, 27, 28, 182, 0, 123, 42, 180, 0, 16, 27, 28, 182, 0, 127, 172]
abbrev dktX1_precedes_0 : List UInt8 := dkwX1_precedes_0 ++ []
theorem dksX1_precedes_0 : cX1_precedes.data.toList.drop 0 = dktX1_precedes_0 := by decide +kernel
theorem dX1_precedes_0 : decode cX1_precedes 0 = .ok (.aload_n 0, 1) := dk_42 (dk_at dksX1_precedes_0 0 rfl rfl)
theorem dX1_precedes_1 : decode cX1_precedes 1 = .ok (.getfield 16, 3) := dk_180 0 16 (dk_at dksX1_precedes_0 1 rfl rfl)
theorem dX1_precedes_4 : decode cX1_precedes 4 = .ok (.iload_n 1, 1) := dk_27 (dk_at dksX1_precedes_0 4 rfl rfl)
theorem dX1_precedes_5 : decode cX1_precedes 5 = .ok (.iload_n 2, 1) := dk_28 (dk_at dksX1_precedes_0 5 rfl rfl)
theorem dX1_precedes_6 : decode cX1_precedes 6 = .ok (.invokevirtual 123, 3) := dk_182 0 123 (dk_at dksX1_precedes_0 6 rfl rfl)
theorem dX1_precedes_9 : decode cX1_precedes 9 = .ok (.aload_n 0, 1) := dk_42 (dk_at dksX1_precedes_0 9 rfl rfl)
theorem dX1_precedes_10 : decode cX1_precedes 10 = .ok (.getfield 16, 3) := dk_180 0 16 (dk_at dksX1_precedes_0 10 rfl rfl)
theorem dX1_precedes_13 : decode cX1_precedes 13 = .ok (.iload_n 1, 1) := dk_27 (dk_at dksX1_precedes_0 13 rfl rfl)
theorem dX1_precedes_14 : decode cX1_precedes 14 = .ok (.iload_n 2, 1) := dk_28 (dk_at dksX1_precedes_0 14 rfl rfl)
theorem dX1_precedes_15 : decode cX1_precedes 15 = .ok (.invokevirtual 127, 3) := dk_182 0 127 (dk_at dksX1_precedes_0 15 rfl rfl)
theorem dX1_precedes_18 : decode cX1_precedes 18 = .ok (.ireturn, 1) := dk_172 (dk_at dksX1_precedes_0 18 rfl rfl)
abbrev cX1_courtierByDignity : ByteArray := prog_1_method_23_code
def yX1_courtierByDignity : MethodName := ⟨RX1, "courtierByDignity", "(I)I"⟩
def dkwX1_courtierByDignity_0 : List UInt8 := [42, 180, 0, 16, 27, 182, 0, 131, 184, 0, 134, 172]
abbrev dktX1_courtierByDignity_0 : List UInt8 := dkwX1_courtierByDignity_0 ++ []
theorem dksX1_courtierByDignity_0 : cX1_courtierByDignity.data.toList.drop 0 = dktX1_courtierByDignity_0 := by decide +kernel
theorem dX1_courtierByDignity_0 : decode cX1_courtierByDignity 0 = .ok (.aload_n 0, 1) := dk_42 (dk_at dksX1_courtierByDignity_0 0 rfl rfl)
theorem dX1_courtierByDignity_1 : decode cX1_courtierByDignity 1 = .ok (.getfield 16, 3) := dk_180 0 16 (dk_at dksX1_courtierByDignity_0 1 rfl rfl)
theorem dX1_courtierByDignity_4 : decode cX1_courtierByDignity 4 = .ok (.iload_n 1, 1) := dk_27 (dk_at dksX1_courtierByDignity_0 4 rfl rfl)
theorem dX1_courtierByDignity_5 : decode cX1_courtierByDignity 5 = .ok (.invokevirtual 131, 3) := dk_182 0 131 (dk_at dksX1_courtierByDignity_0 5 rfl rfl)
theorem dX1_courtierByDignity_8 : decode cX1_courtierByDignity 8 = .ok (.invokestatic 134, 3) := dk_184 0 134 (dk_at dksX1_courtierByDignity_0 8 rfl rfl)
theorem dX1_courtierByDignity_11 : decode cX1_courtierByDignity 11 = .ok (.ireturn, 1) := dk_172 (dk_at dksX1_courtierByDignity_0 11 rfl rfl)
abbrev cX1_found : ByteArray := prog_1_method_11_code
def yX1_found : MethodName := ⟨RX1, "found", "(I)I"⟩
def dkwX1_found_0 : List UInt8 := [26, 2, 159, 0, 7, 4, 167, 0, 4, 3, 184, 0, 69, 26, 172]
abbrev dktX1_found_0 : List UInt8 := dkwX1_found_0 ++ []
theorem dksX1_found_0 : cX1_found.data.toList.drop 0 = dktX1_found_0 := by decide +kernel
theorem dX1_found_0 : decode cX1_found 0 = .ok (.iload_n 0, 1) := dk_26 (dk_at dksX1_found_0 0 rfl rfl)
theorem dX1_found_1 : decode cX1_found 1 = .ok (.iconst (-1), 1) := dk_2 (dk_at dksX1_found_0 1 rfl rfl)
theorem dX1_found_2 : decode cX1_found 2 = .ok (.if_icmp .eq 7, 3) := dk_159 0 7 (dk_at dksX1_found_0 2 rfl rfl)
theorem dX1_found_5 : decode cX1_found 5 = .ok (.iconst 1, 1) := dk_4 (dk_at dksX1_found_0 5 rfl rfl)
theorem dX1_found_6 : decode cX1_found 6 = .ok (.goto 4, 3) := dk_167 0 4 (dk_at dksX1_found_0 6 rfl rfl)
theorem dX1_found_9 : decode cX1_found 9 = .ok (.iconst 0, 1) := dk_3 (dk_at dksX1_found_0 9 rfl rfl)
theorem dX1_found_10 : decode cX1_found 10 = .ok (.invokestatic 69, 3) := dk_184 0 69 (dk_at dksX1_found_0 10 rfl rfl)
theorem dX1_found_13 : decode cX1_found 13 = .ok (.iload_n 0, 1) := dk_26 (dk_at dksX1_found_0 13 rfl rfl)
theorem dX1_found_14 : decode cX1_found 14 = .ok (.ireturn, 1) := dk_172 (dk_at dksX1_found_0 14 rfl rfl)
abbrev cX1_firstProcessionAt : ByteArray := prog_1_method_27_code
def yX1_firstProcessionAt : MethodName := ⟨RX1, "firstProcessionAt", "(I)I"⟩
def dkwX1_firstProcessionAt_0 : List UInt8 := [42, 27, 182, 0, 144, 42, 180, 0, 16, 182, 0, 147, 27, 46, 172]
abbrev dktX1_firstProcessionAt_0 : List UInt8 := dkwX1_firstProcessionAt_0 ++ []
theorem dksX1_firstProcessionAt_0 : cX1_firstProcessionAt.data.toList.drop 0 = dktX1_firstProcessionAt_0 := by decide +kernel
theorem dX1_firstProcessionAt_0 : decode cX1_firstProcessionAt 0 = .ok (.aload_n 0, 1) := dk_42 (dk_at dksX1_firstProcessionAt_0 0 rfl rfl)
theorem dX1_firstProcessionAt_1 : decode cX1_firstProcessionAt 1 = .ok (.iload_n 1, 1) := dk_27 (dk_at dksX1_firstProcessionAt_0 1 rfl rfl)
theorem dX1_firstProcessionAt_2 : decode cX1_firstProcessionAt 2 = .ok (.invokevirtual 144, 3) := dk_182 0 144 (dk_at dksX1_firstProcessionAt_0 2 rfl rfl)
theorem dX1_firstProcessionAt_5 : decode cX1_firstProcessionAt 5 = .ok (.aload_n 0, 1) := dk_42 (dk_at dksX1_firstProcessionAt_0 5 rfl rfl)
theorem dX1_firstProcessionAt_6 : decode cX1_firstProcessionAt 6 = .ok (.getfield 16, 3) := dk_180 0 16 (dk_at dksX1_firstProcessionAt_0 6 rfl rfl)
theorem dX1_firstProcessionAt_9 : decode cX1_firstProcessionAt 9 = .ok (.invokevirtual 147, 3) := dk_182 0 147 (dk_at dksX1_firstProcessionAt_0 9 rfl rfl)
theorem dX1_firstProcessionAt_12 : decode cX1_firstProcessionAt 12 = .ok (.iload_n 1, 1) := dk_27 (dk_at dksX1_firstProcessionAt_0 12 rfl rfl)
theorem dX1_firstProcessionAt_13 : decode cX1_firstProcessionAt 13 = .ok (.iaload, 1) := dk_46 (dk_at dksX1_firstProcessionAt_0 13 rfl rfl)
theorem dX1_firstProcessionAt_14 : decode cX1_firstProcessionAt 14 = .ok (.ireturn, 1) := dk_172 (dk_at dksX1_firstProcessionAt_0 14 rfl rfl)
abbrev cX1_checkPlace : ByteArray := prog_1_method_26_code
def yX1_checkPlace : MethodName := ⟨RX1, "checkPlace", "(I)V"⟩
def dkwX1_checkPlace_0 : List UInt8 := [27, 3, 42, 180, 0, 16, 180, 0, 106, 4, 100, 184, 0, 1, 184, 0, 69, 177]
abbrev dktX1_checkPlace_0 : List UInt8 := dkwX1_checkPlace_0 ++ []
theorem dksX1_checkPlace_0 : cX1_checkPlace.data.toList.drop 0 = dktX1_checkPlace_0 := by decide +kernel
theorem dX1_checkPlace_0 : decode cX1_checkPlace 0 = .ok (.iload_n 1, 1) := dk_27 (dk_at dksX1_checkPlace_0 0 rfl rfl)
theorem dX1_checkPlace_1 : decode cX1_checkPlace 1 = .ok (.iconst 0, 1) := dk_3 (dk_at dksX1_checkPlace_0 1 rfl rfl)
theorem dX1_checkPlace_2 : decode cX1_checkPlace 2 = .ok (.aload_n 0, 1) := dk_42 (dk_at dksX1_checkPlace_0 2 rfl rfl)
theorem dX1_checkPlace_3 : decode cX1_checkPlace 3 = .ok (.getfield 16, 3) := dk_180 0 16 (dk_at dksX1_checkPlace_0 3 rfl rfl)
theorem dX1_checkPlace_6 : decode cX1_checkPlace 6 = .ok (.getfield 106, 3) := dk_180 0 106 (dk_at dksX1_checkPlace_0 6 rfl rfl)
theorem dX1_checkPlace_9 : decode cX1_checkPlace 9 = .ok (.iconst 1, 1) := dk_4 (dk_at dksX1_checkPlace_0 9 rfl rfl)
theorem dX1_checkPlace_10 : decode cX1_checkPlace 10 = .ok (.isub, 1) := dk_100 (dk_at dksX1_checkPlace_0 10 rfl rfl)
theorem dX1_checkPlace_11 : decode cX1_checkPlace 11 = .ok (.invokestatic 1, 3) := dk_184 0 1 (dk_at dksX1_checkPlace_0 11 rfl rfl)
theorem dX1_checkPlace_14 : decode cX1_checkPlace 14 = .ok (.invokestatic 69, 3) := dk_184 0 69 (dk_at dksX1_checkPlace_0 14 rfl rfl)
theorem dX1_checkPlace_17 : decode cX1_checkPlace 17 = .ok (.return_, 1) := dk_177 (dk_at dksX1_checkPlace_0 17 rfl rfl)
abbrev cX1_grandProcessionAt : ByteArray := prog_1_method_28_code
def yX1_grandProcessionAt : MethodName := ⟨RX1, "grandProcessionAt", "(I)I"⟩
def dkwX1_grandProcessionAt_0 : List UInt8 := [42, 27, 182, 0, 144, 42, 180, 0, 16, 182, 0, 151, 27, 46, 172]
abbrev dktX1_grandProcessionAt_0 : List UInt8 := dkwX1_grandProcessionAt_0 ++ []
theorem dksX1_grandProcessionAt_0 : cX1_grandProcessionAt.data.toList.drop 0 = dktX1_grandProcessionAt_0 := by decide +kernel
theorem dX1_grandProcessionAt_0 : decode cX1_grandProcessionAt 0 = .ok (.aload_n 0, 1) := dk_42 (dk_at dksX1_grandProcessionAt_0 0 rfl rfl)
theorem dX1_grandProcessionAt_1 : decode cX1_grandProcessionAt 1 = .ok (.iload_n 1, 1) := dk_27 (dk_at dksX1_grandProcessionAt_0 1 rfl rfl)
theorem dX1_grandProcessionAt_2 : decode cX1_grandProcessionAt 2 = .ok (.invokevirtual 144, 3) := dk_182 0 144 (dk_at dksX1_grandProcessionAt_0 2 rfl rfl)
theorem dX1_grandProcessionAt_5 : decode cX1_grandProcessionAt 5 = .ok (.aload_n 0, 1) := dk_42 (dk_at dksX1_grandProcessionAt_0 5 rfl rfl)
theorem dX1_grandProcessionAt_6 : decode cX1_grandProcessionAt 6 = .ok (.getfield 16, 3) := dk_180 0 16 (dk_at dksX1_grandProcessionAt_0 6 rfl rfl)
theorem dX1_grandProcessionAt_9 : decode cX1_grandProcessionAt 9 = .ok (.invokevirtual 151, 3) := dk_182 0 151 (dk_at dksX1_grandProcessionAt_0 9 rfl rfl)
theorem dX1_grandProcessionAt_12 : decode cX1_grandProcessionAt 12 = .ok (.iload_n 1, 1) := dk_27 (dk_at dksX1_grandProcessionAt_0 12 rfl rfl)
theorem dX1_grandProcessionAt_13 : decode cX1_grandProcessionAt 13 = .ok (.iaload, 1) := dk_46 (dk_at dksX1_grandProcessionAt_0 13 rfl rfl)
theorem dX1_grandProcessionAt_14 : decode cX1_grandProcessionAt 14 = .ok (.ireturn, 1) := dk_172 (dk_at dksX1_grandProcessionAt_0 14 rfl rfl)
abbrev cX1_lowestPlaceOf : ByteArray := prog_1_method_29_code
def yX1_lowestPlaceOf : MethodName := ⟨RX1, "lowestPlaceOf", "(I)I"⟩
def dkwX1_lowestPlaceOf_0 : List UInt8 := [42, 180, 0, 16, 27, 182, 0, 109, 42, 180, 0, 16, 27, 182, 0, 154, 172]
abbrev dktX1_lowestPlaceOf_0 : List UInt8 := dkwX1_lowestPlaceOf_0 ++ []
theorem dksX1_lowestPlaceOf_0 : cX1_lowestPlaceOf.data.toList.drop 0 = dktX1_lowestPlaceOf_0 := by decide +kernel
theorem dX1_lowestPlaceOf_0 : decode cX1_lowestPlaceOf 0 = .ok (.aload_n 0, 1) := dk_42 (dk_at dksX1_lowestPlaceOf_0 0 rfl rfl)
theorem dX1_lowestPlaceOf_1 : decode cX1_lowestPlaceOf 1 = .ok (.getfield 16, 3) := dk_180 0 16 (dk_at dksX1_lowestPlaceOf_0 1 rfl rfl)
theorem dX1_lowestPlaceOf_4 : decode cX1_lowestPlaceOf 4 = .ok (.iload_n 1, 1) := dk_27 (dk_at dksX1_lowestPlaceOf_0 4 rfl rfl)
theorem dX1_lowestPlaceOf_5 : decode cX1_lowestPlaceOf 5 = .ok (.invokevirtual 109, 3) := dk_182 0 109 (dk_at dksX1_lowestPlaceOf_0 5 rfl rfl)
theorem dX1_lowestPlaceOf_8 : decode cX1_lowestPlaceOf 8 = .ok (.aload_n 0, 1) := dk_42 (dk_at dksX1_lowestPlaceOf_0 8 rfl rfl)
theorem dX1_lowestPlaceOf_9 : decode cX1_lowestPlaceOf 9 = .ok (.getfield 16, 3) := dk_180 0 16 (dk_at dksX1_lowestPlaceOf_0 9 rfl rfl)
theorem dX1_lowestPlaceOf_12 : decode cX1_lowestPlaceOf 12 = .ok (.iload_n 1, 1) := dk_27 (dk_at dksX1_lowestPlaceOf_0 12 rfl rfl)
theorem dX1_lowestPlaceOf_13 : decode cX1_lowestPlaceOf 13 = .ok (.invokevirtual 154, 3) := dk_182 0 154 (dk_at dksX1_lowestPlaceOf_0 13 rfl rfl)
theorem dX1_lowestPlaceOf_16 : decode cX1_lowestPlaceOf 16 = .ok (.ireturn, 1) := dk_172 (dk_at dksX1_lowestPlaceOf_0 16 rfl rfl)
abbrev cX1_type : ByteArray := prog_1_method_30_code
def yX1_type : MethodName := ⟨RX1, "type", "(C)I"⟩
def dkwX1_type_1 : List UInt8 := [167, 0, 4, 3, 184, 0, 164, 42, 180, 0, 39, 27, 182, 0, 167, 87, 42, 180, 0, 39, 182, 0, 160, 172]
abbrev dktX1_type_1 : List UInt8 := dkwX1_type_1 ++ []
def dkwX1_type_0 : List UInt8 := [27, 16, 32, 16, 126, 184, 0, 1, 184, 0, 157, 42, 180, 0, 39, 182, 0, 160, 16, 24, 162, 0, 7, 4]
abbrev dktX1_type_0 : List UInt8 := dkwX1_type_0 ++ dktX1_type_1
theorem dksX1_type_0 : cX1_type.data.toList.drop 0 = dktX1_type_0 := by decide +kernel
theorem dksX1_type_1 : cX1_type.data.toList.drop 24 = dktX1_type_1 := dk_seg dksX1_type_0 24 rfl rfl
theorem dX1_type_0 : decode cX1_type 0 = .ok (.iload_n 1, 1) := dk_27 (dk_at dksX1_type_0 0 rfl rfl)
theorem dX1_type_1 : decode cX1_type 1 = .ok (.bipush 32, 2) := dk_16 32 (dk_at dksX1_type_0 1 rfl rfl)
theorem dX1_type_3 : decode cX1_type 3 = .ok (.bipush 126, 2) := dk_16 126 (dk_at dksX1_type_0 3 rfl rfl)
theorem dX1_type_5 : decode cX1_type 5 = .ok (.invokestatic 1, 3) := dk_184 0 1 (dk_at dksX1_type_0 5 rfl rfl)
theorem dX1_type_8 : decode cX1_type 8 = .ok (.invokestatic 157, 3) := dk_184 0 157 (dk_at dksX1_type_0 8 rfl rfl)
theorem dX1_type_11 : decode cX1_type 11 = .ok (.aload_n 0, 1) := dk_42 (dk_at dksX1_type_0 11 rfl rfl)
theorem dX1_type_12 : decode cX1_type 12 = .ok (.getfield 39, 3) := dk_180 0 39 (dk_at dksX1_type_0 12 rfl rfl)
theorem dX1_type_15 : decode cX1_type 15 = .ok (.invokevirtual 160, 3) := dk_182 0 160 (dk_at dksX1_type_0 15 rfl rfl)
theorem dX1_type_18 : decode cX1_type 18 = .ok (.bipush 24, 2) := dk_16 24 (dk_at dksX1_type_0 18 rfl rfl)
theorem dX1_type_20 : decode cX1_type 20 = .ok (.if_icmp .ge 7, 3) := dk_162 0 7 (dk_at dksX1_type_0 20 rfl rfl)
theorem dX1_type_23 : decode cX1_type 23 = .ok (.iconst 1, 1) := dk_4 (dk_at dksX1_type_0 23 rfl rfl)
theorem dX1_type_24 : decode cX1_type 24 = .ok (.goto 4, 3) := dk_167 0 4 (dk_at dksX1_type_1 0 rfl rfl)
theorem dX1_type_27 : decode cX1_type 27 = .ok (.iconst 0, 1) := dk_3 (dk_at dksX1_type_1 3 rfl rfl)
theorem dX1_type_28 : decode cX1_type 28 = .ok (.invokestatic 164, 3) := dk_184 0 164 (dk_at dksX1_type_1 4 rfl rfl)
theorem dX1_type_31 : decode cX1_type 31 = .ok (.aload_n 0, 1) := dk_42 (dk_at dksX1_type_1 7 rfl rfl)
theorem dX1_type_32 : decode cX1_type 32 = .ok (.getfield 39, 3) := dk_180 0 39 (dk_at dksX1_type_1 8 rfl rfl)
theorem dX1_type_35 : decode cX1_type 35 = .ok (.iload_n 1, 1) := dk_27 (dk_at dksX1_type_1 11 rfl rfl)
theorem dX1_type_36 : decode cX1_type 36 = .ok (.invokevirtual 167, 3) := dk_182 0 167 (dk_at dksX1_type_1 12 rfl rfl)
theorem dX1_type_39 : decode cX1_type 39 = .ok (.pop, 1) := dk_87 (dk_at dksX1_type_1 15 rfl rfl)
theorem dX1_type_40 : decode cX1_type 40 = .ok (.aload_n 0, 1) := dk_42 (dk_at dksX1_type_1 16 rfl rfl)
theorem dX1_type_41 : decode cX1_type 41 = .ok (.getfield 39, 3) := dk_180 0 39 (dk_at dksX1_type_1 17 rfl rfl)
theorem dX1_type_44 : decode cX1_type 44 = .ok (.invokevirtual 160, 3) := dk_182 0 160 (dk_at dksX1_type_1 20 rfl rfl)
theorem dX1_type_47 : decode cX1_type 47 = .ok (.ireturn, 1) := dk_172 (dk_at dksX1_type_1 23 rfl rfl)
abbrev cX1_removals : ByteArray := prog_1_method_36_code
def yX1_removals : MethodName := ⟨RX1, "removals", "()I"⟩
def dkwX1_removals_1 : List UInt8 := [180, 0, 39, 183, 0, 199, 182, 0, 200, 172]
abbrev dktX1_removals_1 : List UInt8 := dkwX1_removals_1 ++ []
def dkwX1_removals_0 : List UInt8 := [42, 16, 48, 16, 57, 182, 0, 194, 158, 0, 7, 4, 167, 0, 4, 3, 184, 0, 69, 187, 0, 197, 89, 42]
abbrev dktX1_removals_0 : List UInt8 := dkwX1_removals_0 ++ dktX1_removals_1
theorem dksX1_removals_0 : cX1_removals.data.toList.drop 0 = dktX1_removals_0 := by decide +kernel
theorem dksX1_removals_1 : cX1_removals.data.toList.drop 24 = dktX1_removals_1 := dk_seg dksX1_removals_0 24 rfl rfl
theorem dX1_removals_0 : decode cX1_removals 0 = .ok (.aload_n 0, 1) := dk_42 (dk_at dksX1_removals_0 0 rfl rfl)
theorem dX1_removals_1 : decode cX1_removals 1 = .ok (.bipush 48, 2) := dk_16 48 (dk_at dksX1_removals_0 1 rfl rfl)
theorem dX1_removals_3 : decode cX1_removals 3 = .ok (.bipush 57, 2) := dk_16 57 (dk_at dksX1_removals_0 3 rfl rfl)
theorem dX1_removals_5 : decode cX1_removals 5 = .ok (.invokevirtual 194, 3) := dk_182 0 194 (dk_at dksX1_removals_0 5 rfl rfl)
theorem dX1_removals_8 : decode cX1_removals 8 = .ok (.ifCond .le 7, 3) := dk_158 0 7 (dk_at dksX1_removals_0 8 rfl rfl)
theorem dX1_removals_11 : decode cX1_removals 11 = .ok (.iconst 1, 1) := dk_4 (dk_at dksX1_removals_0 11 rfl rfl)
theorem dX1_removals_12 : decode cX1_removals 12 = .ok (.goto 4, 3) := dk_167 0 4 (dk_at dksX1_removals_0 12 rfl rfl)
theorem dX1_removals_15 : decode cX1_removals 15 = .ok (.iconst 0, 1) := dk_3 (dk_at dksX1_removals_0 15 rfl rfl)
theorem dX1_removals_16 : decode cX1_removals 16 = .ok (.invokestatic 69, 3) := dk_184 0 69 (dk_at dksX1_removals_0 16 rfl rfl)
theorem dX1_removals_19 : decode cX1_removals 19 = .ok (.new 197, 3) := dk_187 0 197 (dk_at dksX1_removals_0 19 rfl rfl)
theorem dX1_removals_22 : decode cX1_removals 22 = .ok (.dup, 1) := dk_89 (dk_at dksX1_removals_0 22 rfl rfl)
theorem dX1_removals_23 : decode cX1_removals 23 = .ok (.aload_n 0, 1) := dk_42 (dk_at dksX1_removals_0 23 rfl rfl)
theorem dX1_removals_24 : decode cX1_removals 24 = .ok (.getfield 39, 3) := dk_180 0 39 (dk_at dksX1_removals_1 0 rfl rfl)
theorem dX1_removals_27 : decode cX1_removals 27 = .ok (.invokespecial 199, 3) := dk_183 0 199 (dk_at dksX1_removals_1 3 rfl rfl)
theorem dX1_removals_30 : decode cX1_removals 30 = .ok (.invokevirtual 200, 3) := dk_182 0 200 (dk_at dksX1_removals_1 6 rfl rfl)
theorem dX1_removals_33 : decode cX1_removals 33 = .ok (.ireturn, 1) := dk_172 (dk_at dksX1_removals_1 9 rfl rfl)
abbrev cX1_removalsByParts : ByteArray := prog_1_method_37_code
def yX1_removalsByParts : MethodName := ⟨RX1, "removalsByParts", "()I"⟩
def dkwX1_removalsByParts_1 : List UInt8 := [180, 0, 39, 183, 0, 205, 182, 0, 206, 172]
abbrev dktX1_removalsByParts_1 : List UInt8 := dkwX1_removalsByParts_1 ++ []
def dkwX1_removalsByParts_0 : List UInt8 := [42, 16, 48, 16, 57, 182, 0, 194, 158, 0, 7, 4, 167, 0, 4, 3, 184, 0, 69, 187, 0, 203, 89, 42]
abbrev dktX1_removalsByParts_0 : List UInt8 := dkwX1_removalsByParts_0 ++ dktX1_removalsByParts_1
theorem dksX1_removalsByParts_0 : cX1_removalsByParts.data.toList.drop 0 = dktX1_removalsByParts_0 := by decide +kernel
theorem dksX1_removalsByParts_1 : cX1_removalsByParts.data.toList.drop 24 = dktX1_removalsByParts_1 := dk_seg dksX1_removalsByParts_0 24 rfl rfl
theorem dX1_removalsByParts_0 : decode cX1_removalsByParts 0 = .ok (.aload_n 0, 1) := dk_42 (dk_at dksX1_removalsByParts_0 0 rfl rfl)
theorem dX1_removalsByParts_1 : decode cX1_removalsByParts 1 = .ok (.bipush 48, 2) := dk_16 48 (dk_at dksX1_removalsByParts_0 1 rfl rfl)
theorem dX1_removalsByParts_3 : decode cX1_removalsByParts 3 = .ok (.bipush 57, 2) := dk_16 57 (dk_at dksX1_removalsByParts_0 3 rfl rfl)
theorem dX1_removalsByParts_5 : decode cX1_removalsByParts 5 = .ok (.invokevirtual 194, 3) := dk_182 0 194 (dk_at dksX1_removalsByParts_0 5 rfl rfl)
theorem dX1_removalsByParts_8 : decode cX1_removalsByParts 8 = .ok (.ifCond .le 7, 3) := dk_158 0 7 (dk_at dksX1_removalsByParts_0 8 rfl rfl)
theorem dX1_removalsByParts_11 : decode cX1_removalsByParts 11 = .ok (.iconst 1, 1) := dk_4 (dk_at dksX1_removalsByParts_0 11 rfl rfl)
theorem dX1_removalsByParts_12 : decode cX1_removalsByParts 12 = .ok (.goto 4, 3) := dk_167 0 4 (dk_at dksX1_removalsByParts_0 12 rfl rfl)
theorem dX1_removalsByParts_15 : decode cX1_removalsByParts 15 = .ok (.iconst 0, 1) := dk_3 (dk_at dksX1_removalsByParts_0 15 rfl rfl)
theorem dX1_removalsByParts_16 : decode cX1_removalsByParts 16 = .ok (.invokestatic 69, 3) := dk_184 0 69 (dk_at dksX1_removalsByParts_0 16 rfl rfl)
theorem dX1_removalsByParts_19 : decode cX1_removalsByParts 19 = .ok (.new 203, 3) := dk_187 0 203 (dk_at dksX1_removalsByParts_0 19 rfl rfl)
theorem dX1_removalsByParts_22 : decode cX1_removalsByParts 22 = .ok (.dup, 1) := dk_89 (dk_at dksX1_removalsByParts_0 22 rfl rfl)
theorem dX1_removalsByParts_23 : decode cX1_removalsByParts 23 = .ok (.aload_n 0, 1) := dk_42 (dk_at dksX1_removalsByParts_0 23 rfl rfl)
theorem dX1_removalsByParts_24 : decode cX1_removalsByParts 24 = .ok (.getfield 39, 3) := dk_180 0 39 (dk_at dksX1_removalsByParts_1 0 rfl rfl)
theorem dX1_removalsByParts_27 : decode cX1_removalsByParts 27 = .ok (.invokespecial 205, 3) := dk_183 0 205 (dk_at dksX1_removalsByParts_1 3 rfl rfl)
theorem dX1_removalsByParts_30 : decode cX1_removalsByParts 30 = .ok (.invokevirtual 206, 3) := dk_182 0 206 (dk_at dksX1_removalsByParts_1 6 rfl rfl)
theorem dX1_removalsByParts_33 : decode cX1_removalsByParts 33 = .ok (.ireturn, 1) := dk_172 (dk_at dksX1_removalsByParts_1 9 rfl rfl)
abbrev cX1_textError : ByteArray := prog_1_method_38_code
def yX1_textError : MethodName := ⟨RX1, "textError", "()I"⟩
def dkwX1_textError_0 : List UInt8 := [42, 182, 0, 187, 184, 0, 134, 172]
abbrev dktX1_textError_0 : List UInt8 := dkwX1_textError_0 ++ []
theorem dksX1_textError_0 : cX1_textError.data.toList.drop 0 = dktX1_textError_0 := by decide +kernel
theorem dX1_textError_0 : decode cX1_textError 0 = .ok (.aload_n 0, 1) := dk_42 (dk_at dksX1_textError_0 0 rfl rfl)
theorem dX1_textError_1 : decode cX1_textError 1 = .ok (.invokevirtual 187, 3) := dk_182 0 187 (dk_at dksX1_textError_0 1 rfl rfl)
theorem dX1_textError_4 : decode cX1_textError 4 = .ok (.invokestatic 134, 3) := dk_184 0 134 (dk_at dksX1_textError_0 4 rfl rfl)
theorem dX1_textError_7 : decode cX1_textError 7 = .ok (.ireturn, 1) := dk_172 (dk_at dksX1_textError_0 7 rfl rfl)
abbrev cX1_submit : ByteArray := prog_1_method_39_code
def yX1_submit : MethodName := ⟨RX1, "submit", "(I)I"⟩
def dkwX1_submit_2 : List UInt8 := [183, 0, 56, 191, 78, 42, 180, 0, 39, 3, 182, 0, 171, 45, 191]
abbrev dktX1_submit_2 : List UInt8 := dkwX1_submit_2 ++ []
def dkwX1_submit_1 : List UInt8 := [61, 42, 180, 0, 39, 3, 182, 0, 171, 28, 172, 77, 42, 44, 180, 0, 184, 181, 0, 46, 187, 0, 54, 89]
abbrev dktX1_submit_1 : List UInt8 := dkwX1_submit_1 ++ dktX1_submit_2
def dkwX1_submit_0 : List UInt8 := [42, 180, 0, 16, 27, 182, 0, 109, 42, 42, 182, 0, 88, 27, 42, 180, 0, 39, 182, 0, 207, 182, 0, 96]
abbrev dktX1_submit_0 : List UInt8 := dkwX1_submit_0 ++ dktX1_submit_1
theorem dksX1_submit_0 : cX1_submit.data.toList.drop 0 = dktX1_submit_0 := by decide +kernel
theorem dksX1_submit_1 : cX1_submit.data.toList.drop 24 = dktX1_submit_1 := dk_seg dksX1_submit_0 24 rfl rfl
theorem dksX1_submit_2 : cX1_submit.data.toList.drop 48 = dktX1_submit_2 := dk_seg dksX1_submit_1 24 rfl rfl
theorem dX1_submit_0 : decode cX1_submit 0 = .ok (.aload_n 0, 1) := dk_42 (dk_at dksX1_submit_0 0 rfl rfl)
theorem dX1_submit_1 : decode cX1_submit 1 = .ok (.getfield 16, 3) := dk_180 0 16 (dk_at dksX1_submit_0 1 rfl rfl)
theorem dX1_submit_4 : decode cX1_submit 4 = .ok (.iload_n 1, 1) := dk_27 (dk_at dksX1_submit_0 4 rfl rfl)
theorem dX1_submit_5 : decode cX1_submit 5 = .ok (.invokevirtual 109, 3) := dk_182 0 109 (dk_at dksX1_submit_0 5 rfl rfl)
theorem dX1_submit_8 : decode cX1_submit 8 = .ok (.aload_n 0, 1) := dk_42 (dk_at dksX1_submit_0 8 rfl rfl)
theorem dX1_submit_9 : decode cX1_submit 9 = .ok (.aload_n 0, 1) := dk_42 (dk_at dksX1_submit_0 9 rfl rfl)
theorem dX1_submit_10 : decode cX1_submit 10 = .ok (.invokevirtual 88, 3) := dk_182 0 88 (dk_at dksX1_submit_0 10 rfl rfl)
theorem dX1_submit_13 : decode cX1_submit 13 = .ok (.iload_n 1, 1) := dk_27 (dk_at dksX1_submit_0 13 rfl rfl)
theorem dX1_submit_14 : decode cX1_submit 14 = .ok (.aload_n 0, 1) := dk_42 (dk_at dksX1_submit_0 14 rfl rfl)
theorem dX1_submit_15 : decode cX1_submit 15 = .ok (.getfield 39, 3) := dk_180 0 39 (dk_at dksX1_submit_0 15 rfl rfl)
theorem dX1_submit_18 : decode cX1_submit 18 = .ok (.invokevirtual 207, 3) := dk_182 0 207 (dk_at dksX1_submit_0 18 rfl rfl)
theorem dX1_submit_21 : decode cX1_submit 21 = .ok (.invokevirtual 96, 3) := dk_182 0 96 (dk_at dksX1_submit_0 21 rfl rfl)
theorem dX1_submit_24 : decode cX1_submit 24 = .ok (.istore_n 2, 1) := dk_61 (dk_at dksX1_submit_1 0 rfl rfl)
theorem dX1_submit_25 : decode cX1_submit 25 = .ok (.aload_n 0, 1) := dk_42 (dk_at dksX1_submit_1 1 rfl rfl)
theorem dX1_submit_26 : decode cX1_submit 26 = .ok (.getfield 39, 3) := dk_180 0 39 (dk_at dksX1_submit_1 2 rfl rfl)
theorem dX1_submit_29 : decode cX1_submit 29 = .ok (.iconst 0, 1) := dk_3 (dk_at dksX1_submit_1 5 rfl rfl)
theorem dX1_submit_30 : decode cX1_submit 30 = .ok (.invokevirtual 171, 3) := dk_182 0 171 (dk_at dksX1_submit_1 6 rfl rfl)
theorem dX1_submit_33 : decode cX1_submit 33 = .ok (.iload_n 2, 1) := dk_28 (dk_at dksX1_submit_1 9 rfl rfl)
theorem dX1_submit_34 : decode cX1_submit 34 = .ok (.ireturn, 1) := dk_172 (dk_at dksX1_submit_1 10 rfl rfl)
theorem dX1_submit_35 : decode cX1_submit 35 = .ok (.astore_n 2, 1) := dk_77 (dk_at dksX1_submit_1 11 rfl rfl)
theorem dX1_submit_36 : decode cX1_submit 36 = .ok (.aload_n 0, 1) := dk_42 (dk_at dksX1_submit_1 12 rfl rfl)
theorem dX1_submit_37 : decode cX1_submit 37 = .ok (.aload_n 2, 1) := dk_44 (dk_at dksX1_submit_1 13 rfl rfl)
theorem dX1_submit_38 : decode cX1_submit 38 = .ok (.getfield 184, 3) := dk_180 0 184 (dk_at dksX1_submit_1 14 rfl rfl)
theorem dX1_submit_41 : decode cX1_submit 41 = .ok (.putfield 46, 3) := dk_181 0 46 (dk_at dksX1_submit_1 17 rfl rfl)
theorem dX1_submit_44 : decode cX1_submit 44 = .ok (.new 54, 3) := dk_187 0 54 (dk_at dksX1_submit_1 20 rfl rfl)
theorem dX1_submit_47 : decode cX1_submit 47 = .ok (.dup, 1) := dk_89 (dk_at dksX1_submit_1 23 rfl rfl)
theorem dX1_submit_48 : decode cX1_submit 48 = .ok (.invokespecial 56, 3) := dk_183 0 56 (dk_at dksX1_submit_2 0 rfl rfl)
theorem dX1_submit_51 : decode cX1_submit 51 = .ok (.athrow, 1) := dk_191 (dk_at dksX1_submit_2 3 rfl rfl)
theorem dX1_submit_52 : decode cX1_submit 52 = .ok (.astore_n 3, 1) := dk_78 (dk_at dksX1_submit_2 4 rfl rfl)
theorem dX1_submit_53 : decode cX1_submit 53 = .ok (.aload_n 0, 1) := dk_42 (dk_at dksX1_submit_2 5 rfl rfl)
theorem dX1_submit_54 : decode cX1_submit 54 = .ok (.getfield 39, 3) := dk_180 0 39 (dk_at dksX1_submit_2 6 rfl rfl)
theorem dX1_submit_57 : decode cX1_submit 57 = .ok (.iconst 0, 1) := dk_3 (dk_at dksX1_submit_2 9 rfl rfl)
theorem dX1_submit_58 : decode cX1_submit 58 = .ok (.invokevirtual 171, 3) := dk_182 0 171 (dk_at dksX1_submit_2 10 rfl rfl)
theorem dX1_submit_61 : decode cX1_submit 61 = .ok (.aload_n 3, 1) := dk_45 (dk_at dksX1_submit_2 13 rfl rfl)
theorem dX1_submit_62 : decode cX1_submit 62 = .ok (.athrow, 1) := dk_191 (dk_at dksX1_submit_2 14 rfl rfl)
abbrev cX1_grant : ByteArray := prog_1_method_40_code
def yX1_grant : MethodName := ⟨RX1, "grant", "(I)I"⟩
def dkwX1_grant_0 : List UInt8 := [42, 42, 182, 0, 88, 27, 182, 0, 211, 182, 0, 96, 172]
abbrev dktX1_grant_0 : List UInt8 := dkwX1_grant_0 ++ []
theorem dksX1_grant_0 : cX1_grant.data.toList.drop 0 = dktX1_grant_0 := by decide +kernel
theorem dX1_grant_0 : decode cX1_grant 0 = .ok (.aload_n 0, 1) := dk_42 (dk_at dksX1_grant_0 0 rfl rfl)
theorem dX1_grant_1 : decode cX1_grant 1 = .ok (.aload_n 0, 1) := dk_42 (dk_at dksX1_grant_0 1 rfl rfl)
theorem dX1_grant_2 : decode cX1_grant 2 = .ok (.invokevirtual 88, 3) := dk_182 0 88 (dk_at dksX1_grant_0 2 rfl rfl)
theorem dX1_grant_5 : decode cX1_grant 5 = .ok (.iload_n 1, 1) := dk_27 (dk_at dksX1_grant_0 5 rfl rfl)
theorem dX1_grant_6 : decode cX1_grant 6 = .ok (.invokevirtual 211, 3) := dk_182 0 211 (dk_at dksX1_grant_0 6 rfl rfl)
theorem dX1_grant_9 : decode cX1_grant 9 = .ok (.invokevirtual 96, 3) := dk_182 0 96 (dk_at dksX1_grant_0 9 rfl rfl)
theorem dX1_grant_12 : decode cX1_grant 12 = .ok (.ireturn, 1) := dk_172 (dk_at dksX1_grant_0 12 rfl rfl)
abbrev cX1_checkSupported : ByteArray := prog_1_method_10_code
def yX1_checkSupported : MethodName := ⟨RX1, "checkSupported", "(Z)V"⟩
def dkwX1_checkSupported_0 : List UInt8 := [26, 154, 0, 11, 187, 0, 66, 89, 183, 0, 68, 191, 177]
abbrev dktX1_checkSupported_0 : List UInt8 := dkwX1_checkSupported_0 ++ []
theorem dksX1_checkSupported_0 : cX1_checkSupported.data.toList.drop 0 = dktX1_checkSupported_0 := by decide +kernel
theorem dX1_checkSupported_0 : decode cX1_checkSupported 0 = .ok (.iload_n 0, 1) := dk_26 (dk_at dksX1_checkSupported_0 0 rfl rfl)
theorem dX1_checkSupported_1 : decode cX1_checkSupported 1 = .ok (.ifCond .ne 11, 3) := dk_154 0 11 (dk_at dksX1_checkSupported_0 1 rfl rfl)
theorem dX1_checkSupported_4 : decode cX1_checkSupported 4 = .ok (.new 66, 3) := dk_187 0 66 (dk_at dksX1_checkSupported_0 4 rfl rfl)
theorem dX1_checkSupported_7 : decode cX1_checkSupported 7 = .ok (.dup, 1) := dk_89 (dk_at dksX1_checkSupported_0 7 rfl rfl)
theorem dX1_checkSupported_8 : decode cX1_checkSupported 8 = .ok (.invokespecial 68, 3) := dk_183 0 68 (dk_at dksX1_checkSupported_0 8 rfl rfl)
theorem dX1_checkSupported_11 : decode cX1_checkSupported 11 = .ok (.athrow, 1) := dk_191 (dk_at dksX1_checkSupported_0 11 rfl rfl)
theorem dX1_checkSupported_12 : decode cX1_checkSupported 12 = .ok (.return_, 1) := dk_177 (dk_at dksX1_checkSupported_0 12 rfl rfl)
abbrev cX1_withdraw : ByteArray := prog_1_method_41_code
def yX1_withdraw : MethodName := ⟨RX1, "withdraw", "(I)I"⟩
def dkwX1_withdraw_0 : List UInt8 := [42, 42, 182, 0, 88, 27, 182, 0, 214, 182, 0, 96, 172]
abbrev dktX1_withdraw_0 : List UInt8 := dkwX1_withdraw_0 ++ []
theorem dksX1_withdraw_0 : cX1_withdraw.data.toList.drop 0 = dktX1_withdraw_0 := by decide +kernel
theorem dX1_withdraw_0 : decode cX1_withdraw 0 = .ok (.aload_n 0, 1) := dk_42 (dk_at dksX1_withdraw_0 0 rfl rfl)
theorem dX1_withdraw_1 : decode cX1_withdraw 1 = .ok (.aload_n 0, 1) := dk_42 (dk_at dksX1_withdraw_0 1 rfl rfl)
theorem dX1_withdraw_2 : decode cX1_withdraw 2 = .ok (.invokevirtual 88, 3) := dk_182 0 88 (dk_at dksX1_withdraw_0 2 rfl rfl)
theorem dX1_withdraw_5 : decode cX1_withdraw 5 = .ok (.iload_n 1, 1) := dk_27 (dk_at dksX1_withdraw_0 5 rfl rfl)
theorem dX1_withdraw_6 : decode cX1_withdraw 6 = .ok (.invokevirtual 214, 3) := dk_182 0 214 (dk_at dksX1_withdraw_0 6 rfl rfl)
theorem dX1_withdraw_9 : decode cX1_withdraw 9 = .ok (.invokevirtual 96, 3) := dk_182 0 96 (dk_at dksX1_withdraw_0 9 rfl rfl)
theorem dX1_withdraw_12 : decode cX1_withdraw 12 = .ok (.ireturn, 1) := dk_172 (dk_at dksX1_withdraw_0 12 rfl rfl)
abbrev cX1_errorPosition : ByteArray := prog_1_method_42_code
def yX1_errorPosition : MethodName := ⟨RX1, "errorPosition", "()I"⟩
def dkwX1_errorPosition_0 : List UInt8 := [42, 180, 0, 46, 184, 0, 134, 172]
abbrev dktX1_errorPosition_0 : List UInt8 := dkwX1_errorPosition_0 ++ []
theorem dksX1_errorPosition_0 : cX1_errorPosition.data.toList.drop 0 = dktX1_errorPosition_0 := by decide +kernel
theorem dX1_errorPosition_0 : decode cX1_errorPosition 0 = .ok (.aload_n 0, 1) := dk_42 (dk_at dksX1_errorPosition_0 0 rfl rfl)
theorem dX1_errorPosition_1 : decode cX1_errorPosition 1 = .ok (.getfield 46, 3) := dk_180 0 46 (dk_at dksX1_errorPosition_0 1 rfl rfl)
theorem dX1_errorPosition_4 : decode cX1_errorPosition 4 = .ok (.invokestatic 134, 3) := dk_184 0 134 (dk_at dksX1_errorPosition_0 4 rfl rfl)
theorem dX1_errorPosition_7 : decode cX1_errorPosition 7 = .ok (.ireturn, 1) := dk_172 (dk_at dksX1_errorPosition_0 7 rfl rfl)
abbrev cX1_courtierOf : ByteArray := prog_1_method_44_code
def yX1_courtierOf : MethodName := ⟨RX1, "courtierOf", "(I)I"⟩
def dkwX1_courtierOf_0 : List UInt8 := [42, 180, 0, 16, 27, 182, 0, 226, 180, 0, 230, 172]
abbrev dktX1_courtierOf_0 : List UInt8 := dkwX1_courtierOf_0 ++ []
theorem dksX1_courtierOf_0 : cX1_courtierOf.data.toList.drop 0 = dktX1_courtierOf_0 := by decide +kernel
theorem dX1_courtierOf_0 : decode cX1_courtierOf 0 = .ok (.aload_n 0, 1) := dk_42 (dk_at dksX1_courtierOf_0 0 rfl rfl)
theorem dX1_courtierOf_1 : decode cX1_courtierOf 1 = .ok (.getfield 16, 3) := dk_180 0 16 (dk_at dksX1_courtierOf_0 1 rfl rfl)
theorem dX1_courtierOf_4 : decode cX1_courtierOf 4 = .ok (.iload_n 1, 1) := dk_27 (dk_at dksX1_courtierOf_0 4 rfl rfl)
theorem dX1_courtierOf_5 : decode cX1_courtierOf 5 = .ok (.invokevirtual 226, 3) := dk_182 0 226 (dk_at dksX1_courtierOf_0 5 rfl rfl)
theorem dX1_courtierOf_8 : decode cX1_courtierOf 8 = .ok (.getfield 230, 3) := dk_180 0 230 (dk_at dksX1_courtierOf_0 8 rfl rfl)
theorem dX1_courtierOf_11 : decode cX1_courtierOf 11 = .ok (.ireturn, 1) := dk_172 (dk_at dksX1_courtierOf_0 11 rfl rfl)
abbrev cX1_valueOf : ByteArray := prog_1_method_45_code
def yX1_valueOf : MethodName := ⟨RX1, "valueOf", "(I)I"⟩
def dkwX1_valueOf_0 : List UInt8 := [42, 180, 0, 16, 27, 182, 0, 226, 180, 0, 235, 172]
abbrev dktX1_valueOf_0 : List UInt8 := dkwX1_valueOf_0 ++ []
theorem dksX1_valueOf_0 : cX1_valueOf.data.toList.drop 0 = dktX1_valueOf_0 := by decide +kernel
theorem dX1_valueOf_0 : decode cX1_valueOf 0 = .ok (.aload_n 0, 1) := dk_42 (dk_at dksX1_valueOf_0 0 rfl rfl)
theorem dX1_valueOf_1 : decode cX1_valueOf 1 = .ok (.getfield 16, 3) := dk_180 0 16 (dk_at dksX1_valueOf_0 1 rfl rfl)
theorem dX1_valueOf_4 : decode cX1_valueOf 4 = .ok (.iload_n 1, 1) := dk_27 (dk_at dksX1_valueOf_0 4 rfl rfl)
theorem dX1_valueOf_5 : decode cX1_valueOf 5 = .ok (.invokevirtual 226, 3) := dk_182 0 226 (dk_at dksX1_valueOf_0 5 rfl rfl)
theorem dX1_valueOf_8 : decode cX1_valueOf 8 = .ok (.getfield 235, 3) := dk_180 0 235 (dk_at dksX1_valueOf_0 8 rfl rfl)
theorem dX1_valueOf_11 : decode cX1_valueOf 11 = .ok (.ireturn, 1) := dk_172 (dk_at dksX1_valueOf_0 11 rfl rfl)
abbrev cX1_lengthOf : ByteArray := prog_1_method_46_code
def yX1_lengthOf : MethodName := ⟨RX1, "lengthOf", "(I)I"⟩
def dkwX1_lengthOf_0 : List UInt8 := [42, 180, 0, 16, 27, 182, 0, 226, 180, 0, 238, 190, 172]
abbrev dktX1_lengthOf_0 : List UInt8 := dkwX1_lengthOf_0 ++ []
theorem dksX1_lengthOf_0 : cX1_lengthOf.data.toList.drop 0 = dktX1_lengthOf_0 := by decide +kernel
theorem dX1_lengthOf_0 : decode cX1_lengthOf 0 = .ok (.aload_n 0, 1) := dk_42 (dk_at dksX1_lengthOf_0 0 rfl rfl)
theorem dX1_lengthOf_1 : decode cX1_lengthOf 1 = .ok (.getfield 16, 3) := dk_180 0 16 (dk_at dksX1_lengthOf_0 1 rfl rfl)
theorem dX1_lengthOf_4 : decode cX1_lengthOf 4 = .ok (.iload_n 1, 1) := dk_27 (dk_at dksX1_lengthOf_0 4 rfl rfl)
theorem dX1_lengthOf_5 : decode cX1_lengthOf 5 = .ok (.invokevirtual 226, 3) := dk_182 0 226 (dk_at dksX1_lengthOf_0 5 rfl rfl)
theorem dX1_lengthOf_8 : decode cX1_lengthOf 8 = .ok (.getfield 238, 3) := dk_180 0 238 (dk_at dksX1_lengthOf_0 8 rfl rfl)
theorem dX1_lengthOf_11 : decode cX1_lengthOf 11 = .ok (.arraylength, 1) := dk_190 (dk_at dksX1_lengthOf_0 11 rfl rfl)
theorem dX1_lengthOf_12 : decode cX1_lengthOf 12 = .ok (.ireturn, 1) := dk_172 (dk_at dksX1_lengthOf_0 12 rfl rfl)
abbrev cX1_symbolOf : ByteArray := prog_1_method_47_code
def yX1_symbolOf : MethodName := ⟨RX1, "symbolOf", "(II)C"⟩
def dkwX1_symbolOf_1 : List UInt8 := [45, 180, 0, 238, 28, 52, 172]
abbrev dktX1_symbolOf_1 : List UInt8 := dkwX1_symbolOf_1 ++ []
def dkwX1_symbolOf_0 : List UInt8 := [42, 180, 0, 16, 27, 182, 0, 226, 78, 28, 3, 45, 180, 0, 238, 190, 4, 100, 184, 0, 1, 184, 0, 242]
abbrev dktX1_symbolOf_0 : List UInt8 := dkwX1_symbolOf_0 ++ dktX1_symbolOf_1
theorem dksX1_symbolOf_0 : cX1_symbolOf.data.toList.drop 0 = dktX1_symbolOf_0 := by decide +kernel
theorem dksX1_symbolOf_1 : cX1_symbolOf.data.toList.drop 24 = dktX1_symbolOf_1 := dk_seg dksX1_symbolOf_0 24 rfl rfl
theorem dX1_symbolOf_0 : decode cX1_symbolOf 0 = .ok (.aload_n 0, 1) := dk_42 (dk_at dksX1_symbolOf_0 0 rfl rfl)
theorem dX1_symbolOf_1 : decode cX1_symbolOf 1 = .ok (.getfield 16, 3) := dk_180 0 16 (dk_at dksX1_symbolOf_0 1 rfl rfl)
theorem dX1_symbolOf_4 : decode cX1_symbolOf 4 = .ok (.iload_n 1, 1) := dk_27 (dk_at dksX1_symbolOf_0 4 rfl rfl)
theorem dX1_symbolOf_5 : decode cX1_symbolOf 5 = .ok (.invokevirtual 226, 3) := dk_182 0 226 (dk_at dksX1_symbolOf_0 5 rfl rfl)
theorem dX1_symbolOf_8 : decode cX1_symbolOf 8 = .ok (.astore_n 3, 1) := dk_78 (dk_at dksX1_symbolOf_0 8 rfl rfl)
theorem dX1_symbolOf_9 : decode cX1_symbolOf 9 = .ok (.iload_n 2, 1) := dk_28 (dk_at dksX1_symbolOf_0 9 rfl rfl)
theorem dX1_symbolOf_10 : decode cX1_symbolOf 10 = .ok (.iconst 0, 1) := dk_3 (dk_at dksX1_symbolOf_0 10 rfl rfl)
theorem dX1_symbolOf_11 : decode cX1_symbolOf 11 = .ok (.aload_n 3, 1) := dk_45 (dk_at dksX1_symbolOf_0 11 rfl rfl)
theorem dX1_symbolOf_12 : decode cX1_symbolOf 12 = .ok (.getfield 238, 3) := dk_180 0 238 (dk_at dksX1_symbolOf_0 12 rfl rfl)
theorem dX1_symbolOf_15 : decode cX1_symbolOf 15 = .ok (.arraylength, 1) := dk_190 (dk_at dksX1_symbolOf_0 15 rfl rfl)
theorem dX1_symbolOf_16 : decode cX1_symbolOf 16 = .ok (.iconst 1, 1) := dk_4 (dk_at dksX1_symbolOf_0 16 rfl rfl)
theorem dX1_symbolOf_17 : decode cX1_symbolOf 17 = .ok (.isub, 1) := dk_100 (dk_at dksX1_symbolOf_0 17 rfl rfl)
theorem dX1_symbolOf_18 : decode cX1_symbolOf 18 = .ok (.invokestatic 1, 3) := dk_184 0 1 (dk_at dksX1_symbolOf_0 18 rfl rfl)
theorem dX1_symbolOf_21 : decode cX1_symbolOf 21 = .ok (.invokestatic 242, 3) := dk_184 0 242 (dk_at dksX1_symbolOf_0 21 rfl rfl)
theorem dX1_symbolOf_24 : decode cX1_symbolOf 24 = .ok (.aload_n 3, 1) := dk_45 (dk_at dksX1_symbolOf_1 0 rfl rfl)
theorem dX1_symbolOf_25 : decode cX1_symbolOf 25 = .ok (.getfield 238, 3) := dk_180 0 238 (dk_at dksX1_symbolOf_1 1 rfl rfl)
theorem dX1_symbolOf_28 : decode cX1_symbolOf 28 = .ok (.iload_n 2, 1) := dk_28 (dk_at dksX1_symbolOf_1 4 rfl rfl)
theorem dX1_symbolOf_29 : decode cX1_symbolOf 29 = .ok (.caload, 1) := dk_52 (dk_at dksX1_symbolOf_1 5 rfl rfl)
theorem dX1_symbolOf_30 : decode cX1_symbolOf 30 = .ok (.ireturn, 1) := dk_172 (dk_at dksX1_symbolOf_1 6 rfl rfl)
abbrev cX1_depthOf : ByteArray := prog_1_method_48_code
def yX1_depthOf : MethodName := ⟨RX1, "depthOf", "(I)I"⟩
def dkwX1_depthOf_0 : List UInt8 := [42, 180, 0, 16, 27, 182, 0, 226, 180, 0, 245, 172]
abbrev dktX1_depthOf_0 : List UInt8 := dkwX1_depthOf_0 ++ []
theorem dksX1_depthOf_0 : cX1_depthOf.data.toList.drop 0 = dktX1_depthOf_0 := by decide +kernel
theorem dX1_depthOf_0 : decode cX1_depthOf 0 = .ok (.aload_n 0, 1) := dk_42 (dk_at dksX1_depthOf_0 0 rfl rfl)
theorem dX1_depthOf_1 : decode cX1_depthOf 1 = .ok (.getfield 16, 3) := dk_180 0 16 (dk_at dksX1_depthOf_0 1 rfl rfl)
theorem dX1_depthOf_4 : decode cX1_depthOf 4 = .ok (.iload_n 1, 1) := dk_27 (dk_at dksX1_depthOf_0 4 rfl rfl)
theorem dX1_depthOf_5 : decode cX1_depthOf 5 = .ok (.invokevirtual 226, 3) := dk_182 0 226 (dk_at dksX1_depthOf_0 5 rfl rfl)
theorem dX1_depthOf_8 : decode cX1_depthOf 8 = .ok (.getfield 245, 3) := dk_180 0 245 (dk_at dksX1_depthOf_0 8 rfl rfl)
theorem dX1_depthOf_11 : decode cX1_depthOf 11 = .ok (.ireturn, 1) := dk_172 (dk_at dksX1_depthOf_0 11 rfl rfl)
abbrev cX1_countOf : ByteArray := prog_1_method_49_code
def yX1_countOf : MethodName := ⟨RX1, "countOf", "(IC)I"⟩
def dkwX1_countOf_0 : List UInt8 := [42, 180, 0, 16, 27, 182, 0, 226, 28, 182, 0, 248, 172]
abbrev dktX1_countOf_0 : List UInt8 := dkwX1_countOf_0 ++ []
theorem dksX1_countOf_0 : cX1_countOf.data.toList.drop 0 = dktX1_countOf_0 := by decide +kernel
theorem dX1_countOf_0 : decode cX1_countOf 0 = .ok (.aload_n 0, 1) := dk_42 (dk_at dksX1_countOf_0 0 rfl rfl)
theorem dX1_countOf_1 : decode cX1_countOf 1 = .ok (.getfield 16, 3) := dk_180 0 16 (dk_at dksX1_countOf_0 1 rfl rfl)
theorem dX1_countOf_4 : decode cX1_countOf 4 = .ok (.iload_n 1, 1) := dk_27 (dk_at dksX1_countOf_0 4 rfl rfl)
theorem dX1_countOf_5 : decode cX1_countOf 5 = .ok (.invokevirtual 226, 3) := dk_182 0 226 (dk_at dksX1_countOf_0 5 rfl rfl)
theorem dX1_countOf_8 : decode cX1_countOf 8 = .ok (.iload_n 2, 1) := dk_28 (dk_at dksX1_countOf_0 8 rfl rfl)
theorem dX1_countOf_9 : decode cX1_countOf 9 = .ok (.invokevirtual 248, 3) := dk_182 0 248 (dk_at dksX1_countOf_0 9 rfl rfl)
theorem dX1_countOf_12 : decode cX1_countOf 12 = .ok (.ireturn, 1) := dk_172 (dk_at dksX1_countOf_0 12 rfl rfl)
abbrev cX1_areAlike : ByteArray := prog_1_method_50_code
def yX1_areAlike : MethodName := ⟨RX1, "areAlike", "(II)Z"⟩
def dkwX1_areAlike_0 : List UInt8 := [42, 180, 0, 16, 27, 182, 0, 226, 42, 180, 0, 16, 28, 182, 0, 226, 182, 0, 252, 172]
abbrev dktX1_areAlike_0 : List UInt8 := dkwX1_areAlike_0 ++ []
theorem dksX1_areAlike_0 : cX1_areAlike.data.toList.drop 0 = dktX1_areAlike_0 := by decide +kernel
theorem dX1_areAlike_0 : decode cX1_areAlike 0 = .ok (.aload_n 0, 1) := dk_42 (dk_at dksX1_areAlike_0 0 rfl rfl)
theorem dX1_areAlike_1 : decode cX1_areAlike 1 = .ok (.getfield 16, 3) := dk_180 0 16 (dk_at dksX1_areAlike_0 1 rfl rfl)
theorem dX1_areAlike_4 : decode cX1_areAlike 4 = .ok (.iload_n 1, 1) := dk_27 (dk_at dksX1_areAlike_0 4 rfl rfl)
theorem dX1_areAlike_5 : decode cX1_areAlike 5 = .ok (.invokevirtual 226, 3) := dk_182 0 226 (dk_at dksX1_areAlike_0 5 rfl rfl)
theorem dX1_areAlike_8 : decode cX1_areAlike 8 = .ok (.aload_n 0, 1) := dk_42 (dk_at dksX1_areAlike_0 8 rfl rfl)
theorem dX1_areAlike_9 : decode cX1_areAlike 9 = .ok (.getfield 16, 3) := dk_180 0 16 (dk_at dksX1_areAlike_0 9 rfl rfl)
theorem dX1_areAlike_12 : decode cX1_areAlike 12 = .ok (.iload_n 2, 1) := dk_28 (dk_at dksX1_areAlike_0 12 rfl rfl)
theorem dX1_areAlike_13 : decode cX1_areAlike 13 = .ok (.invokevirtual 226, 3) := dk_182 0 226 (dk_at dksX1_areAlike_0 13 rfl rfl)
theorem dX1_areAlike_16 : decode cX1_areAlike 16 = .ok (.invokevirtual 252, 3) := dk_182 0 252 (dk_at dksX1_areAlike_0 16 rfl rfl)
theorem dX1_areAlike_19 : decode cX1_areAlike 19 = .ok (.ireturn, 1) := dk_172 (dk_at dksX1_areAlike_0 19 rfl rfl)
abbrev cX1_requestByValue : ByteArray := prog_1_method_51_code
def yX1_requestByValue : MethodName := ⟨RX1, "requestByValue", "(I)I"⟩
def dkwX1_requestByValue_0 : List UInt8 := [42, 180, 0, 16, 27, 182, 1, 0, 184, 0, 134, 172]
abbrev dktX1_requestByValue_0 : List UInt8 := dkwX1_requestByValue_0 ++ []
theorem dksX1_requestByValue_0 : cX1_requestByValue.data.toList.drop 0 = dktX1_requestByValue_0 := by decide +kernel
theorem dX1_requestByValue_0 : decode cX1_requestByValue 0 = .ok (.aload_n 0, 1) := dk_42 (dk_at dksX1_requestByValue_0 0 rfl rfl)
theorem dX1_requestByValue_1 : decode cX1_requestByValue 1 = .ok (.getfield 16, 3) := dk_180 0 16 (dk_at dksX1_requestByValue_0 1 rfl rfl)
theorem dX1_requestByValue_4 : decode cX1_requestByValue 4 = .ok (.iload_n 1, 1) := dk_27 (dk_at dksX1_requestByValue_0 4 rfl rfl)
theorem dX1_requestByValue_5 : decode cX1_requestByValue 5 = .ok (.invokevirtual 256, 3) := dk_182 1 0 (dk_at dksX1_requestByValue_0 5 rfl rfl)
theorem dX1_requestByValue_8 : decode cX1_requestByValue 8 = .ok (.invokestatic 134, 3) := dk_184 0 134 (dk_at dksX1_requestByValue_0 8 rfl rfl)
theorem dX1_requestByValue_11 : decode cX1_requestByValue 11 = .ok (.ireturn, 1) := dk_172 (dk_at dksX1_requestByValue_0 11 rfl rfl)
abbrev cX1_setWidth : ByteArray := prog_1_method_52_code
def yX1_setWidth : MethodName := ⟨RX1, "setWidth", "(I)I"⟩
def dkwX1_setWidth_0 : List UInt8 := [42, 42, 182, 0, 88, 27, 182, 1, 3, 182, 0, 96, 172]
abbrev dktX1_setWidth_0 : List UInt8 := dkwX1_setWidth_0 ++ []
theorem dksX1_setWidth_0 : cX1_setWidth.data.toList.drop 0 = dktX1_setWidth_0 := by decide +kernel
theorem dX1_setWidth_0 : decode cX1_setWidth 0 = .ok (.aload_n 0, 1) := dk_42 (dk_at dksX1_setWidth_0 0 rfl rfl)
theorem dX1_setWidth_1 : decode cX1_setWidth 1 = .ok (.aload_n 0, 1) := dk_42 (dk_at dksX1_setWidth_0 1 rfl rfl)
theorem dX1_setWidth_2 : decode cX1_setWidth 2 = .ok (.invokevirtual 88, 3) := dk_182 0 88 (dk_at dksX1_setWidth_0 2 rfl rfl)
theorem dX1_setWidth_5 : decode cX1_setWidth 5 = .ok (.iload_n 1, 1) := dk_27 (dk_at dksX1_setWidth_0 5 rfl rfl)
theorem dX1_setWidth_6 : decode cX1_setWidth 6 = .ok (.invokevirtual 259, 3) := dk_182 1 3 (dk_at dksX1_setWidth_0 6 rfl rfl)
theorem dX1_setWidth_9 : decode cX1_setWidth 9 = .ok (.invokevirtual 96, 3) := dk_182 0 96 (dk_at dksX1_setWidth_0 9 rfl rfl)
theorem dX1_setWidth_12 : decode cX1_setWidth 12 = .ok (.ireturn, 1) := dk_172 (dk_at dksX1_setWidth_0 12 rfl rfl)
abbrev cX1_raggedness : ByteArray := prog_1_method_54_code
def yX1_raggedness : MethodName := ⟨RX1, "raggedness", "()I"⟩
def dkwX1_raggedness_0 : List UInt8 := [42, 180, 0, 16, 182, 1, 9, 182, 1, 13, 172]
abbrev dktX1_raggedness_0 : List UInt8 := dkwX1_raggedness_0 ++ []
theorem dksX1_raggedness_0 : cX1_raggedness.data.toList.drop 0 = dktX1_raggedness_0 := by decide +kernel
theorem dX1_raggedness_0 : decode cX1_raggedness 0 = .ok (.aload_n 0, 1) := dk_42 (dk_at dksX1_raggedness_0 0 rfl rfl)
theorem dX1_raggedness_1 : decode cX1_raggedness 1 = .ok (.getfield 16, 3) := dk_180 0 16 (dk_at dksX1_raggedness_0 1 rfl rfl)
theorem dX1_raggedness_4 : decode cX1_raggedness 4 = .ok (.invokevirtual 265, 3) := dk_182 1 9 (dk_at dksX1_raggedness_0 4 rfl rfl)
theorem dX1_raggedness_7 : decode cX1_raggedness 7 = .ok (.invokevirtual 269, 3) := dk_182 1 13 (dk_at dksX1_raggedness_0 7 rfl rfl)
theorem dX1_raggedness_10 : decode cX1_raggedness 10 = .ok (.ireturn, 1) := dk_172 (dk_at dksX1_raggedness_0 10 rfl rfl)
abbrev cX1_raggednessByTrying : ByteArray := prog_1_method_55_code
def yX1_raggednessByTrying : MethodName := ⟨RX1, "raggednessByTrying", "()I"⟩
def dkwX1_raggednessByTrying_0 : List UInt8 := [42, 180, 0, 16, 182, 1, 9, 182, 1, 18, 172]
abbrev dktX1_raggednessByTrying_0 : List UInt8 := dkwX1_raggednessByTrying_0 ++ []
theorem dksX1_raggednessByTrying_0 : cX1_raggednessByTrying.data.toList.drop 0 = dktX1_raggednessByTrying_0 := by decide +kernel
theorem dX1_raggednessByTrying_0 : decode cX1_raggednessByTrying 0 = .ok (.aload_n 0, 1) := dk_42 (dk_at dksX1_raggednessByTrying_0 0 rfl rfl)
theorem dX1_raggednessByTrying_1 : decode cX1_raggednessByTrying 1 = .ok (.getfield 16, 3) := dk_180 0 16 (dk_at dksX1_raggednessByTrying_0 1 rfl rfl)
theorem dX1_raggednessByTrying_4 : decode cX1_raggednessByTrying 4 = .ok (.invokevirtual 265, 3) := dk_182 1 9 (dk_at dksX1_raggednessByTrying_0 4 rfl rfl)
theorem dX1_raggednessByTrying_7 : decode cX1_raggednessByTrying 7 = .ok (.invokevirtual 274, 3) := dk_182 1 18 (dk_at dksX1_raggednessByTrying_0 7 rfl rfl)
theorem dX1_raggednessByTrying_10 : decode cX1_raggednessByTrying 10 = .ok (.ireturn, 1) := dk_172 (dk_at dksX1_raggednessByTrying_0 10 rfl rfl)
abbrev cX1_lineCount : ByteArray := prog_1_method_56_code
def yX1_lineCount : MethodName := ⟨RX1, "lineCount", "()I"⟩
def dkwX1_lineCount_0 : List UInt8 := [42, 180, 0, 16, 182, 1, 21, 172]
abbrev dktX1_lineCount_0 : List UInt8 := dkwX1_lineCount_0 ++ []
theorem dksX1_lineCount_0 : cX1_lineCount.data.toList.drop 0 = dktX1_lineCount_0 := by decide +kernel
theorem dX1_lineCount_0 : decode cX1_lineCount 0 = .ok (.aload_n 0, 1) := dk_42 (dk_at dksX1_lineCount_0 0 rfl rfl)
theorem dX1_lineCount_1 : decode cX1_lineCount 1 = .ok (.getfield 16, 3) := dk_180 0 16 (dk_at dksX1_lineCount_0 1 rfl rfl)
theorem dX1_lineCount_4 : decode cX1_lineCount 4 = .ok (.invokevirtual 277, 3) := dk_182 1 21 (dk_at dksX1_lineCount_0 4 rfl rfl)
theorem dX1_lineCount_7 : decode cX1_lineCount 7 = .ok (.ireturn, 1) := dk_172 (dk_at dksX1_lineCount_0 7 rfl rfl)
abbrev cX1_lineOf : ByteArray := prog_1_method_57_code
def yX1_lineOf : MethodName := ⟨RX1, "lineOf", "(I)I"⟩
def dkwX1_lineOf_0 : List UInt8 := [42, 180, 0, 16, 27, 182, 0, 226, 87, 42, 180, 0, 16, 182, 1, 9, 182, 1, 24, 27, 46, 172]
abbrev dktX1_lineOf_0 : List UInt8 := dkwX1_lineOf_0 ++ []
theorem dksX1_lineOf_0 : cX1_lineOf.data.toList.drop 0 = dktX1_lineOf_0 := by decide +kernel
theorem dX1_lineOf_0 : decode cX1_lineOf 0 = .ok (.aload_n 0, 1) := dk_42 (dk_at dksX1_lineOf_0 0 rfl rfl)
theorem dX1_lineOf_1 : decode cX1_lineOf 1 = .ok (.getfield 16, 3) := dk_180 0 16 (dk_at dksX1_lineOf_0 1 rfl rfl)
theorem dX1_lineOf_4 : decode cX1_lineOf 4 = .ok (.iload_n 1, 1) := dk_27 (dk_at dksX1_lineOf_0 4 rfl rfl)
theorem dX1_lineOf_5 : decode cX1_lineOf 5 = .ok (.invokevirtual 226, 3) := dk_182 0 226 (dk_at dksX1_lineOf_0 5 rfl rfl)
theorem dX1_lineOf_8 : decode cX1_lineOf 8 = .ok (.pop, 1) := dk_87 (dk_at dksX1_lineOf_0 8 rfl rfl)
theorem dX1_lineOf_9 : decode cX1_lineOf 9 = .ok (.aload_n 0, 1) := dk_42 (dk_at dksX1_lineOf_0 9 rfl rfl)
theorem dX1_lineOf_10 : decode cX1_lineOf 10 = .ok (.getfield 16, 3) := dk_180 0 16 (dk_at dksX1_lineOf_0 10 rfl rfl)
theorem dX1_lineOf_13 : decode cX1_lineOf 13 = .ok (.invokevirtual 265, 3) := dk_182 1 9 (dk_at dksX1_lineOf_0 13 rfl rfl)
theorem dX1_lineOf_16 : decode cX1_lineOf 16 = .ok (.invokevirtual 280, 3) := dk_182 1 24 (dk_at dksX1_lineOf_0 16 rfl rfl)
theorem dX1_lineOf_19 : decode cX1_lineOf 19 = .ok (.iload_n 1, 1) := dk_27 (dk_at dksX1_lineOf_0 19 rfl rfl)
theorem dX1_lineOf_20 : decode cX1_lineOf 20 = .ok (.iaload, 1) := dk_46 (dk_at dksX1_lineOf_0 20 rfl rfl)
theorem dX1_lineOf_21 : decode cX1_lineOf 21 = .ok (.ireturn, 1) := dk_172 (dk_at dksX1_lineOf_0 21 rfl rfl)
abbrev cX1_meanValue : ByteArray := prog_1_method_62_code
def yX1_meanValue : MethodName := ⟨RX1, "meanValue", "()D"⟩
def dkwX1_meanValue_1 : List UInt8 := [180, 0, 16, 180, 0, 217, 182, 0, 221, 135, 111, 175]
abbrev dktX1_meanValue_1 : List UInt8 := dkwX1_meanValue_1 ++ []
def dkwX1_meanValue_0 : List UInt8 := [42, 180, 0, 16, 180, 0, 217, 182, 0, 221, 184, 1, 40, 42, 180, 0, 16, 182, 1, 43, 135, 42]
abbrev dktX1_meanValue_0 : List UInt8 := dkwX1_meanValue_0 ++ dktX1_meanValue_1
theorem dksX1_meanValue_0 : cX1_meanValue.data.toList.drop 0 = dktX1_meanValue_0 := by decide +kernel
theorem dksX1_meanValue_1 : cX1_meanValue.data.toList.drop 22 = dktX1_meanValue_1 := dk_seg dksX1_meanValue_0 22 rfl rfl
theorem dX1_meanValue_0 : decode cX1_meanValue 0 = .ok (.aload_n 0, 1) := dk_42 (dk_at dksX1_meanValue_0 0 rfl rfl)
theorem dX1_meanValue_1 : decode cX1_meanValue 1 = .ok (.getfield 16, 3) := dk_180 0 16 (dk_at dksX1_meanValue_0 1 rfl rfl)
theorem dX1_meanValue_4 : decode cX1_meanValue 4 = .ok (.getfield 217, 3) := dk_180 0 217 (dk_at dksX1_meanValue_0 4 rfl rfl)
theorem dX1_meanValue_7 : decode cX1_meanValue 7 = .ok (.invokevirtual 221, 3) := dk_182 0 221 (dk_at dksX1_meanValue_0 7 rfl rfl)
theorem dX1_meanValue_10 : decode cX1_meanValue 10 = .ok (.invokestatic 296, 3) := dk_184 1 40 (dk_at dksX1_meanValue_0 10 rfl rfl)
theorem dX1_meanValue_13 : decode cX1_meanValue 13 = .ok (.aload_n 0, 1) := dk_42 (dk_at dksX1_meanValue_0 13 rfl rfl)
theorem dX1_meanValue_14 : decode cX1_meanValue 14 = .ok (.getfield 16, 3) := dk_180 0 16 (dk_at dksX1_meanValue_0 14 rfl rfl)
theorem dX1_meanValue_17 : decode cX1_meanValue 17 = .ok (.invokevirtual 299, 3) := dk_182 1 43 (dk_at dksX1_meanValue_0 17 rfl rfl)
theorem dX1_meanValue_20 : decode cX1_meanValue 20 = .ok (.i2d, 1) := dk_135 (dk_at dksX1_meanValue_0 20 rfl rfl)
theorem dX1_meanValue_21 : decode cX1_meanValue 21 = .ok (.aload_n 0, 1) := dk_42 (dk_at dksX1_meanValue_0 21 rfl rfl)
theorem dX1_meanValue_22 : decode cX1_meanValue 22 = .ok (.getfield 16, 3) := dk_180 0 16 (dk_at dksX1_meanValue_1 0 rfl rfl)
theorem dX1_meanValue_25 : decode cX1_meanValue 25 = .ok (.getfield 217, 3) := dk_180 0 217 (dk_at dksX1_meanValue_1 3 rfl rfl)
theorem dX1_meanValue_28 : decode cX1_meanValue 28 = .ok (.invokevirtual 221, 3) := dk_182 0 221 (dk_at dksX1_meanValue_1 6 rfl rfl)
theorem dX1_meanValue_31 : decode cX1_meanValue 31 = .ok (.i2d, 1) := dk_135 (dk_at dksX1_meanValue_1 9 rfl rfl)
theorem dX1_meanValue_32 : decode cX1_meanValue 32 = .ok (.ddiv, 1) := dk_111 (dk_at dksX1_meanValue_1 10 rfl rfl)
theorem dX1_meanValue_33 : decode cX1_meanValue 33 = .ok (.dreturn, 1) := dk_175 (dk_at dksX1_meanValue_1 11 rfl rfl)
abbrev cX1_checkAny : ByteArray := prog_1_method_12_code
def yX1_checkAny : MethodName := ⟨RX1, "checkAny", "(I)V"⟩
def dkwX1_checkAny_0 : List UInt8 := [26, 154, 0, 11, 187, 0, 73, 89, 183, 0, 75, 191, 177]
abbrev dktX1_checkAny_0 : List UInt8 := dkwX1_checkAny_0 ++ []
theorem dksX1_checkAny_0 : cX1_checkAny.data.toList.drop 0 = dktX1_checkAny_0 := by decide +kernel
theorem dX1_checkAny_0 : decode cX1_checkAny 0 = .ok (.iload_n 0, 1) := dk_26 (dk_at dksX1_checkAny_0 0 rfl rfl)
theorem dX1_checkAny_1 : decode cX1_checkAny 1 = .ok (.ifCond .ne 11, 3) := dk_154 0 11 (dk_at dksX1_checkAny_0 1 rfl rfl)
theorem dX1_checkAny_4 : decode cX1_checkAny 4 = .ok (.new 73, 3) := dk_187 0 73 (dk_at dksX1_checkAny_0 4 rfl rfl)
theorem dX1_checkAny_7 : decode cX1_checkAny 7 = .ok (.dup, 1) := dk_89 (dk_at dksX1_checkAny_0 7 rfl rfl)
theorem dX1_checkAny_8 : decode cX1_checkAny 8 = .ok (.invokespecial 75, 3) := dk_183 0 75 (dk_at dksX1_checkAny_0 8 rfl rfl)
theorem dX1_checkAny_11 : decode cX1_checkAny 11 = .ok (.athrow, 1) := dk_191 (dk_at dksX1_checkAny_0 11 rfl rfl)
theorem dX1_checkAny_12 : decode cX1_checkAny 12 = .ok (.return_, 1) := dk_177 (dk_at dksX1_checkAny_0 12 rfl rfl)
abbrev cX1_favorShare : ByteArray := prog_1_method_63_code
def yX1_favorShare : MethodName := ⟨RX1, "favorShare", "(I)F"⟩
def dkwX1_favorShare_1 : List UInt8 := [180, 0, 117, 27, 46, 134, 42, 180, 0, 16, 182, 1, 46, 134, 110, 174]
abbrev dktX1_favorShare_1 : List UInt8 := dkwX1_favorShare_1 ++ []
def dkwX1_favorShare_0 : List UInt8 := [42, 180, 0, 16, 27, 182, 0, 109, 42, 180, 0, 16, 182, 1, 46, 184, 1, 40, 42, 180, 0, 16]
abbrev dktX1_favorShare_0 : List UInt8 := dkwX1_favorShare_0 ++ dktX1_favorShare_1
theorem dksX1_favorShare_0 : cX1_favorShare.data.toList.drop 0 = dktX1_favorShare_0 := by decide +kernel
theorem dksX1_favorShare_1 : cX1_favorShare.data.toList.drop 22 = dktX1_favorShare_1 := dk_seg dksX1_favorShare_0 22 rfl rfl
theorem dX1_favorShare_0 : decode cX1_favorShare 0 = .ok (.aload_n 0, 1) := dk_42 (dk_at dksX1_favorShare_0 0 rfl rfl)
theorem dX1_favorShare_1 : decode cX1_favorShare 1 = .ok (.getfield 16, 3) := dk_180 0 16 (dk_at dksX1_favorShare_0 1 rfl rfl)
theorem dX1_favorShare_4 : decode cX1_favorShare 4 = .ok (.iload_n 1, 1) := dk_27 (dk_at dksX1_favorShare_0 4 rfl rfl)
theorem dX1_favorShare_5 : decode cX1_favorShare 5 = .ok (.invokevirtual 109, 3) := dk_182 0 109 (dk_at dksX1_favorShare_0 5 rfl rfl)
theorem dX1_favorShare_8 : decode cX1_favorShare 8 = .ok (.aload_n 0, 1) := dk_42 (dk_at dksX1_favorShare_0 8 rfl rfl)
theorem dX1_favorShare_9 : decode cX1_favorShare 9 = .ok (.getfield 16, 3) := dk_180 0 16 (dk_at dksX1_favorShare_0 9 rfl rfl)
theorem dX1_favorShare_12 : decode cX1_favorShare 12 = .ok (.invokevirtual 302, 3) := dk_182 1 46 (dk_at dksX1_favorShare_0 12 rfl rfl)
theorem dX1_favorShare_15 : decode cX1_favorShare 15 = .ok (.invokestatic 296, 3) := dk_184 1 40 (dk_at dksX1_favorShare_0 15 rfl rfl)
theorem dX1_favorShare_18 : decode cX1_favorShare 18 = .ok (.aload_n 0, 1) := dk_42 (dk_at dksX1_favorShare_0 18 rfl rfl)
theorem dX1_favorShare_19 : decode cX1_favorShare 19 = .ok (.getfield 16, 3) := dk_180 0 16 (dk_at dksX1_favorShare_0 19 rfl rfl)
theorem dX1_favorShare_22 : decode cX1_favorShare 22 = .ok (.getfield 117, 3) := dk_180 0 117 (dk_at dksX1_favorShare_1 0 rfl rfl)
theorem dX1_favorShare_25 : decode cX1_favorShare 25 = .ok (.iload_n 1, 1) := dk_27 (dk_at dksX1_favorShare_1 3 rfl rfl)
theorem dX1_favorShare_26 : decode cX1_favorShare 26 = .ok (.iaload, 1) := dk_46 (dk_at dksX1_favorShare_1 4 rfl rfl)
theorem dX1_favorShare_27 : decode cX1_favorShare 27 = .ok (.i2f, 1) := dk_134 (dk_at dksX1_favorShare_1 5 rfl rfl)
theorem dX1_favorShare_28 : decode cX1_favorShare 28 = .ok (.aload_n 0, 1) := dk_42 (dk_at dksX1_favorShare_1 6 rfl rfl)
theorem dX1_favorShare_29 : decode cX1_favorShare 29 = .ok (.getfield 16, 3) := dk_180 0 16 (dk_at dksX1_favorShare_1 7 rfl rfl)
theorem dX1_favorShare_32 : decode cX1_favorShare 32 = .ok (.invokevirtual 302, 3) := dk_182 1 46 (dk_at dksX1_favorShare_1 10 rfl rfl)
theorem dX1_favorShare_35 : decode cX1_favorShare 35 = .ok (.i2f, 1) := dk_134 (dk_at dksX1_favorShare_1 13 rfl rfl)
theorem dX1_favorShare_36 : decode cX1_favorShare 36 = .ok (.fdiv, 1) := dk_110 (dk_at dksX1_favorShare_1 14 rfl rfl)
theorem dX1_favorShare_37 : decode cX1_favorShare 37 = .ok (.freturn, 1) := dk_174 (dk_at dksX1_favorShare_1 15 rfl rfl)
abbrev cX1_writeLine : ByteArray := prog_1_method_64_code
def yX1_writeLine : MethodName := ⟨RX1, "writeLine", "(I)I"⟩
def dkwX1_writeLine_1 : List UInt8 := [182, 0, 171, 42, 180, 0, 16, 42, 180, 0, 43, 27, 182, 1, 49, 42, 180, 0, 43, 182, 0, 160, 172]
abbrev dktX1_writeLine_1 : List UInt8 := dkwX1_writeLine_1 ++ []
def dkwX1_writeLine_0 : List UInt8 := [27, 3, 42, 180, 0, 16, 182, 1, 21, 4, 100, 184, 0, 1, 184, 0, 69, 42, 180, 0, 43, 3]
abbrev dktX1_writeLine_0 : List UInt8 := dkwX1_writeLine_0 ++ dktX1_writeLine_1
theorem dksX1_writeLine_0 : cX1_writeLine.data.toList.drop 0 = dktX1_writeLine_0 := by decide +kernel
theorem dksX1_writeLine_1 : cX1_writeLine.data.toList.drop 22 = dktX1_writeLine_1 := dk_seg dksX1_writeLine_0 22 rfl rfl
theorem dX1_writeLine_0 : decode cX1_writeLine 0 = .ok (.iload_n 1, 1) := dk_27 (dk_at dksX1_writeLine_0 0 rfl rfl)
theorem dX1_writeLine_1 : decode cX1_writeLine 1 = .ok (.iconst 0, 1) := dk_3 (dk_at dksX1_writeLine_0 1 rfl rfl)
theorem dX1_writeLine_2 : decode cX1_writeLine 2 = .ok (.aload_n 0, 1) := dk_42 (dk_at dksX1_writeLine_0 2 rfl rfl)
theorem dX1_writeLine_3 : decode cX1_writeLine 3 = .ok (.getfield 16, 3) := dk_180 0 16 (dk_at dksX1_writeLine_0 3 rfl rfl)
theorem dX1_writeLine_6 : decode cX1_writeLine 6 = .ok (.invokevirtual 277, 3) := dk_182 1 21 (dk_at dksX1_writeLine_0 6 rfl rfl)
theorem dX1_writeLine_9 : decode cX1_writeLine 9 = .ok (.iconst 1, 1) := dk_4 (dk_at dksX1_writeLine_0 9 rfl rfl)
theorem dX1_writeLine_10 : decode cX1_writeLine 10 = .ok (.isub, 1) := dk_100 (dk_at dksX1_writeLine_0 10 rfl rfl)
theorem dX1_writeLine_11 : decode cX1_writeLine 11 = .ok (.invokestatic 1, 3) := dk_184 0 1 (dk_at dksX1_writeLine_0 11 rfl rfl)
theorem dX1_writeLine_14 : decode cX1_writeLine 14 = .ok (.invokestatic 69, 3) := dk_184 0 69 (dk_at dksX1_writeLine_0 14 rfl rfl)
theorem dX1_writeLine_17 : decode cX1_writeLine 17 = .ok (.aload_n 0, 1) := dk_42 (dk_at dksX1_writeLine_0 17 rfl rfl)
theorem dX1_writeLine_18 : decode cX1_writeLine 18 = .ok (.getfield 43, 3) := dk_180 0 43 (dk_at dksX1_writeLine_0 18 rfl rfl)
theorem dX1_writeLine_21 : decode cX1_writeLine 21 = .ok (.iconst 0, 1) := dk_3 (dk_at dksX1_writeLine_0 21 rfl rfl)
theorem dX1_writeLine_22 : decode cX1_writeLine 22 = .ok (.invokevirtual 171, 3) := dk_182 0 171 (dk_at dksX1_writeLine_1 0 rfl rfl)
theorem dX1_writeLine_25 : decode cX1_writeLine 25 = .ok (.aload_n 0, 1) := dk_42 (dk_at dksX1_writeLine_1 3 rfl rfl)
theorem dX1_writeLine_26 : decode cX1_writeLine 26 = .ok (.getfield 16, 3) := dk_180 0 16 (dk_at dksX1_writeLine_1 4 rfl rfl)
theorem dX1_writeLine_29 : decode cX1_writeLine 29 = .ok (.aload_n 0, 1) := dk_42 (dk_at dksX1_writeLine_1 7 rfl rfl)
theorem dX1_writeLine_30 : decode cX1_writeLine 30 = .ok (.getfield 43, 3) := dk_180 0 43 (dk_at dksX1_writeLine_1 8 rfl rfl)
theorem dX1_writeLine_33 : decode cX1_writeLine 33 = .ok (.iload_n 1, 1) := dk_27 (dk_at dksX1_writeLine_1 11 rfl rfl)
theorem dX1_writeLine_34 : decode cX1_writeLine 34 = .ok (.invokevirtual 305, 3) := dk_182 1 49 (dk_at dksX1_writeLine_1 12 rfl rfl)
theorem dX1_writeLine_37 : decode cX1_writeLine 37 = .ok (.aload_n 0, 1) := dk_42 (dk_at dksX1_writeLine_1 15 rfl rfl)
theorem dX1_writeLine_38 : decode cX1_writeLine 38 = .ok (.getfield 43, 3) := dk_180 0 43 (dk_at dksX1_writeLine_1 16 rfl rfl)
theorem dX1_writeLine_41 : decode cX1_writeLine 41 = .ok (.invokevirtual 160, 3) := dk_182 0 160 (dk_at dksX1_writeLine_1 19 rfl rfl)
theorem dX1_writeLine_44 : decode cX1_writeLine 44 = .ok (.ireturn, 1) := dk_172 (dk_at dksX1_writeLine_1 22 rfl rfl)
abbrev cX1_outputAt : ByteArray := prog_1_method_66_code
def yX1_outputAt : MethodName := ⟨RX1, "outputAt", "(I)C"⟩
def dkwX1_outputAt_1 : List UInt8 := [182, 0, 190, 172]
abbrev dktX1_outputAt_1 : List UInt8 := dkwX1_outputAt_1 ++ []
def dkwX1_outputAt_0 : List UInt8 := [27, 3, 42, 180, 0, 43, 182, 0, 160, 4, 100, 184, 0, 1, 184, 0, 242, 42, 180, 0, 43, 27]
abbrev dktX1_outputAt_0 : List UInt8 := dkwX1_outputAt_0 ++ dktX1_outputAt_1
theorem dksX1_outputAt_0 : cX1_outputAt.data.toList.drop 0 = dktX1_outputAt_0 := by decide +kernel
theorem dksX1_outputAt_1 : cX1_outputAt.data.toList.drop 22 = dktX1_outputAt_1 := dk_seg dksX1_outputAt_0 22 rfl rfl
theorem dX1_outputAt_0 : decode cX1_outputAt 0 = .ok (.iload_n 1, 1) := dk_27 (dk_at dksX1_outputAt_0 0 rfl rfl)
theorem dX1_outputAt_1 : decode cX1_outputAt 1 = .ok (.iconst 0, 1) := dk_3 (dk_at dksX1_outputAt_0 1 rfl rfl)
theorem dX1_outputAt_2 : decode cX1_outputAt 2 = .ok (.aload_n 0, 1) := dk_42 (dk_at dksX1_outputAt_0 2 rfl rfl)
theorem dX1_outputAt_3 : decode cX1_outputAt 3 = .ok (.getfield 43, 3) := dk_180 0 43 (dk_at dksX1_outputAt_0 3 rfl rfl)
theorem dX1_outputAt_6 : decode cX1_outputAt 6 = .ok (.invokevirtual 160, 3) := dk_182 0 160 (dk_at dksX1_outputAt_0 6 rfl rfl)
theorem dX1_outputAt_9 : decode cX1_outputAt 9 = .ok (.iconst 1, 1) := dk_4 (dk_at dksX1_outputAt_0 9 rfl rfl)
theorem dX1_outputAt_10 : decode cX1_outputAt 10 = .ok (.isub, 1) := dk_100 (dk_at dksX1_outputAt_0 10 rfl rfl)
theorem dX1_outputAt_11 : decode cX1_outputAt 11 = .ok (.invokestatic 1, 3) := dk_184 0 1 (dk_at dksX1_outputAt_0 11 rfl rfl)
theorem dX1_outputAt_14 : decode cX1_outputAt 14 = .ok (.invokestatic 242, 3) := dk_184 0 242 (dk_at dksX1_outputAt_0 14 rfl rfl)
theorem dX1_outputAt_17 : decode cX1_outputAt 17 = .ok (.aload_n 0, 1) := dk_42 (dk_at dksX1_outputAt_0 17 rfl rfl)
theorem dX1_outputAt_18 : decode cX1_outputAt 18 = .ok (.getfield 43, 3) := dk_180 0 43 (dk_at dksX1_outputAt_0 18 rfl rfl)
theorem dX1_outputAt_21 : decode cX1_outputAt 21 = .ok (.iload_n 1, 1) := dk_27 (dk_at dksX1_outputAt_0 21 rfl rfl)
theorem dX1_outputAt_22 : decode cX1_outputAt 22 = .ok (.invokevirtual 190, 3) := dk_182 0 190 (dk_at dksX1_outputAt_1 0 rfl rfl)
theorem dX1_outputAt_25 : decode cX1_outputAt 25 = .ok (.ireturn, 1) := dk_172 (dk_at dksX1_outputAt_1 3 rfl rfl)
abbrev cX1_undo : ByteArray := prog_1_method_68_code
def yX1_undo : MethodName := ⟨RX1, "undo", "()I"⟩
def dkwX1_undo_2 : List UInt8 := [180, 0, 29, 182, 1, 62, 172]
abbrev dktX1_undo_2 : List UInt8 := dkwX1_undo_2 ++ []
def dkwX1_undo_1 : List UInt8 := [182, 1, 59, 192, 0, 13, 76, 42, 180, 0, 16, 43, 182, 0, 76, 42, 180, 0, 33, 43, 182, 0, 50, 42]
abbrev dktX1_undo_1 : List UInt8 := dkwX1_undo_1 ++ dktX1_undo_2
def dkwX1_undo_0 : List UInt8 := [42, 180, 0, 29, 182, 0, 80, 154, 0, 7, 4, 167, 0, 4, 3, 184, 0, 164, 42, 180, 0, 29]
abbrev dktX1_undo_0 : List UInt8 := dkwX1_undo_0 ++ dktX1_undo_1
theorem dksX1_undo_0 : cX1_undo.data.toList.drop 0 = dktX1_undo_0 := by decide +kernel
theorem dksX1_undo_1 : cX1_undo.data.toList.drop 22 = dktX1_undo_1 := dk_seg dksX1_undo_0 22 rfl rfl
theorem dksX1_undo_2 : cX1_undo.data.toList.drop 46 = dktX1_undo_2 := dk_seg dksX1_undo_1 24 rfl rfl
theorem dX1_undo_0 : decode cX1_undo 0 = .ok (.aload_n 0, 1) := dk_42 (dk_at dksX1_undo_0 0 rfl rfl)
theorem dX1_undo_1 : decode cX1_undo 1 = .ok (.getfield 29, 3) := dk_180 0 29 (dk_at dksX1_undo_0 1 rfl rfl)
theorem dX1_undo_4 : decode cX1_undo 4 = .ok (.invokevirtual 80, 3) := dk_182 0 80 (dk_at dksX1_undo_0 4 rfl rfl)
theorem dX1_undo_7 : decode cX1_undo 7 = .ok (.ifCond .ne 7, 3) := dk_154 0 7 (dk_at dksX1_undo_0 7 rfl rfl)
theorem dX1_undo_10 : decode cX1_undo 10 = .ok (.iconst 1, 1) := dk_4 (dk_at dksX1_undo_0 10 rfl rfl)
theorem dX1_undo_11 : decode cX1_undo 11 = .ok (.goto 4, 3) := dk_167 0 4 (dk_at dksX1_undo_0 11 rfl rfl)
theorem dX1_undo_14 : decode cX1_undo 14 = .ok (.iconst 0, 1) := dk_3 (dk_at dksX1_undo_0 14 rfl rfl)
theorem dX1_undo_15 : decode cX1_undo 15 = .ok (.invokestatic 164, 3) := dk_184 0 164 (dk_at dksX1_undo_0 15 rfl rfl)
theorem dX1_undo_18 : decode cX1_undo 18 = .ok (.aload_n 0, 1) := dk_42 (dk_at dksX1_undo_0 18 rfl rfl)
theorem dX1_undo_19 : decode cX1_undo 19 = .ok (.getfield 29, 3) := dk_180 0 29 (dk_at dksX1_undo_0 19 rfl rfl)
theorem dX1_undo_22 : decode cX1_undo 22 = .ok (.invokevirtual 315, 3) := dk_182 1 59 (dk_at dksX1_undo_1 0 rfl rfl)
theorem dX1_undo_25 : decode cX1_undo 25 = .ok (.checkcast 13, 3) := dk_192 0 13 (dk_at dksX1_undo_1 3 rfl rfl)
theorem dX1_undo_28 : decode cX1_undo 28 = .ok (.astore_n 1, 1) := dk_76 (dk_at dksX1_undo_1 6 rfl rfl)
theorem dX1_undo_29 : decode cX1_undo 29 = .ok (.aload_n 0, 1) := dk_42 (dk_at dksX1_undo_1 7 rfl rfl)
theorem dX1_undo_30 : decode cX1_undo 30 = .ok (.getfield 16, 3) := dk_180 0 16 (dk_at dksX1_undo_1 8 rfl rfl)
theorem dX1_undo_33 : decode cX1_undo 33 = .ok (.aload_n 1, 1) := dk_43 (dk_at dksX1_undo_1 11 rfl rfl)
theorem dX1_undo_34 : decode cX1_undo 34 = .ok (.invokevirtual 76, 3) := dk_182 0 76 (dk_at dksX1_undo_1 12 rfl rfl)
theorem dX1_undo_37 : decode cX1_undo 37 = .ok (.aload_n 0, 1) := dk_42 (dk_at dksX1_undo_1 15 rfl rfl)
theorem dX1_undo_38 : decode cX1_undo 38 = .ok (.getfield 33, 3) := dk_180 0 33 (dk_at dksX1_undo_1 16 rfl rfl)
theorem dX1_undo_41 : decode cX1_undo 41 = .ok (.aload_n 1, 1) := dk_43 (dk_at dksX1_undo_1 19 rfl rfl)
theorem dX1_undo_42 : decode cX1_undo 42 = .ok (.invokevirtual 50, 3) := dk_182 0 50 (dk_at dksX1_undo_1 20 rfl rfl)
theorem dX1_undo_45 : decode cX1_undo 45 = .ok (.aload_n 0, 1) := dk_42 (dk_at dksX1_undo_1 23 rfl rfl)
theorem dX1_undo_46 : decode cX1_undo 46 = .ok (.getfield 29, 3) := dk_180 0 29 (dk_at dksX1_undo_2 0 rfl rfl)
theorem dX1_undo_49 : decode cX1_undo 49 = .ok (.invokevirtual 318, 3) := dk_182 1 62 (dk_at dksX1_undo_2 3 rfl rfl)
theorem dX1_undo_52 : decode cX1_undo 52 = .ok (.ireturn, 1) := dk_172 (dk_at dksX1_undo_2 6 rfl rfl)
abbrev cX1_restore : ByteArray := prog_1_method_71_code
def yX1_restore : MethodName := ⟨RX1, "restore", "()I"⟩
def dkwX1_restore_2 : List UInt8 := [167, 255, 229, 42, 180, 0, 16, 180, 0, 217, 182, 0, 221, 172]
abbrev dktX1_restore_2 : List UInt8 := dkwX1_restore_2 ++ []
def dkwX1_restore_1 : List UInt8 := [182, 0, 80, 154, 0, 23, 42, 180, 0, 33, 42, 180, 0, 29, 182, 1, 59, 192, 0, 13, 182, 0, 50]
abbrev dktX1_restore_1 : List UInt8 := dkwX1_restore_1 ++ dktX1_restore_2
def dkwX1_restore_0 : List UInt8 := [42, 180, 1, 63, 184, 0, 164, 42, 180, 0, 16, 42, 180, 0, 23, 182, 0, 76, 42, 180, 0, 29]
abbrev dktX1_restore_0 : List UInt8 := dkwX1_restore_0 ++ dktX1_restore_1
theorem dksX1_restore_0 : cX1_restore.data.toList.drop 0 = dktX1_restore_0 := by decide +kernel
theorem dksX1_restore_1 : cX1_restore.data.toList.drop 22 = dktX1_restore_1 := dk_seg dksX1_restore_0 22 rfl rfl
theorem dksX1_restore_2 : cX1_restore.data.toList.drop 45 = dktX1_restore_2 := dk_seg dksX1_restore_1 23 rfl rfl
theorem dX1_restore_0 : decode cX1_restore 0 = .ok (.aload_n 0, 1) := dk_42 (dk_at dksX1_restore_0 0 rfl rfl)
theorem dX1_restore_1 : decode cX1_restore 1 = .ok (.getfield 319, 3) := dk_180 1 63 (dk_at dksX1_restore_0 1 rfl rfl)
theorem dX1_restore_4 : decode cX1_restore 4 = .ok (.invokestatic 164, 3) := dk_184 0 164 (dk_at dksX1_restore_0 4 rfl rfl)
theorem dX1_restore_7 : decode cX1_restore 7 = .ok (.aload_n 0, 1) := dk_42 (dk_at dksX1_restore_0 7 rfl rfl)
theorem dX1_restore_8 : decode cX1_restore 8 = .ok (.getfield 16, 3) := dk_180 0 16 (dk_at dksX1_restore_0 8 rfl rfl)
theorem dX1_restore_11 : decode cX1_restore 11 = .ok (.aload_n 0, 1) := dk_42 (dk_at dksX1_restore_0 11 rfl rfl)
theorem dX1_restore_12 : decode cX1_restore 12 = .ok (.getfield 23, 3) := dk_180 0 23 (dk_at dksX1_restore_0 12 rfl rfl)
theorem dX1_restore_15 : decode cX1_restore 15 = .ok (.invokevirtual 76, 3) := dk_182 0 76 (dk_at dksX1_restore_0 15 rfl rfl)
theorem dX1_restore_18 : decode cX1_restore 18 = .ok (.aload_n 0, 1) := dk_42 (dk_at dksX1_restore_0 18 rfl rfl)
theorem dX1_restore_19 : decode cX1_restore 19 = .ok (.getfield 29, 3) := dk_180 0 29 (dk_at dksX1_restore_0 19 rfl rfl)
theorem dX1_restore_22 : decode cX1_restore 22 = .ok (.invokevirtual 80, 3) := dk_182 0 80 (dk_at dksX1_restore_1 0 rfl rfl)
theorem dX1_restore_25 : decode cX1_restore 25 = .ok (.ifCond .ne 23, 3) := dk_154 0 23 (dk_at dksX1_restore_1 3 rfl rfl)
theorem dX1_restore_28 : decode cX1_restore 28 = .ok (.aload_n 0, 1) := dk_42 (dk_at dksX1_restore_1 6 rfl rfl)
theorem dX1_restore_29 : decode cX1_restore 29 = .ok (.getfield 33, 3) := dk_180 0 33 (dk_at dksX1_restore_1 7 rfl rfl)
theorem dX1_restore_32 : decode cX1_restore 32 = .ok (.aload_n 0, 1) := dk_42 (dk_at dksX1_restore_1 10 rfl rfl)
theorem dX1_restore_33 : decode cX1_restore 33 = .ok (.getfield 29, 3) := dk_180 0 29 (dk_at dksX1_restore_1 11 rfl rfl)
theorem dX1_restore_36 : decode cX1_restore 36 = .ok (.invokevirtual 315, 3) := dk_182 1 59 (dk_at dksX1_restore_1 14 rfl rfl)
theorem dX1_restore_39 : decode cX1_restore 39 = .ok (.checkcast 13, 3) := dk_192 0 13 (dk_at dksX1_restore_1 17 rfl rfl)
theorem dX1_restore_42 : decode cX1_restore 42 = .ok (.invokevirtual 50, 3) := dk_182 0 50 (dk_at dksX1_restore_1 20 rfl rfl)
theorem dX1_restore_45 : decode cX1_restore 45 = .ok (.goto (-27), 3) := dk_167 255 229 (dk_at dksX1_restore_2 0 rfl rfl)
theorem dX1_restore_48 : decode cX1_restore 48 = .ok (.aload_n 0, 1) := dk_42 (dk_at dksX1_restore_2 3 rfl rfl)
theorem dX1_restore_49 : decode cX1_restore 49 = .ok (.getfield 16, 3) := dk_180 0 16 (dk_at dksX1_restore_2 4 rfl rfl)
theorem dX1_restore_52 : decode cX1_restore 52 = .ok (.getfield 217, 3) := dk_180 0 217 (dk_at dksX1_restore_2 7 rfl rfl)
theorem dX1_restore_55 : decode cX1_restore 55 = .ok (.invokevirtual 221, 3) := dk_182 0 221 (dk_at dksX1_restore_2 10 rfl rfl)
theorem dX1_restore_58 : decode cX1_restore 58 = .ok (.ireturn, 1) := dk_172 (dk_at dksX1_restore_2 13 rfl rfl)
theorem q67 : (Jvm.Cond.initialized "RoyalCourt") ∈ lw_all := lw_g (lw_at lw_m1 1 rfl) rfl
theorem q106 : (Jvm.Cond.instantiable "RoyalCourt" (9 : Nat)) ∈ lw_all := lw_g (lw_at lw_m1 40 rfl) rfl
theorem q108 : (Jvm.Cond.instanceMethod ({ cls := "RoyalCourt", name := "<init>", desc := "()V" } : Jvm.MethodName)) ∈ lw_all := lw_g (lw_at lw_m1 42 rfl) rfl
theorem q109 : (Jvm.Cond.code ({ cls := "RoyalCourt", name := "<init>", desc := "()V" } : Jvm.MethodName) prog_1_method_5_code (2 : Nat) (Option.none : Option Jvm.ClassFile.FieldType)) ∈ lw_all := lw_g (lw_at lw_m1 43 rfl) rfl
theorem q110 : (Jvm.Cond.methodLink "RoyalCourt" (7 : Nat) ({ cls := "java/lang/Object", name := "<init>", desc := "()V" } : Jvm.MethodName)) ∈ lw_all := lw_g (lw_at lw_m1 44 rfl) rfl
theorem q113 : (Jvm.Cond.classLink "RoyalCourt" (13 : Nat) "RoyalCourt$State") ∈ lw_all := lw_g (lw_at lw_m1 47 rfl) rfl
theorem q115 : (Jvm.Cond.methodLinkNest "RoyalCourt" (15 : Nat) ({ cls := "RoyalCourt$State", name := "<init>", desc := "()V" } : Jvm.MethodName) "RoyalCourt") ∈ lw_tbl := lw_at lw_m1 49 rfl
theorem q150 : (Jvm.Cond.fieldLinkNest "RoyalCourt" (106 : Nat) "RoyalCourt$State" "courtiers" "I" "RoyalCourt") ∈ lw_tbl := lw_at lw_m1 84 rfl
theorem q152 : (Jvm.Cond.fieldLinkNest "RoyalCourt" (113 : Nat) "RoyalCourt$State" "dignities" "[I" "RoyalCourt") ∈ lw_tbl := lw_at lw_m1 86 rfl
theorem q154 : (Jvm.Cond.fieldLinkNest "RoyalCourt" (117 : Nat) "RoyalCourt$State" "favors" "[I" "RoyalCourt") ∈ lw_tbl := lw_at lw_m1 88 rfl
theorem q157 : (Jvm.Cond.fieldLinkNest "RoyalCourt" (120 : Nat) "RoyalCourt$State" "rules" "I" "RoyalCourt") ∈ lw_tbl := lw_at lw_m1 91 rfl
theorem q159 : (Jvm.Cond.fieldLinkNest "RoyalCourt" (217 : Nat) "RoyalCourt$State" "requests" "Ljava/util/ArrayList;" "RoyalCourt") ∈ lw_tbl := lw_at lw_m1 93 rfl
theorem q161 : (Jvm.Cond.fieldLinkNest "RoyalCourt" (262 : Nat) "RoyalCourt$State" "width" "I" "RoyalCourt") ∈ lw_tbl := lw_at lw_m1 95 rfl
theorem q163 : (Jvm.Cond.fieldLinkNest "RoyalCourt" (283 : Nat) "RoyalCourt$State" "granted" "I" "RoyalCourt") ∈ lw_tbl := lw_at lw_m1 97 rfl
theorem q165 : (Jvm.Cond.fieldLinkNest "RoyalCourt" (286 : Nat) "RoyalCourt$State" "spent" "J" "RoyalCourt") ∈ lw_tbl := lw_at lw_m1 99 rfl
theorem q167 : (Jvm.Cond.fieldLinkNest "RoyalCourt" (290 : Nat) "RoyalCourt$State" "gained" "I" "RoyalCourt") ∈ lw_tbl := lw_at lw_m1 101 rfl
theorem q169 : (Jvm.Cond.fieldLinkNest "RoyalCourt" (293 : Nat) "RoyalCourt$State" "lost" "I" "RoyalCourt") ∈ lw_tbl := lw_at lw_m1 103 rfl
theorem q193 : (Jvm.Cond.classLink "RoyalCourt" (26 : Nat) "java/util/ArrayDeque") ∈ lw_all := lw_g (lw_at lw_m1 127 rfl) rfl
theorem q195 : (Jvm.Cond.methodLink "RoyalCourt" (28 : Nat) ({ cls := "java/util/ArrayDeque", name := "<init>", desc := "()V" } : Jvm.MethodName)) ∈ lw_all := lw_g (lw_at lw_m1 129 rfl) rfl
theorem q211 : (Jvm.Cond.classLink "RoyalCourt" (36 : Nat) "java/lang/StringBuilder") ∈ lw_all := lw_g (lw_at lw_m1 145 rfl) rfl
theorem q213 : (Jvm.Cond.methodLink "RoyalCourt" (38 : Nat) ({ cls := "java/lang/StringBuilder", name := "<init>", desc := "()V" } : Jvm.MethodName)) ∈ lw_all := lw_g (lw_at lw_m1 147 rfl) rfl
theorem q244 : (Jvm.Cond.methodLink "RoyalCourt" (50 : Nat) ({ cls := "java/util/ArrayDeque", name := "addLast", desc := "(Ljava/lang/Object;)V" } : Jvm.MethodName)) ∈ lw_all := lw_g (lw_at lw_m1 178 rfl) rfl
theorem q340 : (Jvm.Cond.selects "RoyalCourt" ({ cls := "java/lang/Object", name := "getClass", desc := "()Ljava/lang/Class;" } : Jvm.MethodName) ({ cls := "java/lang/Object", name := "getClass", desc := "()Ljava/lang/Class;" } : Jvm.MethodName)) ∈ lw_all := lw_g (lw_at lw_m2 34 rfl) rfl
theorem q375 : (Jvm.Cond.fieldLink "RoyalCourt" (16 : Nat) "RoyalCourt" "state" "LRoyalCourt$State;") ∈ lw_all := lw_g (lw_at lw_m2 69 rfl) rfl
theorem q376 : (Jvm.Cond.fieldLink "RoyalCourt" (20 : Nat) "RoyalCourt" "attempt" "LRoyalCourt$State;") ∈ lw_all := lw_g (lw_at lw_m2 70 rfl) rfl
theorem q377 : (Jvm.Cond.fieldLink "RoyalCourt" (23 : Nat) "RoyalCourt" "snapshot" "LRoyalCourt$State;") ∈ lw_all := lw_g (lw_at lw_m2 71 rfl) rfl
theorem q378 : (Jvm.Cond.fieldLink "RoyalCourt" (319 : Nat) "RoyalCourt" "hasSnapshot" "Z") ∈ lw_all := lw_g (lw_at lw_m2 72 rfl) rfl
theorem q379 : (Jvm.Cond.fieldLink "RoyalCourt" (29 : Nat) "RoyalCourt" "history" "Ljava/util/ArrayDeque;") ∈ lw_all := lw_g (lw_at lw_m2 73 rfl) rfl
theorem q380 : (Jvm.Cond.fieldLink "RoyalCourt" (33 : Nat) "RoyalCourt" "spare" "Ljava/util/ArrayDeque;") ∈ lw_all := lw_g (lw_at lw_m2 74 rfl) rfl
theorem q381 : (Jvm.Cond.fieldLink "RoyalCourt" (39 : Nat) "RoyalCourt" "buffer" "Ljava/lang/StringBuilder;") ∈ lw_all := lw_g (lw_at lw_m2 75 rfl) rfl
theorem q382 : (Jvm.Cond.fieldLink "RoyalCourt" (43 : Nat) "RoyalCourt" "output" "Ljava/lang/StringBuilder;") ∈ lw_all := lw_g (lw_at lw_m2 76 rfl) rfl
theorem q383 : (Jvm.Cond.fieldLink "RoyalCourt" (46 : Nat) "RoyalCourt" "errorPosition" "I") ∈ lw_all := lw_g (lw_at lw_m2 77 rfl) rfl
theorem q384 : (Jvm.Cond.laysFinal "RoyalCourt" "RoyalCourt" "state" "LRoyalCourt$State;") ∈ lw_all := lw_g (lw_at lw_m2 78 rfl) rfl
theorem q385 : (Jvm.Cond.soleField "RoyalCourt" "state") ∈ lw_all := lw_g (lw_at lw_m2 79 rfl) rfl
theorem q386 : (Jvm.Cond.laysFinal "RoyalCourt" "RoyalCourt" "attempt" "LRoyalCourt$State;") ∈ lw_all := lw_g (lw_at lw_m2 80 rfl) rfl
theorem q387 : (Jvm.Cond.soleField "RoyalCourt" "attempt") ∈ lw_all := lw_g (lw_at lw_m2 81 rfl) rfl
theorem q388 : (Jvm.Cond.laysFinal "RoyalCourt" "RoyalCourt" "snapshot" "LRoyalCourt$State;") ∈ lw_all := lw_g (lw_at lw_m2 82 rfl) rfl
theorem q389 : (Jvm.Cond.soleField "RoyalCourt" "snapshot") ∈ lw_all := lw_g (lw_at lw_m2 83 rfl) rfl
theorem q390 : (Jvm.Cond.lays "RoyalCourt" "RoyalCourt" "hasSnapshot" "Z") ∈ lw_all := lw_g (lw_at lw_m2 84 rfl) rfl
theorem q391 : (Jvm.Cond.soleField "RoyalCourt" "hasSnapshot") ∈ lw_all := lw_g (lw_at lw_m2 85 rfl) rfl
theorem q392 : (Jvm.Cond.laysFinal "RoyalCourt" "RoyalCourt" "history" "Ljava/util/ArrayDeque;") ∈ lw_all := lw_g (lw_at lw_m2 86 rfl) rfl
theorem q393 : (Jvm.Cond.soleField "RoyalCourt" "history") ∈ lw_all := lw_g (lw_at lw_m2 87 rfl) rfl
theorem q394 : (Jvm.Cond.laysFinal "RoyalCourt" "RoyalCourt" "spare" "Ljava/util/ArrayDeque;") ∈ lw_all := lw_g (lw_at lw_m2 88 rfl) rfl
theorem q395 : (Jvm.Cond.soleField "RoyalCourt" "spare") ∈ lw_all := lw_g (lw_at lw_m2 89 rfl) rfl
theorem q396 : (Jvm.Cond.laysFinal "RoyalCourt" "RoyalCourt" "buffer" "Ljava/lang/StringBuilder;") ∈ lw_all := lw_g (lw_at lw_m2 90 rfl) rfl
theorem q397 : (Jvm.Cond.soleField "RoyalCourt" "buffer") ∈ lw_all := lw_g (lw_at lw_m2 91 rfl) rfl
theorem q398 : (Jvm.Cond.laysFinal "RoyalCourt" "RoyalCourt" "output" "Ljava/lang/StringBuilder;") ∈ lw_all := lw_g (lw_at lw_m2 92 rfl) rfl
theorem q399 : (Jvm.Cond.soleField "RoyalCourt" "output") ∈ lw_all := lw_g (lw_at lw_m2 93 rfl) rfl
theorem q400 : (Jvm.Cond.lays "RoyalCourt" "RoyalCourt" "errorPosition" "I") ∈ lw_all := lw_g (lw_at lw_m2 94 rfl) rfl
theorem q401 : (Jvm.Cond.soleField "RoyalCourt" "errorPosition") ∈ lw_all := lw_g (lw_at lw_m2 95 rfl) rfl
theorem q402 : (Jvm.Cond.superclass "RoyalCourt" "java/lang/Object") ∈ lw_all := lw_g (lw_at lw_m2 96 rfl) rfl
theorem q404 : (Jvm.Cond.instanceMethod ({ cls := "RoyalCourt", name := "courtierCount", desc := "()I" } : Jvm.MethodName)) ∈ lw_all := lw_g (lw_at lw_m2 98 rfl) rfl
theorem q405 : (Jvm.Cond.selects "RoyalCourt" ({ cls := "RoyalCourt", name := "courtierCount", desc := "()I" } : Jvm.MethodName) ({ cls := "RoyalCourt", name := "courtierCount", desc := "()I" } : Jvm.MethodName)) ∈ lw_all := lw_g (lw_at lw_m2 99 rfl) rfl
theorem q406 : (Jvm.Cond.code ({ cls := "RoyalCourt", name := "courtierCount", desc := "()I" } : Jvm.MethodName) prog_1_method_18_code (1 : Nat) (Option.some Jvm.ClassFile.FieldType.int)) ∈ lw_all := lw_g (lw_at lw_m2 100 rfl) rfl
theorem q408 : (Jvm.Cond.instanceMethod ({ cls := "RoyalCourt", name := "ruleCount", desc := "()I" } : Jvm.MethodName)) ∈ lw_all := lw_g (lw_at lw_m2 102 rfl) rfl
theorem q409 : (Jvm.Cond.selects "RoyalCourt" ({ cls := "RoyalCourt", name := "ruleCount", desc := "()I" } : Jvm.MethodName) ({ cls := "RoyalCourt", name := "ruleCount", desc := "()I" } : Jvm.MethodName)) ∈ lw_all := lw_g (lw_at lw_m2 103 rfl) rfl
theorem q410 : (Jvm.Cond.code ({ cls := "RoyalCourt", name := "ruleCount", desc := "()I" } : Jvm.MethodName) prog_1_method_21_code (1 : Nat) (Option.some Jvm.ClassFile.FieldType.int)) ∈ lw_all := lw_g (lw_at lw_m2 104 rfl) rfl
theorem q412 : (Jvm.Cond.instanceMethod ({ cls := "RoyalCourt", name := "processions", desc := "()J" } : Jvm.MethodName)) ∈ lw_all := lw_g (lw_at lw_m2 106 rfl) rfl
theorem q413 : (Jvm.Cond.selects "RoyalCourt" ({ cls := "RoyalCourt", name := "processions", desc := "()J" } : Jvm.MethodName) ({ cls := "RoyalCourt", name := "processions", desc := "()J" } : Jvm.MethodName)) ∈ lw_all := lw_g (lw_at lw_m2 107 rfl) rfl
theorem q414 : (Jvm.Cond.code ({ cls := "RoyalCourt", name := "processions", desc := "()J" } : Jvm.MethodName) prog_1_method_24_code (1 : Nat) (Option.some Jvm.ClassFile.FieldType.long)) ∈ lw_all := lw_g (lw_at lw_m2 108 rfl) rfl
theorem q415 : (Jvm.Cond.methodLink "RoyalCourt" (137 : Nat) ({ cls := "RoyalCourt$State", name := "processions", desc := "()J" } : Jvm.MethodName)) ∈ lw_all := lw_g (lw_at lw_m2 109 rfl) rfl
theorem q424 : (Jvm.Cond.static ({ cls := "RoyalCourt", name := "isIn", desc := "(II)Z" } : Jvm.MethodName)) ∈ lw_all := lw_g (lw_at lw_m2 118 rfl) rfl
theorem q425 : (Jvm.Cond.code ({ cls := "RoyalCourt", name := "isIn", desc := "(II)Z" } : Jvm.MethodName) prog_1_method_2_code (2 : Nat) (Option.some Jvm.ClassFile.FieldType.boolean)) ∈ lw_all := lw_g (lw_at lw_m2 119 rfl) rfl
theorem q431 : (Jvm.Cond.instanceMethod ({ cls := "RoyalCourt", name := "processionsByTrying", desc := "()J" } : Jvm.MethodName)) ∈ lw_all := lw_g (lw_at lw_m2 125 rfl) rfl
theorem q432 : (Jvm.Cond.selects "RoyalCourt" ({ cls := "RoyalCourt", name := "processionsByTrying", desc := "()J" } : Jvm.MethodName) ({ cls := "RoyalCourt", name := "processionsByTrying", desc := "()J" } : Jvm.MethodName)) ∈ lw_all := lw_g (lw_at lw_m2 126 rfl) rfl
theorem q433 : (Jvm.Cond.code ({ cls := "RoyalCourt", name := "processionsByTrying", desc := "()J" } : Jvm.MethodName) prog_1_method_25_code (1 : Nat) (Option.some Jvm.ClassFile.FieldType.long)) ∈ lw_all := lw_g (lw_at lw_m2 127 rfl) rfl
theorem q434 : (Jvm.Cond.methodLink "RoyalCourt" (141 : Nat) ({ cls := "RoyalCourt$State", name := "processionsByTrying", desc := "()J" } : Jvm.MethodName)) ∈ lw_all := lw_g (lw_at lw_m2 128 rfl) rfl
theorem q443 : (Jvm.Cond.instanceMethod ({ cls := "RoyalCourt", name := "clearText", desc := "()I" } : Jvm.MethodName)) ∈ lw_all := lw_g (lw_at lw_m2 137 rfl) rfl
theorem q444 : (Jvm.Cond.selects "RoyalCourt" ({ cls := "RoyalCourt", name := "clearText", desc := "()I" } : Jvm.MethodName) ({ cls := "RoyalCourt", name := "clearText", desc := "()I" } : Jvm.MethodName)) ∈ lw_all := lw_g (lw_at lw_m2 138 rfl) rfl
theorem q445 : (Jvm.Cond.code ({ cls := "RoyalCourt", name := "clearText", desc := "()I" } : Jvm.MethodName) prog_1_method_31_code (2 : Nat) (Option.some Jvm.ClassFile.FieldType.int)) ∈ lw_all := lw_g (lw_at lw_m2 139 rfl) rfl
theorem q446 : (Jvm.Cond.methodLink "RoyalCourt" (160 : Nat) ({ cls := "java/lang/StringBuilder", name := "length", desc := "()I" } : Jvm.MethodName)) ∈ lw_all := lw_g (lw_at lw_m2 140 rfl) rfl
theorem q453 : (Jvm.Cond.methodLink "RoyalCourt" (171 : Nat) ({ cls := "java/lang/StringBuilder", name := "setLength", desc := "(I)V" } : Jvm.MethodName)) ∈ lw_all := lw_g (lw_at lw_m2 147 rfl) rfl
theorem q732 : (Jvm.Cond.instanceMethod ({ cls := "RoyalCourt", name := "isReadable", desc := "()Z" } : Jvm.MethodName)) ∈ lw_all := lw_g (lw_at lw_m3 186 rfl) rfl
theorem q733 : (Jvm.Cond.selects "RoyalCourt" ({ cls := "RoyalCourt", name := "isReadable", desc := "()Z" } : Jvm.MethodName) ({ cls := "RoyalCourt", name := "isReadable", desc := "()Z" } : Jvm.MethodName)) ∈ lw_all := lw_g (lw_at lw_m3 187 rfl) rfl
theorem q734 : (Jvm.Cond.code ({ cls := "RoyalCourt", name := "isReadable", desc := "()Z" } : Jvm.MethodName) prog_1_method_33_code (1 : Nat) (Option.some Jvm.ClassFile.FieldType.boolean)) ∈ lw_all := lw_g (lw_at lw_m3 188 rfl) rfl
theorem q735 : (Jvm.Cond.methodLink "RoyalCourt" (187 : Nat) ({ cls := "RoyalCourt", name := "errorOfText", desc := "()I" } : Jvm.MethodName)) ∈ lw_all := lw_g (lw_at lw_m3 189 rfl) rfl
theorem q736 : (Jvm.Cond.privateMethod ({ cls := "RoyalCourt", name := "errorOfText", desc := "()I" } : Jvm.MethodName)) ∈ lw_tbl := lw_at lw_m3 190 rfl
theorem q737 : (Jvm.Cond.instanceMethod ({ cls := "RoyalCourt", name := "errorOfText", desc := "()I" } : Jvm.MethodName)) ∈ lw_all := lw_g (lw_at lw_m3 191 rfl) rfl
theorem q738 : (Jvm.Cond.codeWith ({ cls := "RoyalCourt", name := "errorOfText", desc := "()I" } : Jvm.MethodName) prog_1_method_32_code (2 : Nat) (Option.some Jvm.ClassFile.FieldType.int) [((0 : Nat), (16 : Nat), (17 : Nat), (182 : Nat))]) ∈ lw_all := lw_g (lw_at lw_m3 192 rfl) rfl
theorem q739 : (Jvm.Cond.classLink "RoyalCourt" (182 : Nat) "RoyalCourt$SyntaxError") ∈ lw_all := lw_g (lw_at lw_m3 193 rfl) rfl
theorem q740 : (Jvm.Cond.classLink "RoyalCourt" (174 : Nat) "RoyalCourt$Reader") ∈ lw_all := lw_g (lw_at lw_m3 194 rfl) rfl
theorem q742 : (Jvm.Cond.methodLink "RoyalCourt" (176 : Nat) ({ cls := "RoyalCourt$Reader", name := "<init>", desc := "(Ljava/lang/StringBuilder;)V" } : Jvm.MethodName)) ∈ lw_all := lw_g (lw_at lw_m3 196 rfl) rfl
theorem q770 : (Jvm.Cond.methodLink "RoyalCourt" (179 : Nat) ({ cls := "RoyalCourt$Reader", name := "read", desc := "()I" } : Jvm.MethodName)) ∈ lw_all := lw_g (lw_at lw_m3 224 rfl) rfl
theorem q803 : (Jvm.Cond.static ({ cls := "RoyalCourt", name := "isDigit", desc := "(I)Z" } : Jvm.MethodName)) ∈ lw_all := lw_g (lw_at lw_m4 17 rfl) rfl
theorem q804 : (Jvm.Cond.code ({ cls := "RoyalCourt", name := "isDigit", desc := "(I)Z" } : Jvm.MethodName) prog_1_method_3_code (1 : Nat) (Option.some Jvm.ClassFile.FieldType.boolean)) ∈ lw_all := lw_g (lw_at lw_m4 18 rfl) rfl
theorem q805 : (Jvm.Cond.methodLink "RoyalCourt" (1 : Nat) ({ cls := "RoyalCourt", name := "inRange", desc := "(III)Z" } : Jvm.MethodName)) ∈ lw_all := lw_g (lw_at lw_m4 19 rfl) rfl
theorem q806 : (Jvm.Cond.static ({ cls := "RoyalCourt", name := "inRange", desc := "(III)Z" } : Jvm.MethodName)) ∈ lw_all := lw_g (lw_at lw_m4 20 rfl) rfl
theorem q807 : (Jvm.Cond.code ({ cls := "RoyalCourt", name := "inRange", desc := "(III)Z" } : Jvm.MethodName) prog_1_method_1_code (3 : Nat) (Option.some Jvm.ClassFile.FieldType.boolean)) ∈ lw_all := lw_g (lw_at lw_m4 21 rfl) rfl
theorem q832 : (Jvm.Cond.fieldLinkNest "RoyalCourt" (184 : Nat) "RoyalCourt$SyntaxError" "position" "I" "RoyalCourt") ∈ lw_tbl := lw_at lw_m4 46 rfl
theorem q864 : (Jvm.Cond.instanceMethod ({ cls := "RoyalCourt", name := "insultCount", desc := "()I" } : Jvm.MethodName)) ∈ lw_all := lw_g (lw_at lw_m4 78 rfl) rfl
theorem q865 : (Jvm.Cond.selects "RoyalCourt" ({ cls := "RoyalCourt", name := "insultCount", desc := "()I" } : Jvm.MethodName) ({ cls := "RoyalCourt", name := "insultCount", desc := "()I" } : Jvm.MethodName)) ∈ lw_all := lw_g (lw_at lw_m4 79 rfl) rfl
theorem q866 : (Jvm.Cond.code ({ cls := "RoyalCourt", name := "insultCount", desc := "()I" } : Jvm.MethodName) prog_1_method_35_code (1 : Nat) (Option.some Jvm.ClassFile.FieldType.int)) ∈ lw_all := lw_g (lw_at lw_m4 80 rfl) rfl
theorem q867 : (Jvm.Cond.methodLink "RoyalCourt" (194 : Nat) ({ cls := "RoyalCourt", name := "countInText", desc := "(II)I" } : Jvm.MethodName)) ∈ lw_all := lw_g (lw_at lw_m4 81 rfl) rfl
theorem q868 : (Jvm.Cond.privateMethod ({ cls := "RoyalCourt", name := "countInText", desc := "(II)I" } : Jvm.MethodName)) ∈ lw_tbl := lw_at lw_m4 82 rfl
theorem q869 : (Jvm.Cond.instanceMethod ({ cls := "RoyalCourt", name := "countInText", desc := "(II)I" } : Jvm.MethodName)) ∈ lw_all := lw_g (lw_at lw_m4 83 rfl) rfl
theorem q870 : (Jvm.Cond.code ({ cls := "RoyalCourt", name := "countInText", desc := "(II)I" } : Jvm.MethodName) prog_1_method_34_code (5 : Nat) (Option.some Jvm.ClassFile.FieldType.int)) ∈ lw_all := lw_g (lw_at lw_m4 84 rfl) rfl
theorem q871 : (Jvm.Cond.methodLink "RoyalCourt" (190 : Nat) ({ cls := "java/lang/StringBuilder", name := "charAt", desc := "(I)C" } : Jvm.MethodName)) ∈ lw_all := lw_g (lw_at lw_m4 85 rfl) rfl
theorem q873 : (Jvm.Cond.instanceMethod ({ cls := "RoyalCourt", name := "requestCount", desc := "()I" } : Jvm.MethodName)) ∈ lw_all := lw_g (lw_at lw_m4 87 rfl) rfl
theorem q874 : (Jvm.Cond.selects "RoyalCourt" ({ cls := "RoyalCourt", name := "requestCount", desc := "()I" } : Jvm.MethodName) ({ cls := "RoyalCourt", name := "requestCount", desc := "()I" } : Jvm.MethodName)) ∈ lw_all := lw_g (lw_at lw_m4 88 rfl) rfl
theorem q875 : (Jvm.Cond.code ({ cls := "RoyalCourt", name := "requestCount", desc := "()I" } : Jvm.MethodName) prog_1_method_43_code (1 : Nat) (Option.some Jvm.ClassFile.FieldType.int)) ∈ lw_all := lw_g (lw_at lw_m4 89 rfl) rfl
theorem q876 : (Jvm.Cond.methodLink "RoyalCourt" (221 : Nat) ({ cls := "java/util/ArrayList", name := "size", desc := "()I" } : Jvm.MethodName)) ∈ lw_all := lw_g (lw_at lw_m4 90 rfl) rfl
theorem q881 : (Jvm.Cond.instanceMethod ({ cls := "RoyalCourt", name := "width", desc := "()I" } : Jvm.MethodName)) ∈ lw_all := lw_g (lw_at lw_m4 95 rfl) rfl
theorem q882 : (Jvm.Cond.selects "RoyalCourt" ({ cls := "RoyalCourt", name := "width", desc := "()I" } : Jvm.MethodName) ({ cls := "RoyalCourt", name := "width", desc := "()I" } : Jvm.MethodName)) ∈ lw_all := lw_g (lw_at lw_m4 96 rfl) rfl
theorem q883 : (Jvm.Cond.code ({ cls := "RoyalCourt", name := "width", desc := "()I" } : Jvm.MethodName) prog_1_method_53_code (1 : Nat) (Option.some Jvm.ClassFile.FieldType.int)) ∈ lw_all := lw_g (lw_at lw_m4 97 rfl) rfl
theorem q885 : (Jvm.Cond.instanceMethod ({ cls := "RoyalCourt", name := "grantedCount", desc := "()I" } : Jvm.MethodName)) ∈ lw_all := lw_g (lw_at lw_m4 99 rfl) rfl
theorem q886 : (Jvm.Cond.selects "RoyalCourt" ({ cls := "RoyalCourt", name := "grantedCount", desc := "()I" } : Jvm.MethodName) ({ cls := "RoyalCourt", name := "grantedCount", desc := "()I" } : Jvm.MethodName)) ∈ lw_all := lw_g (lw_at lw_m4 100 rfl) rfl
theorem q887 : (Jvm.Cond.code ({ cls := "RoyalCourt", name := "grantedCount", desc := "()I" } : Jvm.MethodName) prog_1_method_58_code (1 : Nat) (Option.some Jvm.ClassFile.FieldType.int)) ∈ lw_all := lw_g (lw_at lw_m4 101 rfl) rfl
theorem q889 : (Jvm.Cond.instanceMethod ({ cls := "RoyalCourt", name := "spent", desc := "()J" } : Jvm.MethodName)) ∈ lw_all := lw_g (lw_at lw_m4 103 rfl) rfl
theorem q890 : (Jvm.Cond.selects "RoyalCourt" ({ cls := "RoyalCourt", name := "spent", desc := "()J" } : Jvm.MethodName) ({ cls := "RoyalCourt", name := "spent", desc := "()J" } : Jvm.MethodName)) ∈ lw_all := lw_g (lw_at lw_m4 104 rfl) rfl
theorem q891 : (Jvm.Cond.code ({ cls := "RoyalCourt", name := "spent", desc := "()J" } : Jvm.MethodName) prog_1_method_59_code (1 : Nat) (Option.some Jvm.ClassFile.FieldType.long)) ∈ lw_all := lw_g (lw_at lw_m4 105 rfl) rfl
theorem q893 : (Jvm.Cond.instanceMethod ({ cls := "RoyalCourt", name := "gained", desc := "()I" } : Jvm.MethodName)) ∈ lw_all := lw_g (lw_at lw_m4 107 rfl) rfl
theorem q894 : (Jvm.Cond.selects "RoyalCourt" ({ cls := "RoyalCourt", name := "gained", desc := "()I" } : Jvm.MethodName) ({ cls := "RoyalCourt", name := "gained", desc := "()I" } : Jvm.MethodName)) ∈ lw_all := lw_g (lw_at lw_m4 108 rfl) rfl
theorem q895 : (Jvm.Cond.code ({ cls := "RoyalCourt", name := "gained", desc := "()I" } : Jvm.MethodName) prog_1_method_60_code (1 : Nat) (Option.some Jvm.ClassFile.FieldType.int)) ∈ lw_all := lw_g (lw_at lw_m4 109 rfl) rfl
theorem q897 : (Jvm.Cond.instanceMethod ({ cls := "RoyalCourt", name := "lost", desc := "()I" } : Jvm.MethodName)) ∈ lw_all := lw_g (lw_at lw_m4 111 rfl) rfl
theorem q898 : (Jvm.Cond.selects "RoyalCourt" ({ cls := "RoyalCourt", name := "lost", desc := "()I" } : Jvm.MethodName) ({ cls := "RoyalCourt", name := "lost", desc := "()I" } : Jvm.MethodName)) ∈ lw_all := lw_g (lw_at lw_m4 112 rfl) rfl
theorem q899 : (Jvm.Cond.code ({ cls := "RoyalCourt", name := "lost", desc := "()I" } : Jvm.MethodName) prog_1_method_61_code (1 : Nat) (Option.some Jvm.ClassFile.FieldType.int)) ∈ lw_all := lw_g (lw_at lw_m4 113 rfl) rfl
theorem q901 : (Jvm.Cond.instanceMethod ({ cls := "RoyalCourt", name := "writeProcession", desc := "()I" } : Jvm.MethodName)) ∈ lw_all := lw_g (lw_at lw_m4 115 rfl) rfl
theorem q902 : (Jvm.Cond.selects "RoyalCourt" ({ cls := "RoyalCourt", name := "writeProcession", desc := "()I" } : Jvm.MethodName) ({ cls := "RoyalCourt", name := "writeProcession", desc := "()I" } : Jvm.MethodName)) ∈ lw_all := lw_g (lw_at lw_m4 116 rfl) rfl
theorem q903 : (Jvm.Cond.code ({ cls := "RoyalCourt", name := "writeProcession", desc := "()I" } : Jvm.MethodName) prog_1_method_65_code (1 : Nat) (Option.some Jvm.ClassFile.FieldType.int)) ∈ lw_all := lw_g (lw_at lw_m4 117 rfl) rfl
theorem q904 : (Jvm.Cond.methodLink "RoyalCourt" (309 : Nat) ({ cls := "RoyalCourt$State", name := "writeProcession", desc := "(Ljava/lang/StringBuilder;)V" } : Jvm.MethodName)) ∈ lw_all := lw_g (lw_at lw_m4 118 rfl) rfl
theorem q930 : (Jvm.Cond.instanceMethod ({ cls := "RoyalCourt", name := "isConsistent", desc := "()Z" } : Jvm.MethodName)) ∈ lw_all := lw_g (lw_at lw_m4 144 rfl) rfl
theorem q931 : (Jvm.Cond.selects "RoyalCourt" ({ cls := "RoyalCourt", name := "isConsistent", desc := "()Z" } : Jvm.MethodName) ({ cls := "RoyalCourt", name := "isConsistent", desc := "()Z" } : Jvm.MethodName)) ∈ lw_all := lw_g (lw_at lw_m4 145 rfl) rfl
theorem q932 : (Jvm.Cond.code ({ cls := "RoyalCourt", name := "isConsistent", desc := "()Z" } : Jvm.MethodName) prog_1_method_67_code (1 : Nat) (Option.some Jvm.ClassFile.FieldType.boolean)) ∈ lw_all := lw_g (lw_at lw_m4 146 rfl) rfl
theorem q933 : (Jvm.Cond.methodLink "RoyalCourt" (312 : Nat) ({ cls := "RoyalCourt$State", name := "isConsistent", desc := "()Z" } : Jvm.MethodName)) ∈ lw_all := lw_g (lw_at lw_m4 147 rfl) rfl
theorem q942 : (Jvm.Cond.static ({ cls := "RoyalCourt", name := "sum", desc := "([I)I" } : Jvm.MethodName)) ∈ lw_all := lw_g (lw_at lw_m4 156 rfl) rfl
theorem q943 : (Jvm.Cond.code ({ cls := "RoyalCourt", name := "sum", desc := "([I)I" } : Jvm.MethodName) prog_1_method_4_code (6 : Nat) (Option.some Jvm.ClassFile.FieldType.int)) ∈ lw_all := lw_g (lw_at lw_m4 157 rfl) rfl
theorem q1083 : (Jvm.Cond.instanceMethod ({ cls := "RoyalCourt", name := "undoCount", desc := "()I" } : Jvm.MethodName)) ∈ lw_all := lw_g (lw_at lw_m5 57 rfl) rfl
theorem q1084 : (Jvm.Cond.selects "RoyalCourt" ({ cls := "RoyalCourt", name := "undoCount", desc := "()I" } : Jvm.MethodName) ({ cls := "RoyalCourt", name := "undoCount", desc := "()I" } : Jvm.MethodName)) ∈ lw_all := lw_g (lw_at lw_m5 58 rfl) rfl
theorem q1085 : (Jvm.Cond.code ({ cls := "RoyalCourt", name := "undoCount", desc := "()I" } : Jvm.MethodName) prog_1_method_69_code (1 : Nat) (Option.some Jvm.ClassFile.FieldType.int)) ∈ lw_all := lw_g (lw_at lw_m5 59 rfl) rfl
theorem q1086 : (Jvm.Cond.methodLink "RoyalCourt" (318 : Nat) ({ cls := "java/util/ArrayDeque", name := "size", desc := "()I" } : Jvm.MethodName)) ∈ lw_all := lw_g (lw_at lw_m5 60 rfl) rfl
theorem q1094 : (Jvm.Cond.instanceMethod ({ cls := "RoyalCourt", name := "save", desc := "()I" } : Jvm.MethodName)) ∈ lw_all := lw_g (lw_at lw_m5 68 rfl) rfl
theorem q1095 : (Jvm.Cond.selects "RoyalCourt" ({ cls := "RoyalCourt", name := "save", desc := "()I" } : Jvm.MethodName) ({ cls := "RoyalCourt", name := "save", desc := "()I" } : Jvm.MethodName)) ∈ lw_all := lw_g (lw_at lw_m5 69 rfl) rfl
theorem q1096 : (Jvm.Cond.code ({ cls := "RoyalCourt", name := "save", desc := "()I" } : Jvm.MethodName) prog_1_method_70_code (1 : Nat) (Option.some Jvm.ClassFile.FieldType.int)) ∈ lw_all := lw_g (lw_at lw_m5 70 rfl) rfl
theorem q1097 : (Jvm.Cond.methodLink "RoyalCourt" (76 : Nat) ({ cls := "RoyalCourt$State", name := "copyFrom", desc := "(LRoyalCourt$State;)V" } : Jvm.MethodName)) ∈ lw_all := lw_g (lw_at lw_m5 71 rfl) rfl
theorem q1132 : (Jvm.Cond.instanceMethod ({ cls := "RoyalCourt", name := "addCourtier", desc := "(I)I" } : Jvm.MethodName)) ∈ lw_all := lw_g (lw_at lw_m5 106 rfl) rfl
theorem q1133 : (Jvm.Cond.selects "RoyalCourt" ({ cls := "RoyalCourt", name := "addCourtier", desc := "(I)I" } : Jvm.MethodName) ({ cls := "RoyalCourt", name := "addCourtier", desc := "(I)I" } : Jvm.MethodName)) ∈ lw_all := lw_g (lw_at lw_m5 107 rfl) rfl
theorem q1134 : (Jvm.Cond.code ({ cls := "RoyalCourt", name := "addCourtier", desc := "(I)I" } : Jvm.MethodName) prog_1_method_15_code (2 : Nat) (Option.some Jvm.ClassFile.FieldType.int)) ∈ lw_all := lw_g (lw_at lw_m5 108 rfl) rfl
theorem q1135 : (Jvm.Cond.methodLink "RoyalCourt" (88 : Nat) ({ cls := "RoyalCourt", name := "begin", desc := "()LRoyalCourt$State;" } : Jvm.MethodName)) ∈ lw_all := lw_g (lw_at lw_m5 109 rfl) rfl
theorem q1136 : (Jvm.Cond.privateMethod ({ cls := "RoyalCourt", name := "begin", desc := "()LRoyalCourt$State;" } : Jvm.MethodName)) ∈ lw_tbl := lw_at lw_m5 110 rfl
theorem q1137 : (Jvm.Cond.instanceMethod ({ cls := "RoyalCourt", name := "begin", desc := "()LRoyalCourt$State;" } : Jvm.MethodName)) ∈ lw_all := lw_g (lw_at lw_m5 111 rfl) rfl
theorem q1138 : (Jvm.Cond.code ({ cls := "RoyalCourt", name := "begin", desc := "()LRoyalCourt$State;" } : Jvm.MethodName) prog_1_method_13_code (1 : Nat) (Option.some (Jvm.ClassFile.FieldType.object "RoyalCourt$State"))) ∈ lw_all := lw_g (lw_at lw_m5 112 rfl) rfl
theorem q1139 : (Jvm.Cond.methodLink "RoyalCourt" (92 : Nat) ({ cls := "RoyalCourt$State", name := "addCourtier", desc := "(I)I" } : Jvm.MethodName)) ∈ lw_all := lw_g (lw_at lw_m5 113 rfl) rfl
theorem q1145 : (Jvm.Cond.static ({ cls := "RoyalCourt", name := "checkArgument", desc := "(Z)V" } : Jvm.MethodName)) ∈ lw_all := lw_g (lw_at lw_m5 119 rfl) rfl
theorem q1146 : (Jvm.Cond.code ({ cls := "RoyalCourt", name := "checkArgument", desc := "(Z)V" } : Jvm.MethodName) prog_1_method_6_code (1 : Nat) (Option.none : Option Jvm.ClassFile.FieldType)) ∈ lw_all := lw_g (lw_at lw_m5 120 rfl) rfl
theorem q1147 : (Jvm.Cond.classLink "RoyalCourt" (54 : Nat) "java/lang/IllegalArgumentException") ∈ lw_all := lw_g (lw_at lw_m5 121 rfl) rfl
theorem q1148 : (Jvm.Cond.methodLink "RoyalCourt" (56 : Nat) ({ cls := "java/lang/IllegalArgumentException", name := "<init>", desc := "()V" } : Jvm.MethodName)) ∈ lw_all := lw_g (lw_at lw_m5 122 rfl) rfl
theorem q1153 : (Jvm.Cond.static ({ cls := "RoyalCourt", name := "checkState", desc := "(Z)V" } : Jvm.MethodName)) ∈ lw_all := lw_g (lw_at lw_m5 127 rfl) rfl
theorem q1154 : (Jvm.Cond.code ({ cls := "RoyalCourt", name := "checkState", desc := "(Z)V" } : Jvm.MethodName) prog_1_method_8_code (1 : Nat) (Option.none : Option Jvm.ClassFile.FieldType)) ∈ lw_all := lw_g (lw_at lw_m5 128 rfl) rfl
theorem q1155 : (Jvm.Cond.classLink "RoyalCourt" (60 : Nat) "java/lang/IllegalStateException") ∈ lw_all := lw_g (lw_at lw_m5 129 rfl) rfl
theorem q1156 : (Jvm.Cond.methodLink "RoyalCourt" (62 : Nat) ({ cls := "java/lang/IllegalStateException", name := "<init>", desc := "()V" } : Jvm.MethodName)) ∈ lw_all := lw_g (lw_at lw_m5 130 rfl) rfl
theorem q1160 : (Jvm.Cond.methodLink "RoyalCourt" (96 : Nat) ({ cls := "RoyalCourt", name := "commit", desc := "(I)I" } : Jvm.MethodName)) ∈ lw_all := lw_g (lw_at lw_m5 134 rfl) rfl
theorem q1161 : (Jvm.Cond.privateMethod ({ cls := "RoyalCourt", name := "commit", desc := "(I)I" } : Jvm.MethodName)) ∈ lw_tbl := lw_at lw_m5 135 rfl
theorem q1162 : (Jvm.Cond.instanceMethod ({ cls := "RoyalCourt", name := "commit", desc := "(I)I" } : Jvm.MethodName)) ∈ lw_all := lw_g (lw_at lw_m5 136 rfl) rfl
theorem q1163 : (Jvm.Cond.code ({ cls := "RoyalCourt", name := "commit", desc := "(I)I" } : Jvm.MethodName) prog_1_method_14_code (3 : Nat) (Option.some Jvm.ClassFile.FieldType.int)) ∈ lw_all := lw_g (lw_at lw_m5 137 rfl) rfl
theorem q1164 : (Jvm.Cond.methodLink "RoyalCourt" (80 : Nat) ({ cls := "java/util/ArrayDeque", name := "isEmpty", desc := "()Z" } : Jvm.MethodName)) ∈ lw_all := lw_g (lw_at lw_m5 138 rfl) rfl
theorem q1168 : (Jvm.Cond.methodLink "RoyalCourt" (84 : Nat) ({ cls := "java/util/ArrayDeque", name := "pollFirst", desc := "()Ljava/lang/Object;" } : Jvm.MethodName)) ∈ lw_all := lw_g (lw_at lw_m5 142 rfl) rfl
theorem q1182 : (Jvm.Cond.instanceMethod ({ cls := "RoyalCourt", name := "addRule", desc := "(II)I" } : Jvm.MethodName)) ∈ lw_all := lw_g (lw_at lw_m5 156 rfl) rfl
theorem q1183 : (Jvm.Cond.selects "RoyalCourt" ({ cls := "RoyalCourt", name := "addRule", desc := "(II)I" } : Jvm.MethodName) ({ cls := "RoyalCourt", name := "addRule", desc := "(II)I" } : Jvm.MethodName)) ∈ lw_all := lw_g (lw_at lw_m5 157 rfl) rfl
theorem q1184 : (Jvm.Cond.code ({ cls := "RoyalCourt", name := "addRule", desc := "(II)I" } : Jvm.MethodName) prog_1_method_16_code (3 : Nat) (Option.some Jvm.ClassFile.FieldType.int)) ∈ lw_all := lw_g (lw_at lw_m5 158 rfl) rfl
theorem q1185 : (Jvm.Cond.methodLink "RoyalCourt" (99 : Nat) ({ cls := "RoyalCourt$State", name := "addRule", desc := "(II)I" } : Jvm.MethodName)) ∈ lw_all := lw_g (lw_at lw_m5 159 rfl) rfl
theorem q1198 : (Jvm.Cond.static ({ cls := "RoyalCourt", name := "checkIndex", desc := "(Z)V" } : Jvm.MethodName)) ∈ lw_all := lw_g (lw_at lw_m5 172 rfl) rfl
theorem q1199 : (Jvm.Cond.code ({ cls := "RoyalCourt", name := "checkIndex", desc := "(Z)V" } : Jvm.MethodName) prog_1_method_9_code (1 : Nat) (Option.none : Option Jvm.ClassFile.FieldType)) ∈ lw_all := lw_g (lw_at lw_m5 173 rfl) rfl
theorem q1200 : (Jvm.Cond.classLink "RoyalCourt" (63 : Nat) "java/lang/IndexOutOfBoundsException") ∈ lw_all := lw_g (lw_at lw_m5 174 rfl) rfl
theorem q1209 : (Jvm.Cond.methodLink "RoyalCourt" (65 : Nat) ({ cls := "java/lang/IndexOutOfBoundsException", name := "<init>", desc := "()V" } : Jvm.MethodName)) ∈ lw_all := lw_g (lw_at lw_m5 183 rfl) rfl
theorem q1220 : (Jvm.Cond.instanceMethod ({ cls := "RoyalCourt", name := "removeRule", desc := "(II)I" } : Jvm.MethodName)) ∈ lw_all := lw_g (lw_at lw_m5 194 rfl) rfl
theorem q1221 : (Jvm.Cond.selects "RoyalCourt" ({ cls := "RoyalCourt", name := "removeRule", desc := "(II)I" } : Jvm.MethodName) ({ cls := "RoyalCourt", name := "removeRule", desc := "(II)I" } : Jvm.MethodName)) ∈ lw_all := lw_g (lw_at lw_m5 195 rfl) rfl
theorem q1222 : (Jvm.Cond.code ({ cls := "RoyalCourt", name := "removeRule", desc := "(II)I" } : Jvm.MethodName) prog_1_method_17_code (3 : Nat) (Option.some Jvm.ClassFile.FieldType.int)) ∈ lw_all := lw_g (lw_at lw_m5 196 rfl) rfl
theorem q1223 : (Jvm.Cond.methodLink "RoyalCourt" (103 : Nat) ({ cls := "RoyalCourt$State", name := "removeRule", desc := "(II)I" } : Jvm.MethodName)) ∈ lw_all := lw_g (lw_at lw_m5 197 rfl) rfl
theorem q1228 : (Jvm.Cond.static ({ cls := "RoyalCourt", name := "checkElement", desc := "(Z)V" } : Jvm.MethodName)) ∈ lw_all := lw_g (lw_at lw_m5 202 rfl) rfl
theorem q1229 : (Jvm.Cond.code ({ cls := "RoyalCourt", name := "checkElement", desc := "(Z)V" } : Jvm.MethodName) prog_1_method_7_code (1 : Nat) (Option.none : Option Jvm.ClassFile.FieldType)) ∈ lw_all := lw_g (lw_at lw_m5 203 rfl) rfl
theorem q1230 : (Jvm.Cond.classLink "RoyalCourt" (57 : Nat) "java/util/NoSuchElementException") ∈ lw_all := lw_g (lw_at lw_m5 204 rfl) rfl
theorem q1231 : (Jvm.Cond.methodLink "RoyalCourt" (59 : Nat) ({ cls := "java/util/NoSuchElementException", name := "<init>", desc := "()V" } : Jvm.MethodName)) ∈ lw_all := lw_g (lw_at lw_m5 205 rfl) rfl
theorem q1236 : (Jvm.Cond.instanceMethod ({ cls := "RoyalCourt", name := "dignityOf", desc := "(I)I" } : Jvm.MethodName)) ∈ lw_all := lw_g (lw_at lw_m5 210 rfl) rfl
theorem q1237 : (Jvm.Cond.selects "RoyalCourt" ({ cls := "RoyalCourt", name := "dignityOf", desc := "(I)I" } : Jvm.MethodName) ({ cls := "RoyalCourt", name := "dignityOf", desc := "(I)I" } : Jvm.MethodName)) ∈ lw_all := lw_g (lw_at lw_m5 211 rfl) rfl
theorem q1238 : (Jvm.Cond.code ({ cls := "RoyalCourt", name := "dignityOf", desc := "(I)I" } : Jvm.MethodName) prog_1_method_19_code (2 : Nat) (Option.some Jvm.ClassFile.FieldType.int)) ∈ lw_all := lw_g (lw_at lw_m5 212 rfl) rfl
theorem q1239 : (Jvm.Cond.methodLink "RoyalCourt" (109 : Nat) ({ cls := "RoyalCourt$State", name := "checkCourtier", desc := "(I)V" } : Jvm.MethodName)) ∈ lw_all := lw_g (lw_at lw_m5 213 rfl) rfl
theorem q1244 : (Jvm.Cond.instanceMethod ({ cls := "RoyalCourt", name := "favorOf", desc := "(I)I" } : Jvm.MethodName)) ∈ lw_all := lw_g (lw_at lw_m5 218 rfl) rfl
theorem q1245 : (Jvm.Cond.selects "RoyalCourt" ({ cls := "RoyalCourt", name := "favorOf", desc := "(I)I" } : Jvm.MethodName) ({ cls := "RoyalCourt", name := "favorOf", desc := "(I)I" } : Jvm.MethodName)) ∈ lw_all := lw_g (lw_at lw_m5 219 rfl) rfl
theorem q1246 : (Jvm.Cond.code ({ cls := "RoyalCourt", name := "favorOf", desc := "(I)I" } : Jvm.MethodName) prog_1_method_20_code (2 : Nat) (Option.some Jvm.ClassFile.FieldType.int)) ∈ lw_all := lw_g (lw_at lw_m5 220 rfl) rfl
theorem q1251 : (Jvm.Cond.instanceMethod ({ cls := "RoyalCourt", name := "precedes", desc := "(II)Z" } : Jvm.MethodName)) ∈ lw_all := lw_g (lw_at lw_m5 225 rfl) rfl
theorem q1252 : (Jvm.Cond.selects "RoyalCourt" ({ cls := "RoyalCourt", name := "precedes", desc := "(II)Z" } : Jvm.MethodName) ({ cls := "RoyalCourt", name := "precedes", desc := "(II)Z" } : Jvm.MethodName)) ∈ lw_all := lw_g (lw_at lw_m5 226 rfl) rfl
theorem q1253 : (Jvm.Cond.code ({ cls := "RoyalCourt", name := "precedes", desc := "(II)Z" } : Jvm.MethodName) prog_1_method_22_code (3 : Nat) (Option.some Jvm.ClassFile.FieldType.boolean)) ∈ lw_all := lw_g (lw_at lw_m5 227 rfl) rfl
theorem q1254 : (Jvm.Cond.methodLink "RoyalCourt" (123 : Nat) ({ cls := "RoyalCourt$State", name := "checkCourtiers", desc := "(II)V" } : Jvm.MethodName)) ∈ lw_all := lw_g (lw_at lw_m5 228 rfl) rfl
theorem q1255 : (Jvm.Cond.methodLink "RoyalCourt" (127 : Nat) ({ cls := "RoyalCourt$State", name := "precedes", desc := "(II)Z" } : Jvm.MethodName)) ∈ lw_all := lw_g (lw_at lw_m5 229 rfl) rfl
theorem q1260 : (Jvm.Cond.instanceMethod ({ cls := "RoyalCourt", name := "courtierByDignity", desc := "(I)I" } : Jvm.MethodName)) ∈ lw_all := lw_g (lw_at lw_m5 234 rfl) rfl
theorem q1261 : (Jvm.Cond.selects "RoyalCourt" ({ cls := "RoyalCourt", name := "courtierByDignity", desc := "(I)I" } : Jvm.MethodName) ({ cls := "RoyalCourt", name := "courtierByDignity", desc := "(I)I" } : Jvm.MethodName)) ∈ lw_all := lw_g (lw_at lw_m5 235 rfl) rfl
theorem q1262 : (Jvm.Cond.code ({ cls := "RoyalCourt", name := "courtierByDignity", desc := "(I)I" } : Jvm.MethodName) prog_1_method_23_code (2 : Nat) (Option.some Jvm.ClassFile.FieldType.int)) ∈ lw_all := lw_g (lw_at lw_m5 236 rfl) rfl
theorem q1263 : (Jvm.Cond.methodLink "RoyalCourt" (131 : Nat) ({ cls := "RoyalCourt$State", name := "courtierByDignity", desc := "(I)I" } : Jvm.MethodName)) ∈ lw_all := lw_g (lw_at lw_m5 237 rfl) rfl
theorem q1267 : (Jvm.Cond.methodLink "RoyalCourt" (134 : Nat) ({ cls := "RoyalCourt", name := "found", desc := "(I)I" } : Jvm.MethodName)) ∈ lw_all := lw_g (lw_at lw_m6 1 rfl) rfl
theorem q1268 : (Jvm.Cond.static ({ cls := "RoyalCourt", name := "found", desc := "(I)I" } : Jvm.MethodName)) ∈ lw_all := lw_g (lw_at lw_m6 2 rfl) rfl
theorem q1269 : (Jvm.Cond.code ({ cls := "RoyalCourt", name := "found", desc := "(I)I" } : Jvm.MethodName) prog_1_method_11_code (1 : Nat) (Option.some Jvm.ClassFile.FieldType.int)) ∈ lw_all := lw_g (lw_at lw_m6 3 rfl) rfl
theorem q1270 : (Jvm.Cond.methodLink "RoyalCourt" (69 : Nat) ({ cls := "RoyalCourt", name := "checkElement", desc := "(Z)V" } : Jvm.MethodName)) ∈ lw_all := lw_g (lw_at lw_m6 4 rfl) rfl
theorem q1275 : (Jvm.Cond.instanceMethod ({ cls := "RoyalCourt", name := "firstProcessionAt", desc := "(I)I" } : Jvm.MethodName)) ∈ lw_all := lw_g (lw_at lw_m6 9 rfl) rfl
theorem q1276 : (Jvm.Cond.selects "RoyalCourt" ({ cls := "RoyalCourt", name := "firstProcessionAt", desc := "(I)I" } : Jvm.MethodName) ({ cls := "RoyalCourt", name := "firstProcessionAt", desc := "(I)I" } : Jvm.MethodName)) ∈ lw_all := lw_g (lw_at lw_m6 10 rfl) rfl
theorem q1277 : (Jvm.Cond.code ({ cls := "RoyalCourt", name := "firstProcessionAt", desc := "(I)I" } : Jvm.MethodName) prog_1_method_27_code (2 : Nat) (Option.some Jvm.ClassFile.FieldType.int)) ∈ lw_all := lw_g (lw_at lw_m6 11 rfl) rfl
theorem q1278 : (Jvm.Cond.methodLink "RoyalCourt" (144 : Nat) ({ cls := "RoyalCourt", name := "checkPlace", desc := "(I)V" } : Jvm.MethodName)) ∈ lw_all := lw_g (lw_at lw_m6 12 rfl) rfl
theorem q1279 : (Jvm.Cond.privateMethod ({ cls := "RoyalCourt", name := "checkPlace", desc := "(I)V" } : Jvm.MethodName)) ∈ lw_tbl := lw_at lw_m6 13 rfl
theorem q1280 : (Jvm.Cond.instanceMethod ({ cls := "RoyalCourt", name := "checkPlace", desc := "(I)V" } : Jvm.MethodName)) ∈ lw_all := lw_g (lw_at lw_m6 14 rfl) rfl
theorem q1281 : (Jvm.Cond.code ({ cls := "RoyalCourt", name := "checkPlace", desc := "(I)V" } : Jvm.MethodName) prog_1_method_26_code (2 : Nat) (Option.none : Option Jvm.ClassFile.FieldType)) ∈ lw_all := lw_g (lw_at lw_m6 15 rfl) rfl
theorem q1282 : (Jvm.Cond.methodLink "RoyalCourt" (147 : Nat) ({ cls := "RoyalCourt$State", name := "firstProcession", desc := "()[I" } : Jvm.MethodName)) ∈ lw_all := lw_g (lw_at lw_m6 16 rfl) rfl
theorem q1292 : (Jvm.Cond.instanceMethod ({ cls := "RoyalCourt", name := "grandProcessionAt", desc := "(I)I" } : Jvm.MethodName)) ∈ lw_all := lw_g (lw_at lw_m6 26 rfl) rfl
theorem q1293 : (Jvm.Cond.selects "RoyalCourt" ({ cls := "RoyalCourt", name := "grandProcessionAt", desc := "(I)I" } : Jvm.MethodName) ({ cls := "RoyalCourt", name := "grandProcessionAt", desc := "(I)I" } : Jvm.MethodName)) ∈ lw_all := lw_g (lw_at lw_m6 27 rfl) rfl
theorem q1294 : (Jvm.Cond.code ({ cls := "RoyalCourt", name := "grandProcessionAt", desc := "(I)I" } : Jvm.MethodName) prog_1_method_28_code (2 : Nat) (Option.some Jvm.ClassFile.FieldType.int)) ∈ lw_all := lw_g (lw_at lw_m6 28 rfl) rfl
theorem q1295 : (Jvm.Cond.methodLink "RoyalCourt" (151 : Nat) ({ cls := "RoyalCourt$State", name := "grandProcession", desc := "()[I" } : Jvm.MethodName)) ∈ lw_all := lw_g (lw_at lw_m6 29 rfl) rfl
theorem q1300 : (Jvm.Cond.instanceMethod ({ cls := "RoyalCourt", name := "lowestPlaceOf", desc := "(I)I" } : Jvm.MethodName)) ∈ lw_all := lw_g (lw_at lw_m6 34 rfl) rfl
theorem q1301 : (Jvm.Cond.selects "RoyalCourt" ({ cls := "RoyalCourt", name := "lowestPlaceOf", desc := "(I)I" } : Jvm.MethodName) ({ cls := "RoyalCourt", name := "lowestPlaceOf", desc := "(I)I" } : Jvm.MethodName)) ∈ lw_all := lw_g (lw_at lw_m6 35 rfl) rfl
theorem q1302 : (Jvm.Cond.code ({ cls := "RoyalCourt", name := "lowestPlaceOf", desc := "(I)I" } : Jvm.MethodName) prog_1_method_29_code (2 : Nat) (Option.some Jvm.ClassFile.FieldType.int)) ∈ lw_all := lw_g (lw_at lw_m6 36 rfl) rfl
theorem q1303 : (Jvm.Cond.methodLink "RoyalCourt" (154 : Nat) ({ cls := "RoyalCourt$State", name := "lowestPlaceOf", desc := "(I)I" } : Jvm.MethodName)) ∈ lw_all := lw_g (lw_at lw_m6 37 rfl) rfl
theorem q1311 : (Jvm.Cond.instanceMethod ({ cls := "RoyalCourt", name := "type", desc := "(C)I" } : Jvm.MethodName)) ∈ lw_all := lw_g (lw_at lw_m6 45 rfl) rfl
theorem q1312 : (Jvm.Cond.selects "RoyalCourt" ({ cls := "RoyalCourt", name := "type", desc := "(C)I" } : Jvm.MethodName) ({ cls := "RoyalCourt", name := "type", desc := "(C)I" } : Jvm.MethodName)) ∈ lw_all := lw_g (lw_at lw_m6 46 rfl) rfl
theorem q1313 : (Jvm.Cond.code ({ cls := "RoyalCourt", name := "type", desc := "(C)I" } : Jvm.MethodName) prog_1_method_30_code (2 : Nat) (Option.some Jvm.ClassFile.FieldType.int)) ∈ lw_all := lw_g (lw_at lw_m6 47 rfl) rfl
theorem q1314 : (Jvm.Cond.methodLink "RoyalCourt" (157 : Nat) ({ cls := "RoyalCourt", name := "checkArgument", desc := "(Z)V" } : Jvm.MethodName)) ∈ lw_all := lw_g (lw_at lw_m6 48 rfl) rfl
theorem q1315 : (Jvm.Cond.methodLink "RoyalCourt" (164 : Nat) ({ cls := "RoyalCourt", name := "checkState", desc := "(Z)V" } : Jvm.MethodName)) ∈ lw_all := lw_g (lw_at lw_m6 49 rfl) rfl
theorem q1316 : (Jvm.Cond.methodLink "RoyalCourt" (167 : Nat) ({ cls := "java/lang/StringBuilder", name := "append", desc := "(C)Ljava/lang/StringBuilder;" } : Jvm.MethodName)) ∈ lw_all := lw_g (lw_at lw_m6 50 rfl) rfl
theorem q1321 : (Jvm.Cond.instanceMethod ({ cls := "RoyalCourt", name := "removals", desc := "()I" } : Jvm.MethodName)) ∈ lw_all := lw_g (lw_at lw_m6 55 rfl) rfl
theorem q1322 : (Jvm.Cond.selects "RoyalCourt" ({ cls := "RoyalCourt", name := "removals", desc := "()I" } : Jvm.MethodName) ({ cls := "RoyalCourt", name := "removals", desc := "()I" } : Jvm.MethodName)) ∈ lw_all := lw_g (lw_at lw_m6 56 rfl) rfl
theorem q1323 : (Jvm.Cond.code ({ cls := "RoyalCourt", name := "removals", desc := "()I" } : Jvm.MethodName) prog_1_method_36_code (1 : Nat) (Option.some Jvm.ClassFile.FieldType.int)) ∈ lw_all := lw_g (lw_at lw_m6 57 rfl) rfl
theorem q1324 : (Jvm.Cond.classLink "RoyalCourt" (197 : Nat) "RoyalCourt$Scan") ∈ lw_all := lw_g (lw_at lw_m6 58 rfl) rfl
theorem q1326 : (Jvm.Cond.methodLink "RoyalCourt" (199 : Nat) ({ cls := "RoyalCourt$Scan", name := "<init>", desc := "(Ljava/lang/StringBuilder;)V" } : Jvm.MethodName)) ∈ lw_all := lw_g (lw_at lw_m6 60 rfl) rfl
theorem q1354 : (Jvm.Cond.methodLink "RoyalCourt" (200 : Nat) ({ cls := "RoyalCourt$Scan", name := "removals", desc := "()I" } : Jvm.MethodName)) ∈ lw_all := lw_g (lw_at lw_m6 88 rfl) rfl
theorem q1362 : (Jvm.Cond.instanceMethod ({ cls := "RoyalCourt", name := "removalsByParts", desc := "()I" } : Jvm.MethodName)) ∈ lw_all := lw_g (lw_at lw_m6 96 rfl) rfl
theorem q1363 : (Jvm.Cond.selects "RoyalCourt" ({ cls := "RoyalCourt", name := "removalsByParts", desc := "()I" } : Jvm.MethodName) ({ cls := "RoyalCourt", name := "removalsByParts", desc := "()I" } : Jvm.MethodName)) ∈ lw_all := lw_g (lw_at lw_m6 97 rfl) rfl
theorem q1364 : (Jvm.Cond.code ({ cls := "RoyalCourt", name := "removalsByParts", desc := "()I" } : Jvm.MethodName) prog_1_method_37_code (1 : Nat) (Option.some Jvm.ClassFile.FieldType.int)) ∈ lw_all := lw_g (lw_at lw_m6 98 rfl) rfl
theorem q1365 : (Jvm.Cond.classLink "RoyalCourt" (203 : Nat) "RoyalCourt$Parts") ∈ lw_all := lw_g (lw_at lw_m6 99 rfl) rfl
theorem q1367 : (Jvm.Cond.methodLink "RoyalCourt" (205 : Nat) ({ cls := "RoyalCourt$Parts", name := "<init>", desc := "(Ljava/lang/StringBuilder;)V" } : Jvm.MethodName)) ∈ lw_all := lw_g (lw_at lw_m6 101 rfl) rfl
theorem q1396 : (Jvm.Cond.methodLink "RoyalCourt" (206 : Nat) ({ cls := "RoyalCourt$Parts", name := "removals", desc := "()I" } : Jvm.MethodName)) ∈ lw_all := lw_g (lw_at lw_m6 130 rfl) rfl
theorem q1404 : (Jvm.Cond.instanceMethod ({ cls := "RoyalCourt", name := "textError", desc := "()I" } : Jvm.MethodName)) ∈ lw_all := lw_g (lw_at lw_m6 138 rfl) rfl
theorem q1405 : (Jvm.Cond.selects "RoyalCourt" ({ cls := "RoyalCourt", name := "textError", desc := "()I" } : Jvm.MethodName) ({ cls := "RoyalCourt", name := "textError", desc := "()I" } : Jvm.MethodName)) ∈ lw_all := lw_g (lw_at lw_m6 139 rfl) rfl
theorem q1406 : (Jvm.Cond.code ({ cls := "RoyalCourt", name := "textError", desc := "()I" } : Jvm.MethodName) prog_1_method_38_code (1 : Nat) (Option.some Jvm.ClassFile.FieldType.int)) ∈ lw_all := lw_g (lw_at lw_m6 140 rfl) rfl
theorem q1411 : (Jvm.Cond.instanceMethod ({ cls := "RoyalCourt", name := "submit", desc := "(I)I" } : Jvm.MethodName)) ∈ lw_all := lw_g (lw_at lw_m6 145 rfl) rfl
theorem q1412 : (Jvm.Cond.selects "RoyalCourt" ({ cls := "RoyalCourt", name := "submit", desc := "(I)I" } : Jvm.MethodName) ({ cls := "RoyalCourt", name := "submit", desc := "(I)I" } : Jvm.MethodName)) ∈ lw_all := lw_g (lw_at lw_m6 146 rfl) rfl
theorem q1413 : (Jvm.Cond.codeWith ({ cls := "RoyalCourt", name := "submit", desc := "(I)I" } : Jvm.MethodName) prog_1_method_39_code (4 : Nat) (Option.some Jvm.ClassFile.FieldType.int) [((8 : Nat), (25 : Nat), (35 : Nat), (182 : Nat)), ((8 : Nat), (25 : Nat), (52 : Nat), (0 : Nat)), ((35 : Nat), (53 : Nat), (52 : Nat), (0 : Nat))]) ∈ lw_all := lw_g (lw_at lw_m6 147 rfl) rfl
theorem q1414 : (Jvm.Cond.methodLink "RoyalCourt" (207 : Nat) ({ cls := "RoyalCourt$State", name := "submit", desc := "(ILjava/lang/StringBuilder;)I" } : Jvm.MethodName)) ∈ lw_all := lw_g (lw_at lw_m6 148 rfl) rfl
theorem q1436 : (Jvm.Cond.fieldLinkNest "RoyalCourt" (230 : Nat) "RoyalCourt$Request" "courtier" "I" "RoyalCourt") ∈ lw_tbl := lw_at lw_m6 170 rfl
theorem q1439 : (Jvm.Cond.fieldLinkNest "RoyalCourt" (238 : Nat) "RoyalCourt$Request" "symbols" "[C" "RoyalCourt") ∈ lw_tbl := lw_at lw_m6 173 rfl
theorem q1442 : (Jvm.Cond.fieldLinkNest "RoyalCourt" (235 : Nat) "RoyalCourt$Request" "value" "I" "RoyalCourt") ∈ lw_tbl := lw_at lw_m6 176 rfl
theorem q1444 : (Jvm.Cond.fieldLinkNest "RoyalCourt" (245 : Nat) "RoyalCourt$Request" "depth" "I" "RoyalCourt") ∈ lw_tbl := lw_at lw_m6 178 rfl
theorem q1465 : (Jvm.Cond.instanceMethod ({ cls := "RoyalCourt", name := "grant", desc := "(I)I" } : Jvm.MethodName)) ∈ lw_all := lw_g (lw_at lw_m6 199 rfl) rfl
theorem q1466 : (Jvm.Cond.selects "RoyalCourt" ({ cls := "RoyalCourt", name := "grant", desc := "(I)I" } : Jvm.MethodName) ({ cls := "RoyalCourt", name := "grant", desc := "(I)I" } : Jvm.MethodName)) ∈ lw_all := lw_g (lw_at lw_m6 200 rfl) rfl
theorem q1467 : (Jvm.Cond.code ({ cls := "RoyalCourt", name := "grant", desc := "(I)I" } : Jvm.MethodName) prog_1_method_40_code (2 : Nat) (Option.some Jvm.ClassFile.FieldType.int)) ∈ lw_all := lw_g (lw_at lw_m6 201 rfl) rfl
theorem q1468 : (Jvm.Cond.methodLink "RoyalCourt" (211 : Nat) ({ cls := "RoyalCourt$State", name := "grant", desc := "(I)I" } : Jvm.MethodName)) ∈ lw_all := lw_g (lw_at lw_m6 202 rfl) rfl
theorem q1477 : (Jvm.Cond.static ({ cls := "RoyalCourt", name := "checkSupported", desc := "(Z)V" } : Jvm.MethodName)) ∈ lw_all := lw_g (lw_at lw_m6 211 rfl) rfl
theorem q1478 : (Jvm.Cond.code ({ cls := "RoyalCourt", name := "checkSupported", desc := "(Z)V" } : Jvm.MethodName) prog_1_method_10_code (1 : Nat) (Option.none : Option Jvm.ClassFile.FieldType)) ∈ lw_all := lw_g (lw_at lw_m6 212 rfl) rfl
theorem q1479 : (Jvm.Cond.classLink "RoyalCourt" (66 : Nat) "java/lang/UnsupportedOperationException") ∈ lw_all := lw_g (lw_at lw_m6 213 rfl) rfl
theorem q1488 : (Jvm.Cond.methodLink "RoyalCourt" (68 : Nat) ({ cls := "java/lang/UnsupportedOperationException", name := "<init>", desc := "()V" } : Jvm.MethodName)) ∈ lw_all := lw_g (lw_at lw_m6 222 rfl) rfl
theorem q1507 : (Jvm.Cond.instanceMethod ({ cls := "RoyalCourt", name := "withdraw", desc := "(I)I" } : Jvm.MethodName)) ∈ lw_all := lw_g (lw_at lw_m7 1 rfl) rfl
theorem q1508 : (Jvm.Cond.selects "RoyalCourt" ({ cls := "RoyalCourt", name := "withdraw", desc := "(I)I" } : Jvm.MethodName) ({ cls := "RoyalCourt", name := "withdraw", desc := "(I)I" } : Jvm.MethodName)) ∈ lw_all := lw_g (lw_at lw_m7 2 rfl) rfl
theorem q1509 : (Jvm.Cond.code ({ cls := "RoyalCourt", name := "withdraw", desc := "(I)I" } : Jvm.MethodName) prog_1_method_41_code (2 : Nat) (Option.some Jvm.ClassFile.FieldType.int)) ∈ lw_all := lw_g (lw_at lw_m7 3 rfl) rfl
theorem q1510 : (Jvm.Cond.methodLink "RoyalCourt" (214 : Nat) ({ cls := "RoyalCourt$State", name := "withdraw", desc := "(I)I" } : Jvm.MethodName)) ∈ lw_all := lw_g (lw_at lw_m7 4 rfl) rfl
theorem q1518 : (Jvm.Cond.instanceMethod ({ cls := "RoyalCourt", name := "errorPosition", desc := "()I" } : Jvm.MethodName)) ∈ lw_all := lw_g (lw_at lw_m7 12 rfl) rfl
theorem q1519 : (Jvm.Cond.selects "RoyalCourt" ({ cls := "RoyalCourt", name := "errorPosition", desc := "()I" } : Jvm.MethodName) ({ cls := "RoyalCourt", name := "errorPosition", desc := "()I" } : Jvm.MethodName)) ∈ lw_all := lw_g (lw_at lw_m7 13 rfl) rfl
theorem q1520 : (Jvm.Cond.code ({ cls := "RoyalCourt", name := "errorPosition", desc := "()I" } : Jvm.MethodName) prog_1_method_42_code (1 : Nat) (Option.some Jvm.ClassFile.FieldType.int)) ∈ lw_all := lw_g (lw_at lw_m7 14 rfl) rfl
theorem q1525 : (Jvm.Cond.instanceMethod ({ cls := "RoyalCourt", name := "courtierOf", desc := "(I)I" } : Jvm.MethodName)) ∈ lw_all := lw_g (lw_at lw_m7 19 rfl) rfl
theorem q1526 : (Jvm.Cond.selects "RoyalCourt" ({ cls := "RoyalCourt", name := "courtierOf", desc := "(I)I" } : Jvm.MethodName) ({ cls := "RoyalCourt", name := "courtierOf", desc := "(I)I" } : Jvm.MethodName)) ∈ lw_all := lw_g (lw_at lw_m7 20 rfl) rfl
theorem q1527 : (Jvm.Cond.code ({ cls := "RoyalCourt", name := "courtierOf", desc := "(I)I" } : Jvm.MethodName) prog_1_method_44_code (2 : Nat) (Option.some Jvm.ClassFile.FieldType.int)) ∈ lw_all := lw_g (lw_at lw_m7 21 rfl) rfl
theorem q1528 : (Jvm.Cond.methodLink "RoyalCourt" (226 : Nat) ({ cls := "RoyalCourt$State", name := "checkedRequest", desc := "(I)LRoyalCourt$Request;" } : Jvm.MethodName)) ∈ lw_all := lw_g (lw_at lw_m7 22 rfl) rfl
theorem q1533 : (Jvm.Cond.instanceMethod ({ cls := "RoyalCourt", name := "valueOf", desc := "(I)I" } : Jvm.MethodName)) ∈ lw_all := lw_g (lw_at lw_m7 27 rfl) rfl
theorem q1534 : (Jvm.Cond.selects "RoyalCourt" ({ cls := "RoyalCourt", name := "valueOf", desc := "(I)I" } : Jvm.MethodName) ({ cls := "RoyalCourt", name := "valueOf", desc := "(I)I" } : Jvm.MethodName)) ∈ lw_all := lw_g (lw_at lw_m7 28 rfl) rfl
theorem q1535 : (Jvm.Cond.code ({ cls := "RoyalCourt", name := "valueOf", desc := "(I)I" } : Jvm.MethodName) prog_1_method_45_code (2 : Nat) (Option.some Jvm.ClassFile.FieldType.int)) ∈ lw_all := lw_g (lw_at lw_m7 29 rfl) rfl
theorem q1540 : (Jvm.Cond.instanceMethod ({ cls := "RoyalCourt", name := "lengthOf", desc := "(I)I" } : Jvm.MethodName)) ∈ lw_all := lw_g (lw_at lw_m7 34 rfl) rfl
theorem q1541 : (Jvm.Cond.selects "RoyalCourt" ({ cls := "RoyalCourt", name := "lengthOf", desc := "(I)I" } : Jvm.MethodName) ({ cls := "RoyalCourt", name := "lengthOf", desc := "(I)I" } : Jvm.MethodName)) ∈ lw_all := lw_g (lw_at lw_m7 35 rfl) rfl
theorem q1542 : (Jvm.Cond.code ({ cls := "RoyalCourt", name := "lengthOf", desc := "(I)I" } : Jvm.MethodName) prog_1_method_46_code (2 : Nat) (Option.some Jvm.ClassFile.FieldType.int)) ∈ lw_all := lw_g (lw_at lw_m7 36 rfl) rfl
theorem q1547 : (Jvm.Cond.instanceMethod ({ cls := "RoyalCourt", name := "symbolOf", desc := "(II)C" } : Jvm.MethodName)) ∈ lw_all := lw_g (lw_at lw_m7 41 rfl) rfl
theorem q1548 : (Jvm.Cond.selects "RoyalCourt" ({ cls := "RoyalCourt", name := "symbolOf", desc := "(II)C" } : Jvm.MethodName) ({ cls := "RoyalCourt", name := "symbolOf", desc := "(II)C" } : Jvm.MethodName)) ∈ lw_all := lw_g (lw_at lw_m7 42 rfl) rfl
theorem q1549 : (Jvm.Cond.code ({ cls := "RoyalCourt", name := "symbolOf", desc := "(II)C" } : Jvm.MethodName) prog_1_method_47_code (4 : Nat) (Option.some Jvm.ClassFile.FieldType.char)) ∈ lw_all := lw_g (lw_at lw_m7 43 rfl) rfl
theorem q1550 : (Jvm.Cond.methodLink "RoyalCourt" (242 : Nat) ({ cls := "RoyalCourt", name := "checkIndex", desc := "(Z)V" } : Jvm.MethodName)) ∈ lw_all := lw_g (lw_at lw_m7 44 rfl) rfl
theorem q1555 : (Jvm.Cond.instanceMethod ({ cls := "RoyalCourt", name := "depthOf", desc := "(I)I" } : Jvm.MethodName)) ∈ lw_all := lw_g (lw_at lw_m7 49 rfl) rfl
theorem q1556 : (Jvm.Cond.selects "RoyalCourt" ({ cls := "RoyalCourt", name := "depthOf", desc := "(I)I" } : Jvm.MethodName) ({ cls := "RoyalCourt", name := "depthOf", desc := "(I)I" } : Jvm.MethodName)) ∈ lw_all := lw_g (lw_at lw_m7 50 rfl) rfl
theorem q1557 : (Jvm.Cond.code ({ cls := "RoyalCourt", name := "depthOf", desc := "(I)I" } : Jvm.MethodName) prog_1_method_48_code (2 : Nat) (Option.some Jvm.ClassFile.FieldType.int)) ∈ lw_all := lw_g (lw_at lw_m7 51 rfl) rfl
theorem q1562 : (Jvm.Cond.instanceMethod ({ cls := "RoyalCourt", name := "countOf", desc := "(IC)I" } : Jvm.MethodName)) ∈ lw_all := lw_g (lw_at lw_m7 56 rfl) rfl
theorem q1563 : (Jvm.Cond.selects "RoyalCourt" ({ cls := "RoyalCourt", name := "countOf", desc := "(IC)I" } : Jvm.MethodName) ({ cls := "RoyalCourt", name := "countOf", desc := "(IC)I" } : Jvm.MethodName)) ∈ lw_all := lw_g (lw_at lw_m7 57 rfl) rfl
theorem q1564 : (Jvm.Cond.code ({ cls := "RoyalCourt", name := "countOf", desc := "(IC)I" } : Jvm.MethodName) prog_1_method_49_code (3 : Nat) (Option.some Jvm.ClassFile.FieldType.int)) ∈ lw_all := lw_g (lw_at lw_m7 58 rfl) rfl
theorem q1565 : (Jvm.Cond.methodLink "RoyalCourt" (248 : Nat) ({ cls := "RoyalCourt$Request", name := "count", desc := "(C)I" } : Jvm.MethodName)) ∈ lw_all := lw_g (lw_at lw_m7 59 rfl) rfl
theorem q1570 : (Jvm.Cond.instanceMethod ({ cls := "RoyalCourt", name := "areAlike", desc := "(II)Z" } : Jvm.MethodName)) ∈ lw_all := lw_g (lw_at lw_m7 64 rfl) rfl
theorem q1571 : (Jvm.Cond.selects "RoyalCourt" ({ cls := "RoyalCourt", name := "areAlike", desc := "(II)Z" } : Jvm.MethodName) ({ cls := "RoyalCourt", name := "areAlike", desc := "(II)Z" } : Jvm.MethodName)) ∈ lw_all := lw_g (lw_at lw_m7 65 rfl) rfl
theorem q1572 : (Jvm.Cond.code ({ cls := "RoyalCourt", name := "areAlike", desc := "(II)Z" } : Jvm.MethodName) prog_1_method_50_code (3 : Nat) (Option.some Jvm.ClassFile.FieldType.boolean)) ∈ lw_all := lw_g (lw_at lw_m7 66 rfl) rfl
theorem q1573 : (Jvm.Cond.methodLink "RoyalCourt" (252 : Nat) ({ cls := "RoyalCourt$Request", name := "isAlike", desc := "(LRoyalCourt$Request;)Z" } : Jvm.MethodName)) ∈ lw_all := lw_g (lw_at lw_m7 67 rfl) rfl
theorem q1581 : (Jvm.Cond.instanceMethod ({ cls := "RoyalCourt", name := "requestByValue", desc := "(I)I" } : Jvm.MethodName)) ∈ lw_all := lw_g (lw_at lw_m7 75 rfl) rfl
theorem q1582 : (Jvm.Cond.selects "RoyalCourt" ({ cls := "RoyalCourt", name := "requestByValue", desc := "(I)I" } : Jvm.MethodName) ({ cls := "RoyalCourt", name := "requestByValue", desc := "(I)I" } : Jvm.MethodName)) ∈ lw_all := lw_g (lw_at lw_m7 76 rfl) rfl
theorem q1583 : (Jvm.Cond.code ({ cls := "RoyalCourt", name := "requestByValue", desc := "(I)I" } : Jvm.MethodName) prog_1_method_51_code (2 : Nat) (Option.some Jvm.ClassFile.FieldType.int)) ∈ lw_all := lw_g (lw_at lw_m7 77 rfl) rfl
theorem q1584 : (Jvm.Cond.methodLink "RoyalCourt" (256 : Nat) ({ cls := "RoyalCourt$State", name := "requestByValue", desc := "(I)I" } : Jvm.MethodName)) ∈ lw_all := lw_g (lw_at lw_m7 78 rfl) rfl
theorem q1599 : (Jvm.Cond.instanceMethod ({ cls := "RoyalCourt", name := "setWidth", desc := "(I)I" } : Jvm.MethodName)) ∈ lw_all := lw_g (lw_at lw_m7 93 rfl) rfl
theorem q1600 : (Jvm.Cond.selects "RoyalCourt" ({ cls := "RoyalCourt", name := "setWidth", desc := "(I)I" } : Jvm.MethodName) ({ cls := "RoyalCourt", name := "setWidth", desc := "(I)I" } : Jvm.MethodName)) ∈ lw_all := lw_g (lw_at lw_m7 94 rfl) rfl
theorem q1601 : (Jvm.Cond.code ({ cls := "RoyalCourt", name := "setWidth", desc := "(I)I" } : Jvm.MethodName) prog_1_method_52_code (2 : Nat) (Option.some Jvm.ClassFile.FieldType.int)) ∈ lw_all := lw_g (lw_at lw_m7 95 rfl) rfl
theorem q1602 : (Jvm.Cond.methodLink "RoyalCourt" (259 : Nat) ({ cls := "RoyalCourt$State", name := "setWidth", desc := "(I)I" } : Jvm.MethodName)) ∈ lw_all := lw_g (lw_at lw_m7 96 rfl) rfl
theorem q1610 : (Jvm.Cond.instanceMethod ({ cls := "RoyalCourt", name := "raggedness", desc := "()I" } : Jvm.MethodName)) ∈ lw_all := lw_g (lw_at lw_m7 104 rfl) rfl
theorem q1611 : (Jvm.Cond.selects "RoyalCourt" ({ cls := "RoyalCourt", name := "raggedness", desc := "()I" } : Jvm.MethodName) ({ cls := "RoyalCourt", name := "raggedness", desc := "()I" } : Jvm.MethodName)) ∈ lw_all := lw_g (lw_at lw_m7 105 rfl) rfl
theorem q1612 : (Jvm.Cond.code ({ cls := "RoyalCourt", name := "raggedness", desc := "()I" } : Jvm.MethodName) prog_1_method_54_code (1 : Nat) (Option.some Jvm.ClassFile.FieldType.int)) ∈ lw_all := lw_g (lw_at lw_m7 106 rfl) rfl
theorem q1613 : (Jvm.Cond.methodLink "RoyalCourt" (265 : Nat) ({ cls := "RoyalCourt$State", name := "checkedPage", desc := "()LRoyalCourt$Page;" } : Jvm.MethodName)) ∈ lw_all := lw_g (lw_at lw_m7 107 rfl) rfl
theorem q1617 : (Jvm.Cond.methodLink "RoyalCourt" (269 : Nat) ({ cls := "RoyalCourt$Page", name := "raggedness", desc := "()I" } : Jvm.MethodName)) ∈ lw_all := lw_g (lw_at lw_m7 111 rfl) rfl
theorem q1622 : (Jvm.Cond.instanceMethod ({ cls := "RoyalCourt", name := "raggednessByTrying", desc := "()I" } : Jvm.MethodName)) ∈ lw_all := lw_g (lw_at lw_m7 116 rfl) rfl
theorem q1623 : (Jvm.Cond.selects "RoyalCourt" ({ cls := "RoyalCourt", name := "raggednessByTrying", desc := "()I" } : Jvm.MethodName) ({ cls := "RoyalCourt", name := "raggednessByTrying", desc := "()I" } : Jvm.MethodName)) ∈ lw_all := lw_g (lw_at lw_m7 117 rfl) rfl
theorem q1624 : (Jvm.Cond.code ({ cls := "RoyalCourt", name := "raggednessByTrying", desc := "()I" } : Jvm.MethodName) prog_1_method_55_code (1 : Nat) (Option.some Jvm.ClassFile.FieldType.int)) ∈ lw_all := lw_g (lw_at lw_m7 118 rfl) rfl
theorem q1625 : (Jvm.Cond.methodLink "RoyalCourt" (274 : Nat) ({ cls := "RoyalCourt$Page", name := "raggednessByTrying", desc := "()I" } : Jvm.MethodName)) ∈ lw_all := lw_g (lw_at lw_m7 119 rfl) rfl
theorem q1630 : (Jvm.Cond.instanceMethod ({ cls := "RoyalCourt", name := "lineCount", desc := "()I" } : Jvm.MethodName)) ∈ lw_all := lw_g (lw_at lw_m7 124 rfl) rfl
theorem q1631 : (Jvm.Cond.selects "RoyalCourt" ({ cls := "RoyalCourt", name := "lineCount", desc := "()I" } : Jvm.MethodName) ({ cls := "RoyalCourt", name := "lineCount", desc := "()I" } : Jvm.MethodName)) ∈ lw_all := lw_g (lw_at lw_m7 125 rfl) rfl
theorem q1632 : (Jvm.Cond.code ({ cls := "RoyalCourt", name := "lineCount", desc := "()I" } : Jvm.MethodName) prog_1_method_56_code (1 : Nat) (Option.some Jvm.ClassFile.FieldType.int)) ∈ lw_all := lw_g (lw_at lw_m7 126 rfl) rfl
theorem q1633 : (Jvm.Cond.methodLink "RoyalCourt" (277 : Nat) ({ cls := "RoyalCourt$State", name := "lineCount", desc := "()I" } : Jvm.MethodName)) ∈ lw_all := lw_g (lw_at lw_m7 127 rfl) rfl
theorem q1646 : (Jvm.Cond.instanceMethod ({ cls := "RoyalCourt", name := "lineOf", desc := "(I)I" } : Jvm.MethodName)) ∈ lw_all := lw_g (lw_at lw_m7 140 rfl) rfl
theorem q1647 : (Jvm.Cond.selects "RoyalCourt" ({ cls := "RoyalCourt", name := "lineOf", desc := "(I)I" } : Jvm.MethodName) ({ cls := "RoyalCourt", name := "lineOf", desc := "(I)I" } : Jvm.MethodName)) ∈ lw_all := lw_g (lw_at lw_m7 141 rfl) rfl
theorem q1648 : (Jvm.Cond.code ({ cls := "RoyalCourt", name := "lineOf", desc := "(I)I" } : Jvm.MethodName) prog_1_method_57_code (2 : Nat) (Option.some Jvm.ClassFile.FieldType.int)) ∈ lw_all := lw_g (lw_at lw_m7 142 rfl) rfl
theorem q1649 : (Jvm.Cond.methodLink "RoyalCourt" (280 : Nat) ({ cls := "RoyalCourt$Page", name := "lines", desc := "()[I" } : Jvm.MethodName)) ∈ lw_all := lw_g (lw_at lw_m7 143 rfl) rfl
theorem q1668 : (Jvm.Cond.instanceMethod ({ cls := "RoyalCourt", name := "meanValue", desc := "()D" } : Jvm.MethodName)) ∈ lw_all := lw_g (lw_at lw_m7 162 rfl) rfl
theorem q1669 : (Jvm.Cond.selects "RoyalCourt" ({ cls := "RoyalCourt", name := "meanValue", desc := "()D" } : Jvm.MethodName) ({ cls := "RoyalCourt", name := "meanValue", desc := "()D" } : Jvm.MethodName)) ∈ lw_all := lw_g (lw_at lw_m7 163 rfl) rfl
theorem q1670 : (Jvm.Cond.code ({ cls := "RoyalCourt", name := "meanValue", desc := "()D" } : Jvm.MethodName) prog_1_method_62_code (1 : Nat) (Option.some Jvm.ClassFile.FieldType.double)) ∈ lw_all := lw_g (lw_at lw_m7 164 rfl) rfl
theorem q1671 : (Jvm.Cond.methodLink "RoyalCourt" (296 : Nat) ({ cls := "RoyalCourt", name := "checkAny", desc := "(I)V" } : Jvm.MethodName)) ∈ lw_all := lw_g (lw_at lw_m7 165 rfl) rfl
theorem q1672 : (Jvm.Cond.static ({ cls := "RoyalCourt", name := "checkAny", desc := "(I)V" } : Jvm.MethodName)) ∈ lw_all := lw_g (lw_at lw_m7 166 rfl) rfl
theorem q1673 : (Jvm.Cond.code ({ cls := "RoyalCourt", name := "checkAny", desc := "(I)V" } : Jvm.MethodName) prog_1_method_12_code (1 : Nat) (Option.none : Option Jvm.ClassFile.FieldType)) ∈ lw_all := lw_g (lw_at lw_m7 167 rfl) rfl
theorem q1674 : (Jvm.Cond.classLink "RoyalCourt" (73 : Nat) "java/lang/ArithmeticException") ∈ lw_all := lw_g (lw_at lw_m7 168 rfl) rfl
theorem q1675 : (Jvm.Cond.methodLink "RoyalCourt" (75 : Nat) ({ cls := "java/lang/ArithmeticException", name := "<init>", desc := "()V" } : Jvm.MethodName)) ∈ lw_all := lw_g (lw_at lw_m7 169 rfl) rfl
theorem q1679 : (Jvm.Cond.methodLink "RoyalCourt" (299 : Nat) ({ cls := "RoyalCourt$State", name := "sumOfValues", desc := "()I" } : Jvm.MethodName)) ∈ lw_all := lw_g (lw_at lw_m7 173 rfl) rfl
theorem q1687 : (Jvm.Cond.instanceMethod ({ cls := "RoyalCourt", name := "favorShare", desc := "(I)F" } : Jvm.MethodName)) ∈ lw_all := lw_g (lw_at lw_m7 181 rfl) rfl
theorem q1688 : (Jvm.Cond.selects "RoyalCourt" ({ cls := "RoyalCourt", name := "favorShare", desc := "(I)F" } : Jvm.MethodName) ({ cls := "RoyalCourt", name := "favorShare", desc := "(I)F" } : Jvm.MethodName)) ∈ lw_all := lw_g (lw_at lw_m7 182 rfl) rfl
theorem q1689 : (Jvm.Cond.code ({ cls := "RoyalCourt", name := "favorShare", desc := "(I)F" } : Jvm.MethodName) prog_1_method_63_code (2 : Nat) (Option.some Jvm.ClassFile.FieldType.float)) ∈ lw_all := lw_g (lw_at lw_m7 183 rfl) rfl
theorem q1690 : (Jvm.Cond.methodLink "RoyalCourt" (302 : Nat) ({ cls := "RoyalCourt$State", name := "sumOfFavors", desc := "()I" } : Jvm.MethodName)) ∈ lw_all := lw_g (lw_at lw_m7 184 rfl) rfl
theorem q1695 : (Jvm.Cond.instanceMethod ({ cls := "RoyalCourt", name := "writeLine", desc := "(I)I" } : Jvm.MethodName)) ∈ lw_all := lw_g (lw_at lw_m7 189 rfl) rfl
theorem q1696 : (Jvm.Cond.selects "RoyalCourt" ({ cls := "RoyalCourt", name := "writeLine", desc := "(I)I" } : Jvm.MethodName) ({ cls := "RoyalCourt", name := "writeLine", desc := "(I)I" } : Jvm.MethodName)) ∈ lw_all := lw_g (lw_at lw_m7 190 rfl) rfl
theorem q1697 : (Jvm.Cond.code ({ cls := "RoyalCourt", name := "writeLine", desc := "(I)I" } : Jvm.MethodName) prog_1_method_64_code (2 : Nat) (Option.some Jvm.ClassFile.FieldType.int)) ∈ lw_all := lw_g (lw_at lw_m7 191 rfl) rfl
theorem q1698 : (Jvm.Cond.methodLink "RoyalCourt" (305 : Nat) ({ cls := "RoyalCourt$State", name := "writeLine", desc := "(Ljava/lang/StringBuilder;I)V" } : Jvm.MethodName)) ∈ lw_all := lw_g (lw_at lw_m7 192 rfl) rfl
theorem q1711 : (Jvm.Cond.instanceMethod ({ cls := "RoyalCourt", name := "outputAt", desc := "(I)C" } : Jvm.MethodName)) ∈ lw_all := lw_g (lw_at lw_m7 205 rfl) rfl
theorem q1712 : (Jvm.Cond.selects "RoyalCourt" ({ cls := "RoyalCourt", name := "outputAt", desc := "(I)C" } : Jvm.MethodName) ({ cls := "RoyalCourt", name := "outputAt", desc := "(I)C" } : Jvm.MethodName)) ∈ lw_all := lw_g (lw_at lw_m7 206 rfl) rfl
theorem q1713 : (Jvm.Cond.code ({ cls := "RoyalCourt", name := "outputAt", desc := "(I)C" } : Jvm.MethodName) prog_1_method_66_code (2 : Nat) (Option.some Jvm.ClassFile.FieldType.char)) ∈ lw_all := lw_g (lw_at lw_m7 207 rfl) rfl
theorem q1718 : (Jvm.Cond.instanceMethod ({ cls := "RoyalCourt", name := "undo", desc := "()I" } : Jvm.MethodName)) ∈ lw_all := lw_g (lw_at lw_m7 212 rfl) rfl
theorem q1719 : (Jvm.Cond.selects "RoyalCourt" ({ cls := "RoyalCourt", name := "undo", desc := "()I" } : Jvm.MethodName) ({ cls := "RoyalCourt", name := "undo", desc := "()I" } : Jvm.MethodName)) ∈ lw_all := lw_g (lw_at lw_m7 213 rfl) rfl
theorem q1720 : (Jvm.Cond.code ({ cls := "RoyalCourt", name := "undo", desc := "()I" } : Jvm.MethodName) prog_1_method_68_code (2 : Nat) (Option.some Jvm.ClassFile.FieldType.int)) ∈ lw_all := lw_g (lw_at lw_m7 214 rfl) rfl
theorem q1721 : (Jvm.Cond.methodLink "RoyalCourt" (315 : Nat) ({ cls := "java/util/ArrayDeque", name := "pollLast", desc := "()Ljava/lang/Object;" } : Jvm.MethodName)) ∈ lw_all := lw_g (lw_at lw_m7 215 rfl) rfl
theorem q1732 : (Jvm.Cond.instanceMethod ({ cls := "RoyalCourt", name := "restore", desc := "()I" } : Jvm.MethodName)) ∈ lw_all := lw_g (lw_at lw_m7 226 rfl) rfl
theorem q1733 : (Jvm.Cond.selects "RoyalCourt" ({ cls := "RoyalCourt", name := "restore", desc := "()I" } : Jvm.MethodName) ({ cls := "RoyalCourt", name := "restore", desc := "()I" } : Jvm.MethodName)) ∈ lw_all := lw_g (lw_at lw_m7 227 rfl) rfl
theorem q1734 : (Jvm.Cond.code ({ cls := "RoyalCourt", name := "restore", desc := "()I" } : Jvm.MethodName) prog_1_method_71_code (1 : Nat) (Option.some Jvm.ClassFile.FieldType.int)) ∈ lw_all := lw_g (lw_at lw_m7 228 rfl) rfl
theorem q2188 : (Jvm.Cond.castable "RoyalCourt" "java/lang/Object") ∈ lw_tbl := lw_at lw_m9 202 rfl
theorem in_X1 : ∀ w ∈ wsX10, w ∈ lw_all := lw_in wsX10 [384, 386, 388, 390, 392, 394, 396, 398, 400] (by decide +kernel) (by decide +kernel)
/-! RoyalCourt$State -/
set_option maxRecDepth 100000
def RX2 : String := "RoyalCourt$State"
def TX2 : u_T := fun k => match k with
  | 0 => ("RoyalCourt$State", "courtiers", "I", false)
  | 1 => ("RoyalCourt$State", "dignities", "[I", true)
  | 2 => ("RoyalCourt$State", "favors", "[I", true)
  | 3 => ("RoyalCourt$State", "later", "[I", true)
  | 4 => ("RoyalCourt$State", "rules", "I", false)
  | 5 => ("RoyalCourt$State", "requests", "Ljava/util/ArrayList;", true)
  | 6 => ("RoyalCourt$State", "width", "I", false)
  | 7 => ("RoyalCourt$State", "granted", "I", false)
  | 8 => ("RoyalCourt$State", "spent", "J", false)
  | 9 => ("RoyalCourt$State", "gained", "I", false)
  | _ => ("RoyalCourt$State", "lost", "I", false)
def tyX2 : Nat → FieldType := fun k => match k with
  | 0 => .int
  | 1 => .array .int
  | 2 => .array .int
  | 3 => .array .int
  | 4 => .int
  | 5 => .object "java/util/ArrayList"
  | 6 => .int
  | 7 => .int
  | 8 => .long
  | 9 => .int
  | _ => .int
abbrev wsX20 : List Cond := u_ws RX2 TX2 11
theorem nmX2 : ∀ a, a < 11 → ∀ b, b < 11 → a ≠ b → (TX2 a).2.1 ≠ (TX2 b).2.1 := by decide +kernel
theorem tyX2_ok : ∀ k, k < 11 → parseFieldDescriptor (TX2 k).2.2.1 = some (tyX2 k) := by decide +kernel
abbrev cX2_init : ByteArray := prog_8_method_1_code
def yX2_init : MethodName := ⟨RX2, "<init>", "()V"⟩
def dkwX2_init_1 : List UInt8 := [188, 10, 181, 0, 18, 42, 187, 0, 21, 89, 183, 0, 23, 181, 0, 24, 42, 16, 20, 181, 0, 28, 177]
abbrev dktX2_init_1 : List UInt8 := dkwX2_init_1 ++ []
def dkwX2_init_0 : List UInt8 := [42, 183, 0, 3, 42, 16, 8, 188, 10, 181, 0, 9, 42, 16, 8, 188, 10, 181, 0, 15, 42, 16, 8]
abbrev dktX2_init_0 : List UInt8 := dkwX2_init_0 ++ dktX2_init_1
theorem dksX2_init_0 : cX2_init.data.toList.drop 0 = dktX2_init_0 := by decide +kernel
theorem dksX2_init_1 : cX2_init.data.toList.drop 23 = dktX2_init_1 := dk_seg dksX2_init_0 23 rfl rfl
theorem dX2_init_0 : decode cX2_init 0 = .ok (.aload_n 0, 1) := dk_42 (dk_at dksX2_init_0 0 rfl rfl)
theorem dX2_init_1 : decode cX2_init 1 = .ok (.invokespecial 3, 3) := dk_183 0 3 (dk_at dksX2_init_0 1 rfl rfl)
theorem dX2_init_4 : decode cX2_init 4 = .ok (.aload_n 0, 1) := dk_42 (dk_at dksX2_init_0 4 rfl rfl)
theorem dX2_init_5 : decode cX2_init 5 = .ok (.bipush 8, 2) := dk_16 8 (dk_at dksX2_init_0 5 rfl rfl)
theorem dX2_init_7 : decode cX2_init 7 = .ok (.newarray .int, 2) := dk_188_10 (dk_at dksX2_init_0 7 rfl rfl)
theorem dX2_init_9 : decode cX2_init 9 = .ok (.putfield 9, 3) := dk_181 0 9 (dk_at dksX2_init_0 9 rfl rfl)
theorem dX2_init_12 : decode cX2_init 12 = .ok (.aload_n 0, 1) := dk_42 (dk_at dksX2_init_0 12 rfl rfl)
theorem dX2_init_13 : decode cX2_init 13 = .ok (.bipush 8, 2) := dk_16 8 (dk_at dksX2_init_0 13 rfl rfl)
theorem dX2_init_15 : decode cX2_init 15 = .ok (.newarray .int, 2) := dk_188_10 (dk_at dksX2_init_0 15 rfl rfl)
theorem dX2_init_17 : decode cX2_init 17 = .ok (.putfield 15, 3) := dk_181 0 15 (dk_at dksX2_init_0 17 rfl rfl)
theorem dX2_init_20 : decode cX2_init 20 = .ok (.aload_n 0, 1) := dk_42 (dk_at dksX2_init_0 20 rfl rfl)
theorem dX2_init_21 : decode cX2_init 21 = .ok (.bipush 8, 2) := dk_16 8 (dk_at dksX2_init_0 21 rfl rfl)
theorem dX2_init_23 : decode cX2_init 23 = .ok (.newarray .int, 2) := dk_188_10 (dk_at dksX2_init_1 0 rfl rfl)
theorem dX2_init_25 : decode cX2_init 25 = .ok (.putfield 18, 3) := dk_181 0 18 (dk_at dksX2_init_1 2 rfl rfl)
theorem dX2_init_28 : decode cX2_init 28 = .ok (.aload_n 0, 1) := dk_42 (dk_at dksX2_init_1 5 rfl rfl)
theorem dX2_init_29 : decode cX2_init 29 = .ok (.new 21, 3) := dk_187 0 21 (dk_at dksX2_init_1 6 rfl rfl)
theorem dX2_init_32 : decode cX2_init 32 = .ok (.dup, 1) := dk_89 (dk_at dksX2_init_1 9 rfl rfl)
theorem dX2_init_33 : decode cX2_init 33 = .ok (.invokespecial 23, 3) := dk_183 0 23 (dk_at dksX2_init_1 10 rfl rfl)
theorem dX2_init_36 : decode cX2_init 36 = .ok (.putfield 24, 3) := dk_181 0 24 (dk_at dksX2_init_1 13 rfl rfl)
theorem dX2_init_39 : decode cX2_init 39 = .ok (.aload_n 0, 1) := dk_42 (dk_at dksX2_init_1 16 rfl rfl)
theorem dX2_init_40 : decode cX2_init 40 = .ok (.bipush 20, 2) := dk_16 20 (dk_at dksX2_init_1 17 rfl rfl)
theorem dX2_init_42 : decode cX2_init 42 = .ok (.putfield 28, 3) := dk_181 0 28 (dk_at dksX2_init_1 19 rfl rfl)
theorem dX2_init_45 : decode cX2_init 45 = .ok (.return_, 1) := dk_177 (dk_at dksX2_init_1 22 rfl rfl)
abbrev cX2_processions : ByteArray := prog_8_method_13_code
def yX2_processions : MethodName := ⟨RX2, "processions", "()J"⟩
def dkwX2_processions_3 : List UInt8 := [132, 3, 1, 167, 255, 205, 44, 44, 190, 4, 100, 47, 173]
abbrev dktX2_processions_3 : List UInt8 := dkwX2_processions_3 ++ []
def dkwX2_processions_2 : List UInt8 := [153, 0, 17, 44, 29, 4, 21, 4, 120, 128, 92, 47, 44, 29, 47, 97, 80, 132, 4, 1, 167, 255, 220]
abbrev dktX2_processions_2 : List UInt8 := dkwX2_processions_2 ++ dktX2_processions_3
def dkwX2_processions_1 : List UInt8 := [162, 0, 51, 3, 54, 4, 21, 4, 42, 180, 0, 32, 162, 0, 33, 43, 29, 21, 4, 184, 0, 124]
abbrev dktX2_processions_1 : List UInt8 := dkwX2_processions_1 ++ dktX2_processions_2
def dkwX2_processions_0 : List UInt8 := [42, 182, 0, 120, 76, 4, 42, 180, 0, 32, 120, 188, 11, 77, 44, 3, 10, 80, 3, 62, 29, 44, 190]
abbrev dktX2_processions_0 : List UInt8 := dkwX2_processions_0 ++ dktX2_processions_1
theorem dksX2_processions_0 : cX2_processions.data.toList.drop 0 = dktX2_processions_0 := by decide +kernel
theorem dksX2_processions_1 : cX2_processions.data.toList.drop 23 = dktX2_processions_1 := dk_seg dksX2_processions_0 23 rfl rfl
theorem dksX2_processions_2 : cX2_processions.data.toList.drop 45 = dktX2_processions_2 := dk_seg dksX2_processions_1 22 rfl rfl
theorem dksX2_processions_3 : cX2_processions.data.toList.drop 68 = dktX2_processions_3 := dk_seg dksX2_processions_2 23 rfl rfl
theorem dX2_processions_0 : decode cX2_processions 0 = .ok (.aload_n 0, 1) := dk_42 (dk_at dksX2_processions_0 0 rfl rfl)
theorem dX2_processions_1 : decode cX2_processions 1 = .ok (.invokevirtual 120, 3) := dk_182 0 120 (dk_at dksX2_processions_0 1 rfl rfl)
theorem dX2_processions_4 : decode cX2_processions 4 = .ok (.astore_n 1, 1) := dk_76 (dk_at dksX2_processions_0 4 rfl rfl)
theorem dX2_processions_5 : decode cX2_processions 5 = .ok (.iconst 1, 1) := dk_4 (dk_at dksX2_processions_0 5 rfl rfl)
theorem dX2_processions_6 : decode cX2_processions 6 = .ok (.aload_n 0, 1) := dk_42 (dk_at dksX2_processions_0 6 rfl rfl)
theorem dX2_processions_7 : decode cX2_processions 7 = .ok (.getfield 32, 3) := dk_180 0 32 (dk_at dksX2_processions_0 7 rfl rfl)
theorem dX2_processions_10 : decode cX2_processions 10 = .ok (.ishl, 1) := dk_120 (dk_at dksX2_processions_0 10 rfl rfl)
theorem dX2_processions_11 : decode cX2_processions 11 = .ok (.newarray .long, 2) := dk_188_11 (dk_at dksX2_processions_0 11 rfl rfl)
theorem dX2_processions_13 : decode cX2_processions 13 = .ok (.astore_n 2, 1) := dk_77 (dk_at dksX2_processions_0 13 rfl rfl)
theorem dX2_processions_14 : decode cX2_processions 14 = .ok (.aload_n 2, 1) := dk_44 (dk_at dksX2_processions_0 14 rfl rfl)
theorem dX2_processions_15 : decode cX2_processions 15 = .ok (.iconst 0, 1) := dk_3 (dk_at dksX2_processions_0 15 rfl rfl)
theorem dX2_processions_16 : decode cX2_processions 16 = .ok (.lconst 1, 1) := dk_10 (dk_at dksX2_processions_0 16 rfl rfl)
theorem dX2_processions_17 : decode cX2_processions 17 = .ok (.lastore, 1) := dk_80 (dk_at dksX2_processions_0 17 rfl rfl)
theorem dX2_processions_18 : decode cX2_processions 18 = .ok (.iconst 0, 1) := dk_3 (dk_at dksX2_processions_0 18 rfl rfl)
theorem dX2_processions_19 : decode cX2_processions 19 = .ok (.istore_n 3, 1) := dk_62 (dk_at dksX2_processions_0 19 rfl rfl)
theorem dX2_processions_20 : decode cX2_processions 20 = .ok (.iload_n 3, 1) := dk_29 (dk_at dksX2_processions_0 20 rfl rfl)
theorem dX2_processions_21 : decode cX2_processions 21 = .ok (.aload_n 2, 1) := dk_44 (dk_at dksX2_processions_0 21 rfl rfl)
theorem dX2_processions_22 : decode cX2_processions 22 = .ok (.arraylength, 1) := dk_190 (dk_at dksX2_processions_0 22 rfl rfl)
theorem dX2_processions_23 : decode cX2_processions 23 = .ok (.if_icmp .ge 51, 3) := dk_162 0 51 (dk_at dksX2_processions_1 0 rfl rfl)
theorem dX2_processions_26 : decode cX2_processions 26 = .ok (.iconst 0, 1) := dk_3 (dk_at dksX2_processions_1 3 rfl rfl)
theorem dX2_processions_27 : decode cX2_processions 27 = .ok (.istore 4, 2) := dk_54 4 (dk_at dksX2_processions_1 4 rfl rfl)
theorem dX2_processions_29 : decode cX2_processions 29 = .ok (.iload 4, 2) := dk_21 4 (dk_at dksX2_processions_1 6 rfl rfl)
theorem dX2_processions_31 : decode cX2_processions 31 = .ok (.aload_n 0, 1) := dk_42 (dk_at dksX2_processions_1 8 rfl rfl)
theorem dX2_processions_32 : decode cX2_processions 32 = .ok (.getfield 32, 3) := dk_180 0 32 (dk_at dksX2_processions_1 9 rfl rfl)
theorem dX2_processions_35 : decode cX2_processions 35 = .ok (.if_icmp .ge 33, 3) := dk_162 0 33 (dk_at dksX2_processions_1 12 rfl rfl)
theorem dX2_processions_38 : decode cX2_processions 38 = .ok (.aload_n 1, 1) := dk_43 (dk_at dksX2_processions_1 15 rfl rfl)
theorem dX2_processions_39 : decode cX2_processions 39 = .ok (.iload_n 3, 1) := dk_29 (dk_at dksX2_processions_1 16 rfl rfl)
theorem dX2_processions_40 : decode cX2_processions 40 = .ok (.iload 4, 2) := dk_21 4 (dk_at dksX2_processions_1 17 rfl rfl)
theorem dX2_processions_42 : decode cX2_processions 42 = .ok (.invokestatic 124, 3) := dk_184 0 124 (dk_at dksX2_processions_1 19 rfl rfl)
theorem dX2_processions_45 : decode cX2_processions 45 = .ok (.ifCond .eq 17, 3) := dk_153 0 17 (dk_at dksX2_processions_2 0 rfl rfl)
theorem dX2_processions_48 : decode cX2_processions 48 = .ok (.aload_n 2, 1) := dk_44 (dk_at dksX2_processions_2 3 rfl rfl)
theorem dX2_processions_49 : decode cX2_processions 49 = .ok (.iload_n 3, 1) := dk_29 (dk_at dksX2_processions_2 4 rfl rfl)
theorem dX2_processions_50 : decode cX2_processions 50 = .ok (.iconst 1, 1) := dk_4 (dk_at dksX2_processions_2 5 rfl rfl)
theorem dX2_processions_51 : decode cX2_processions 51 = .ok (.iload 4, 2) := dk_21 4 (dk_at dksX2_processions_2 6 rfl rfl)
theorem dX2_processions_53 : decode cX2_processions 53 = .ok (.ishl, 1) := dk_120 (dk_at dksX2_processions_2 8 rfl rfl)
theorem dX2_processions_54 : decode cX2_processions 54 = .ok (.ior, 1) := dk_128 (dk_at dksX2_processions_2 9 rfl rfl)
theorem dX2_processions_55 : decode cX2_processions 55 = .ok (.dup2, 1) := dk_92 (dk_at dksX2_processions_2 10 rfl rfl)
theorem dX2_processions_56 : decode cX2_processions 56 = .ok (.laload, 1) := dk_47 (dk_at dksX2_processions_2 11 rfl rfl)
theorem dX2_processions_57 : decode cX2_processions 57 = .ok (.aload_n 2, 1) := dk_44 (dk_at dksX2_processions_2 12 rfl rfl)
theorem dX2_processions_58 : decode cX2_processions 58 = .ok (.iload_n 3, 1) := dk_29 (dk_at dksX2_processions_2 13 rfl rfl)
theorem dX2_processions_59 : decode cX2_processions 59 = .ok (.laload, 1) := dk_47 (dk_at dksX2_processions_2 14 rfl rfl)
theorem dX2_processions_60 : decode cX2_processions 60 = .ok (.ladd, 1) := dk_97 (dk_at dksX2_processions_2 15 rfl rfl)
theorem dX2_processions_61 : decode cX2_processions 61 = .ok (.lastore, 1) := dk_80 (dk_at dksX2_processions_2 16 rfl rfl)
theorem dX2_processions_62 : decode cX2_processions 62 = .ok (.iinc 4 1, 3) := dk_132 4 1 (dk_at dksX2_processions_2 17 rfl rfl)
theorem dX2_processions_65 : decode cX2_processions 65 = .ok (.goto (-36), 3) := dk_167 255 220 (dk_at dksX2_processions_2 20 rfl rfl)
theorem dX2_processions_68 : decode cX2_processions 68 = .ok (.iinc 3 1, 3) := dk_132 3 1 (dk_at dksX2_processions_3 0 rfl rfl)
theorem dX2_processions_71 : decode cX2_processions 71 = .ok (.goto (-51), 3) := dk_167 255 205 (dk_at dksX2_processions_3 3 rfl rfl)
theorem dX2_processions_74 : decode cX2_processions 74 = .ok (.aload_n 2, 1) := dk_44 (dk_at dksX2_processions_3 6 rfl rfl)
theorem dX2_processions_75 : decode cX2_processions 75 = .ok (.aload_n 2, 1) := dk_44 (dk_at dksX2_processions_3 7 rfl rfl)
theorem dX2_processions_76 : decode cX2_processions 76 = .ok (.arraylength, 1) := dk_190 (dk_at dksX2_processions_3 8 rfl rfl)
theorem dX2_processions_77 : decode cX2_processions 77 = .ok (.iconst 1, 1) := dk_4 (dk_at dksX2_processions_3 9 rfl rfl)
theorem dX2_processions_78 : decode cX2_processions 78 = .ok (.isub, 1) := dk_100 (dk_at dksX2_processions_3 10 rfl rfl)
theorem dX2_processions_79 : decode cX2_processions 79 = .ok (.laload, 1) := dk_47 (dk_at dksX2_processions_3 11 rfl rfl)
theorem dX2_processions_80 : decode cX2_processions 80 = .ok (.lreturn, 1) := dk_173 (dk_at dksX2_processions_3 12 rfl rfl)
abbrev cX2_earlier : ByteArray := prog_8_method_11_code
def yX2_earlier : MethodName := ⟨RX2, "earlier", "()[I"⟩
def dkwX2_earlier_2 : List UInt8 := [167, 0, 4, 3, 128, 79, 132, 3, 1, 167, 255, 219, 132, 2, 1, 167, 255, 203, 43, 176]
abbrev dktX2_earlier_2 : List UInt8 := dkwX2_earlier_2 ++ []
def dkwX2_earlier_1 : List UInt8 := [162, 0, 35, 43, 29, 92, 46, 42, 180, 0, 18, 28, 46, 29, 184, 0, 106, 153, 0, 9, 4, 28, 120]
abbrev dktX2_earlier_1 : List UInt8 := dkwX2_earlier_1 ++ dktX2_earlier_2
def dkwX2_earlier_0 : List UInt8 := [42, 180, 0, 32, 188, 10, 76, 3, 61, 28, 42, 180, 0, 32, 162, 0, 51, 3, 62, 29, 42, 180, 0, 32]
abbrev dktX2_earlier_0 : List UInt8 := dkwX2_earlier_0 ++ dktX2_earlier_1
theorem dksX2_earlier_0 : cX2_earlier.data.toList.drop 0 = dktX2_earlier_0 := by decide +kernel
theorem dksX2_earlier_1 : cX2_earlier.data.toList.drop 24 = dktX2_earlier_1 := dk_seg dksX2_earlier_0 24 rfl rfl
theorem dksX2_earlier_2 : cX2_earlier.data.toList.drop 47 = dktX2_earlier_2 := dk_seg dksX2_earlier_1 23 rfl rfl
theorem dX2_earlier_0 : decode cX2_earlier 0 = .ok (.aload_n 0, 1) := dk_42 (dk_at dksX2_earlier_0 0 rfl rfl)
theorem dX2_earlier_1 : decode cX2_earlier 1 = .ok (.getfield 32, 3) := dk_180 0 32 (dk_at dksX2_earlier_0 1 rfl rfl)
theorem dX2_earlier_4 : decode cX2_earlier 4 = .ok (.newarray .int, 2) := dk_188_10 (dk_at dksX2_earlier_0 4 rfl rfl)
theorem dX2_earlier_6 : decode cX2_earlier 6 = .ok (.astore_n 1, 1) := dk_76 (dk_at dksX2_earlier_0 6 rfl rfl)
theorem dX2_earlier_7 : decode cX2_earlier 7 = .ok (.iconst 0, 1) := dk_3 (dk_at dksX2_earlier_0 7 rfl rfl)
theorem dX2_earlier_8 : decode cX2_earlier 8 = .ok (.istore_n 2, 1) := dk_61 (dk_at dksX2_earlier_0 8 rfl rfl)
theorem dX2_earlier_9 : decode cX2_earlier 9 = .ok (.iload_n 2, 1) := dk_28 (dk_at dksX2_earlier_0 9 rfl rfl)
theorem dX2_earlier_10 : decode cX2_earlier 10 = .ok (.aload_n 0, 1) := dk_42 (dk_at dksX2_earlier_0 10 rfl rfl)
theorem dX2_earlier_11 : decode cX2_earlier 11 = .ok (.getfield 32, 3) := dk_180 0 32 (dk_at dksX2_earlier_0 11 rfl rfl)
theorem dX2_earlier_14 : decode cX2_earlier 14 = .ok (.if_icmp .ge 51, 3) := dk_162 0 51 (dk_at dksX2_earlier_0 14 rfl rfl)
theorem dX2_earlier_17 : decode cX2_earlier 17 = .ok (.iconst 0, 1) := dk_3 (dk_at dksX2_earlier_0 17 rfl rfl)
theorem dX2_earlier_18 : decode cX2_earlier 18 = .ok (.istore_n 3, 1) := dk_62 (dk_at dksX2_earlier_0 18 rfl rfl)
theorem dX2_earlier_19 : decode cX2_earlier 19 = .ok (.iload_n 3, 1) := dk_29 (dk_at dksX2_earlier_0 19 rfl rfl)
theorem dX2_earlier_20 : decode cX2_earlier 20 = .ok (.aload_n 0, 1) := dk_42 (dk_at dksX2_earlier_0 20 rfl rfl)
theorem dX2_earlier_21 : decode cX2_earlier 21 = .ok (.getfield 32, 3) := dk_180 0 32 (dk_at dksX2_earlier_0 21 rfl rfl)
theorem dX2_earlier_24 : decode cX2_earlier 24 = .ok (.if_icmp .ge 35, 3) := dk_162 0 35 (dk_at dksX2_earlier_1 0 rfl rfl)
theorem dX2_earlier_27 : decode cX2_earlier 27 = .ok (.aload_n 1, 1) := dk_43 (dk_at dksX2_earlier_1 3 rfl rfl)
theorem dX2_earlier_28 : decode cX2_earlier 28 = .ok (.iload_n 3, 1) := dk_29 (dk_at dksX2_earlier_1 4 rfl rfl)
theorem dX2_earlier_29 : decode cX2_earlier 29 = .ok (.dup2, 1) := dk_92 (dk_at dksX2_earlier_1 5 rfl rfl)
theorem dX2_earlier_30 : decode cX2_earlier 30 = .ok (.iaload, 1) := dk_46 (dk_at dksX2_earlier_1 6 rfl rfl)
theorem dX2_earlier_31 : decode cX2_earlier 31 = .ok (.aload_n 0, 1) := dk_42 (dk_at dksX2_earlier_1 7 rfl rfl)
theorem dX2_earlier_32 : decode cX2_earlier 32 = .ok (.getfield 18, 3) := dk_180 0 18 (dk_at dksX2_earlier_1 8 rfl rfl)
theorem dX2_earlier_35 : decode cX2_earlier 35 = .ok (.iload_n 2, 1) := dk_28 (dk_at dksX2_earlier_1 11 rfl rfl)
theorem dX2_earlier_36 : decode cX2_earlier 36 = .ok (.iaload, 1) := dk_46 (dk_at dksX2_earlier_1 12 rfl rfl)
theorem dX2_earlier_37 : decode cX2_earlier 37 = .ok (.iload_n 3, 1) := dk_29 (dk_at dksX2_earlier_1 13 rfl rfl)
theorem dX2_earlier_38 : decode cX2_earlier 38 = .ok (.invokestatic 106, 3) := dk_184 0 106 (dk_at dksX2_earlier_1 14 rfl rfl)
theorem dX2_earlier_41 : decode cX2_earlier 41 = .ok (.ifCond .eq 9, 3) := dk_153 0 9 (dk_at dksX2_earlier_1 17 rfl rfl)
theorem dX2_earlier_44 : decode cX2_earlier 44 = .ok (.iconst 1, 1) := dk_4 (dk_at dksX2_earlier_1 20 rfl rfl)
theorem dX2_earlier_45 : decode cX2_earlier 45 = .ok (.iload_n 2, 1) := dk_28 (dk_at dksX2_earlier_1 21 rfl rfl)
theorem dX2_earlier_46 : decode cX2_earlier 46 = .ok (.ishl, 1) := dk_120 (dk_at dksX2_earlier_1 22 rfl rfl)
theorem dX2_earlier_47 : decode cX2_earlier 47 = .ok (.goto 4, 3) := dk_167 0 4 (dk_at dksX2_earlier_2 0 rfl rfl)
theorem dX2_earlier_50 : decode cX2_earlier 50 = .ok (.iconst 0, 1) := dk_3 (dk_at dksX2_earlier_2 3 rfl rfl)
theorem dX2_earlier_51 : decode cX2_earlier 51 = .ok (.ior, 1) := dk_128 (dk_at dksX2_earlier_2 4 rfl rfl)
theorem dX2_earlier_52 : decode cX2_earlier 52 = .ok (.iastore, 1) := dk_79 (dk_at dksX2_earlier_2 5 rfl rfl)
theorem dX2_earlier_53 : decode cX2_earlier 53 = .ok (.iinc 3 1, 3) := dk_132 3 1 (dk_at dksX2_earlier_2 6 rfl rfl)
theorem dX2_earlier_56 : decode cX2_earlier 56 = .ok (.goto (-37), 3) := dk_167 255 219 (dk_at dksX2_earlier_2 9 rfl rfl)
theorem dX2_earlier_59 : decode cX2_earlier 59 = .ok (.iinc 2 1, 3) := dk_132 2 1 (dk_at dksX2_earlier_2 12 rfl rfl)
theorem dX2_earlier_62 : decode cX2_earlier 62 = .ok (.goto (-53), 3) := dk_167 255 203 (dk_at dksX2_earlier_2 15 rfl rfl)
theorem dX2_earlier_65 : decode cX2_earlier 65 = .ok (.aload_n 1, 1) := dk_43 (dk_at dksX2_earlier_2 18 rfl rfl)
theorem dX2_earlier_66 : decode cX2_earlier 66 = .ok (.areturn, 1) := dk_176 (dk_at dksX2_earlier_2 19 rfl rfl)
abbrev cX2_canFollow : ByteArray := prog_8_method_12_code
def yX2_canFollow : MethodName := ⟨RX2, "canFollow", "([III)Z"⟩
def dkwX2_canFollow_0 : List UInt8 := [27, 28, 184, 0, 106, 154, 0, 17, 42, 28, 46, 27, 2, 130, 126, 154, 0, 7, 4, 167, 0, 4, 3, 172]
abbrev dktX2_canFollow_0 : List UInt8 := dkwX2_canFollow_0 ++ []
theorem dksX2_canFollow_0 : cX2_canFollow.data.toList.drop 0 = dktX2_canFollow_0 := by decide +kernel
theorem dX2_canFollow_0 : decode cX2_canFollow 0 = .ok (.iload_n 1, 1) := dk_27 (dk_at dksX2_canFollow_0 0 rfl rfl)
theorem dX2_canFollow_1 : decode cX2_canFollow 1 = .ok (.iload_n 2, 1) := dk_28 (dk_at dksX2_canFollow_0 1 rfl rfl)
theorem dX2_canFollow_2 : decode cX2_canFollow 2 = .ok (.invokestatic 106, 3) := dk_184 0 106 (dk_at dksX2_canFollow_0 2 rfl rfl)
theorem dX2_canFollow_5 : decode cX2_canFollow 5 = .ok (.ifCond .ne 17, 3) := dk_154 0 17 (dk_at dksX2_canFollow_0 5 rfl rfl)
theorem dX2_canFollow_8 : decode cX2_canFollow 8 = .ok (.aload_n 0, 1) := dk_42 (dk_at dksX2_canFollow_0 8 rfl rfl)
theorem dX2_canFollow_9 : decode cX2_canFollow 9 = .ok (.iload_n 2, 1) := dk_28 (dk_at dksX2_canFollow_0 9 rfl rfl)
theorem dX2_canFollow_10 : decode cX2_canFollow 10 = .ok (.iaload, 1) := dk_46 (dk_at dksX2_canFollow_0 10 rfl rfl)
theorem dX2_canFollow_11 : decode cX2_canFollow 11 = .ok (.iload_n 1, 1) := dk_27 (dk_at dksX2_canFollow_0 11 rfl rfl)
theorem dX2_canFollow_12 : decode cX2_canFollow 12 = .ok (.iconst (-1), 1) := dk_2 (dk_at dksX2_canFollow_0 12 rfl rfl)
theorem dX2_canFollow_13 : decode cX2_canFollow 13 = .ok (.ixor, 1) := dk_130 (dk_at dksX2_canFollow_0 13 rfl rfl)
theorem dX2_canFollow_14 : decode cX2_canFollow 14 = .ok (.iand, 1) := dk_126 (dk_at dksX2_canFollow_0 14 rfl rfl)
theorem dX2_canFollow_15 : decode cX2_canFollow 15 = .ok (.ifCond .ne 7, 3) := dk_154 0 7 (dk_at dksX2_canFollow_0 15 rfl rfl)
theorem dX2_canFollow_18 : decode cX2_canFollow 18 = .ok (.iconst 1, 1) := dk_4 (dk_at dksX2_canFollow_0 18 rfl rfl)
theorem dX2_canFollow_19 : decode cX2_canFollow 19 = .ok (.goto 4, 3) := dk_167 0 4 (dk_at dksX2_canFollow_0 19 rfl rfl)
theorem dX2_canFollow_22 : decode cX2_canFollow 22 = .ok (.iconst 0, 1) := dk_3 (dk_at dksX2_canFollow_0 22 rfl rfl)
theorem dX2_canFollow_23 : decode cX2_canFollow 23 = .ok (.ireturn, 1) := dk_172 (dk_at dksX2_canFollow_0 23 rfl rfl)
abbrev cX2_processionsByTrying : ByteArray := prog_8_method_15_code
def yX2_processionsByTrying : MethodName := ⟨RX2, "processionsByTrying", "()J"⟩
def dkwX2_processionsByTrying_0 : List UInt8 := [42, 42, 182, 0, 120, 3, 182, 0, 128, 173]
abbrev dktX2_processionsByTrying_0 : List UInt8 := dkwX2_processionsByTrying_0 ++ []
theorem dksX2_processionsByTrying_0 : cX2_processionsByTrying.data.toList.drop 0 = dktX2_processionsByTrying_0 := by decide +kernel
theorem dX2_processionsByTrying_0 : decode cX2_processionsByTrying 0 = .ok (.aload_n 0, 1) := dk_42 (dk_at dksX2_processionsByTrying_0 0 rfl rfl)
theorem dX2_processionsByTrying_1 : decode cX2_processionsByTrying 1 = .ok (.aload_n 0, 1) := dk_42 (dk_at dksX2_processionsByTrying_0 1 rfl rfl)
theorem dX2_processionsByTrying_2 : decode cX2_processionsByTrying 2 = .ok (.invokevirtual 120, 3) := dk_182 0 120 (dk_at dksX2_processionsByTrying_0 2 rfl rfl)
theorem dX2_processionsByTrying_5 : decode cX2_processionsByTrying 5 = .ok (.iconst 0, 1) := dk_3 (dk_at dksX2_processionsByTrying_0 5 rfl rfl)
theorem dX2_processionsByTrying_6 : decode cX2_processionsByTrying 6 = .ok (.invokevirtual 128, 3) := dk_182 0 128 (dk_at dksX2_processionsByTrying_0 6 rfl rfl)
theorem dX2_processionsByTrying_9 : decode cX2_processionsByTrying 9 = .ok (.lreturn, 1) := dk_173 (dk_at dksX2_processionsByTrying_0 9 rfl rfl)
abbrev cX2_processionsBehind : ByteArray := prog_8_method_14_code
def yX2_processionsBehind : MethodName := ⟨RX2, "processionsBehind", "([II)J"⟩
def dkwX2_processionsBehind_2 : List UInt8 := [128, 182, 0, 128, 167, 0, 4, 9, 97, 66, 132, 5, 1, 167, 255, 216, 33, 173]
abbrev dktX2_processionsBehind_2 : List UInt8 := dkwX2_processionsBehind_2 ++ []
def dkwX2_processionsBehind_1 : List UInt8 := [180, 0, 32, 162, 0, 37, 33, 43, 28, 21, 5, 184, 0, 124, 153, 0, 17, 42, 43, 28, 4, 21, 5, 120]
abbrev dktX2_processionsBehind_1 : List UInt8 := dkwX2_processionsBehind_1 ++ dktX2_processionsBehind_2
def dkwX2_processionsBehind_0 : List UInt8 := [28, 4, 42, 180, 0, 32, 120, 4, 100, 160, 0, 5, 10, 173, 9, 66, 3, 54, 5, 21, 5, 42]
abbrev dktX2_processionsBehind_0 : List UInt8 := dkwX2_processionsBehind_0 ++ dktX2_processionsBehind_1
theorem dksX2_processionsBehind_0 : cX2_processionsBehind.data.toList.drop 0 = dktX2_processionsBehind_0 := by decide +kernel
theorem dksX2_processionsBehind_1 : cX2_processionsBehind.data.toList.drop 22 = dktX2_processionsBehind_1 := dk_seg dksX2_processionsBehind_0 22 rfl rfl
theorem dksX2_processionsBehind_2 : cX2_processionsBehind.data.toList.drop 46 = dktX2_processionsBehind_2 := dk_seg dksX2_processionsBehind_1 24 rfl rfl
theorem dX2_processionsBehind_0 : decode cX2_processionsBehind 0 = .ok (.iload_n 2, 1) := dk_28 (dk_at dksX2_processionsBehind_0 0 rfl rfl)
theorem dX2_processionsBehind_1 : decode cX2_processionsBehind 1 = .ok (.iconst 1, 1) := dk_4 (dk_at dksX2_processionsBehind_0 1 rfl rfl)
theorem dX2_processionsBehind_2 : decode cX2_processionsBehind 2 = .ok (.aload_n 0, 1) := dk_42 (dk_at dksX2_processionsBehind_0 2 rfl rfl)
theorem dX2_processionsBehind_3 : decode cX2_processionsBehind 3 = .ok (.getfield 32, 3) := dk_180 0 32 (dk_at dksX2_processionsBehind_0 3 rfl rfl)
theorem dX2_processionsBehind_6 : decode cX2_processionsBehind 6 = .ok (.ishl, 1) := dk_120 (dk_at dksX2_processionsBehind_0 6 rfl rfl)
theorem dX2_processionsBehind_7 : decode cX2_processionsBehind 7 = .ok (.iconst 1, 1) := dk_4 (dk_at dksX2_processionsBehind_0 7 rfl rfl)
theorem dX2_processionsBehind_8 : decode cX2_processionsBehind 8 = .ok (.isub, 1) := dk_100 (dk_at dksX2_processionsBehind_0 8 rfl rfl)
theorem dX2_processionsBehind_9 : decode cX2_processionsBehind 9 = .ok (.if_icmp .ne 5, 3) := dk_160 0 5 (dk_at dksX2_processionsBehind_0 9 rfl rfl)
theorem dX2_processionsBehind_12 : decode cX2_processionsBehind 12 = .ok (.lconst 1, 1) := dk_10 (dk_at dksX2_processionsBehind_0 12 rfl rfl)
theorem dX2_processionsBehind_13 : decode cX2_processionsBehind 13 = .ok (.lreturn, 1) := dk_173 (dk_at dksX2_processionsBehind_0 13 rfl rfl)
theorem dX2_processionsBehind_14 : decode cX2_processionsBehind 14 = .ok (.lconst 0, 1) := dk_9 (dk_at dksX2_processionsBehind_0 14 rfl rfl)
theorem dX2_processionsBehind_15 : decode cX2_processionsBehind 15 = .ok (.lstore_n 3, 1) := dk_66 (dk_at dksX2_processionsBehind_0 15 rfl rfl)
theorem dX2_processionsBehind_16 : decode cX2_processionsBehind 16 = .ok (.iconst 0, 1) := dk_3 (dk_at dksX2_processionsBehind_0 16 rfl rfl)
theorem dX2_processionsBehind_17 : decode cX2_processionsBehind 17 = .ok (.istore 5, 2) := dk_54 5 (dk_at dksX2_processionsBehind_0 17 rfl rfl)
theorem dX2_processionsBehind_19 : decode cX2_processionsBehind 19 = .ok (.iload 5, 2) := dk_21 5 (dk_at dksX2_processionsBehind_0 19 rfl rfl)
theorem dX2_processionsBehind_21 : decode cX2_processionsBehind 21 = .ok (.aload_n 0, 1) := dk_42 (dk_at dksX2_processionsBehind_0 21 rfl rfl)
theorem dX2_processionsBehind_22 : decode cX2_processionsBehind 22 = .ok (.getfield 32, 3) := dk_180 0 32 (dk_at dksX2_processionsBehind_1 0 rfl rfl)
theorem dX2_processionsBehind_25 : decode cX2_processionsBehind 25 = .ok (.if_icmp .ge 37, 3) := dk_162 0 37 (dk_at dksX2_processionsBehind_1 3 rfl rfl)
theorem dX2_processionsBehind_28 : decode cX2_processionsBehind 28 = .ok (.lload_n 3, 1) := dk_33 (dk_at dksX2_processionsBehind_1 6 rfl rfl)
theorem dX2_processionsBehind_29 : decode cX2_processionsBehind 29 = .ok (.aload_n 1, 1) := dk_43 (dk_at dksX2_processionsBehind_1 7 rfl rfl)
theorem dX2_processionsBehind_30 : decode cX2_processionsBehind 30 = .ok (.iload_n 2, 1) := dk_28 (dk_at dksX2_processionsBehind_1 8 rfl rfl)
theorem dX2_processionsBehind_31 : decode cX2_processionsBehind 31 = .ok (.iload 5, 2) := dk_21 5 (dk_at dksX2_processionsBehind_1 9 rfl rfl)
theorem dX2_processionsBehind_33 : decode cX2_processionsBehind 33 = .ok (.invokestatic 124, 3) := dk_184 0 124 (dk_at dksX2_processionsBehind_1 11 rfl rfl)
theorem dX2_processionsBehind_36 : decode cX2_processionsBehind 36 = .ok (.ifCond .eq 17, 3) := dk_153 0 17 (dk_at dksX2_processionsBehind_1 14 rfl rfl)
theorem dX2_processionsBehind_39 : decode cX2_processionsBehind 39 = .ok (.aload_n 0, 1) := dk_42 (dk_at dksX2_processionsBehind_1 17 rfl rfl)
theorem dX2_processionsBehind_40 : decode cX2_processionsBehind 40 = .ok (.aload_n 1, 1) := dk_43 (dk_at dksX2_processionsBehind_1 18 rfl rfl)
theorem dX2_processionsBehind_41 : decode cX2_processionsBehind 41 = .ok (.iload_n 2, 1) := dk_28 (dk_at dksX2_processionsBehind_1 19 rfl rfl)
theorem dX2_processionsBehind_42 : decode cX2_processionsBehind 42 = .ok (.iconst 1, 1) := dk_4 (dk_at dksX2_processionsBehind_1 20 rfl rfl)
theorem dX2_processionsBehind_43 : decode cX2_processionsBehind 43 = .ok (.iload 5, 2) := dk_21 5 (dk_at dksX2_processionsBehind_1 21 rfl rfl)
theorem dX2_processionsBehind_45 : decode cX2_processionsBehind 45 = .ok (.ishl, 1) := dk_120 (dk_at dksX2_processionsBehind_1 23 rfl rfl)
theorem dX2_processionsBehind_46 : decode cX2_processionsBehind 46 = .ok (.ior, 1) := dk_128 (dk_at dksX2_processionsBehind_2 0 rfl rfl)
theorem dX2_processionsBehind_47 : decode cX2_processionsBehind 47 = .ok (.invokevirtual 128, 3) := dk_182 0 128 (dk_at dksX2_processionsBehind_2 1 rfl rfl)
theorem dX2_processionsBehind_50 : decode cX2_processionsBehind 50 = .ok (.goto 4, 3) := dk_167 0 4 (dk_at dksX2_processionsBehind_2 4 rfl rfl)
theorem dX2_processionsBehind_53 : decode cX2_processionsBehind 53 = .ok (.lconst 0, 1) := dk_9 (dk_at dksX2_processionsBehind_2 7 rfl rfl)
theorem dX2_processionsBehind_54 : decode cX2_processionsBehind 54 = .ok (.ladd, 1) := dk_97 (dk_at dksX2_processionsBehind_2 8 rfl rfl)
theorem dX2_processionsBehind_55 : decode cX2_processionsBehind 55 = .ok (.lstore_n 3, 1) := dk_66 (dk_at dksX2_processionsBehind_2 9 rfl rfl)
theorem dX2_processionsBehind_56 : decode cX2_processionsBehind 56 = .ok (.iinc 5 1, 3) := dk_132 5 1 (dk_at dksX2_processionsBehind_2 10 rfl rfl)
theorem dX2_processionsBehind_59 : decode cX2_processionsBehind 59 = .ok (.goto (-40), 3) := dk_167 255 216 (dk_at dksX2_processionsBehind_2 13 rfl rfl)
theorem dX2_processionsBehind_62 : decode cX2_processionsBehind 62 = .ok (.lload_n 3, 1) := dk_33 (dk_at dksX2_processionsBehind_2 16 rfl rfl)
theorem dX2_processionsBehind_63 : decode cX2_processionsBehind 63 = .ok (.lreturn, 1) := dk_173 (dk_at dksX2_processionsBehind_2 17 rfl rfl)
abbrev cX2_writeProcession : ByteArray := prog_8_method_34_code
def yX2_writeProcession : MethodName := ⟨RX2, "writeProcession", "(Ljava/lang/StringBuilder;)V"⟩
def dkwX2_writeProcession_2 : List UInt8 := [182, 0, 255, 87, 132, 3, 1, 167, 255, 208, 177]
abbrev dktX2_writeProcession_2 : List UInt8 := dkwX2_writeProcession_2 ++ []
def dkwX2_writeProcession_1 : List UInt8 := [44, 29, 46, 182, 0, 110, 153, 0, 8, 16, 62, 167, 0, 5, 16, 44, 182, 0, 252, 87, 43, 44, 29, 46]
abbrev dktX2_writeProcession_1 : List UInt8 := dkwX2_writeProcession_1 ++ dktX2_writeProcession_2
def dkwX2_writeProcession_0 : List UInt8 := [42, 182, 0, 249, 77, 3, 62, 29, 44, 190, 162, 0, 48, 29, 158, 0, 30, 43, 42, 44, 29, 4, 100, 46]
abbrev dktX2_writeProcession_0 : List UInt8 := dkwX2_writeProcession_0 ++ dktX2_writeProcession_1
theorem dksX2_writeProcession_0 : cX2_writeProcession.data.toList.drop 0 = dktX2_writeProcession_0 := by decide +kernel
theorem dksX2_writeProcession_1 : cX2_writeProcession.data.toList.drop 24 = dktX2_writeProcession_1 := dk_seg dksX2_writeProcession_0 24 rfl rfl
theorem dksX2_writeProcession_2 : cX2_writeProcession.data.toList.drop 48 = dktX2_writeProcession_2 := dk_seg dksX2_writeProcession_1 24 rfl rfl
theorem dX2_writeProcession_0 : decode cX2_writeProcession 0 = .ok (.aload_n 0, 1) := dk_42 (dk_at dksX2_writeProcession_0 0 rfl rfl)
theorem dX2_writeProcession_1 : decode cX2_writeProcession 1 = .ok (.invokevirtual 249, 3) := dk_182 0 249 (dk_at dksX2_writeProcession_0 1 rfl rfl)
theorem dX2_writeProcession_4 : decode cX2_writeProcession 4 = .ok (.astore_n 2, 1) := dk_77 (dk_at dksX2_writeProcession_0 4 rfl rfl)
theorem dX2_writeProcession_5 : decode cX2_writeProcession 5 = .ok (.iconst 0, 1) := dk_3 (dk_at dksX2_writeProcession_0 5 rfl rfl)
theorem dX2_writeProcession_6 : decode cX2_writeProcession 6 = .ok (.istore_n 3, 1) := dk_62 (dk_at dksX2_writeProcession_0 6 rfl rfl)
theorem dX2_writeProcession_7 : decode cX2_writeProcession 7 = .ok (.iload_n 3, 1) := dk_29 (dk_at dksX2_writeProcession_0 7 rfl rfl)
theorem dX2_writeProcession_8 : decode cX2_writeProcession 8 = .ok (.aload_n 2, 1) := dk_44 (dk_at dksX2_writeProcession_0 8 rfl rfl)
theorem dX2_writeProcession_9 : decode cX2_writeProcession 9 = .ok (.arraylength, 1) := dk_190 (dk_at dksX2_writeProcession_0 9 rfl rfl)
theorem dX2_writeProcession_10 : decode cX2_writeProcession 10 = .ok (.if_icmp .ge 48, 3) := dk_162 0 48 (dk_at dksX2_writeProcession_0 10 rfl rfl)
theorem dX2_writeProcession_13 : decode cX2_writeProcession 13 = .ok (.iload_n 3, 1) := dk_29 (dk_at dksX2_writeProcession_0 13 rfl rfl)
theorem dX2_writeProcession_14 : decode cX2_writeProcession 14 = .ok (.ifCond .le 30, 3) := dk_158 0 30 (dk_at dksX2_writeProcession_0 14 rfl rfl)
theorem dX2_writeProcession_17 : decode cX2_writeProcession 17 = .ok (.aload_n 1, 1) := dk_43 (dk_at dksX2_writeProcession_0 17 rfl rfl)
theorem dX2_writeProcession_18 : decode cX2_writeProcession 18 = .ok (.aload_n 0, 1) := dk_42 (dk_at dksX2_writeProcession_0 18 rfl rfl)
theorem dX2_writeProcession_19 : decode cX2_writeProcession 19 = .ok (.aload_n 2, 1) := dk_44 (dk_at dksX2_writeProcession_0 19 rfl rfl)
theorem dX2_writeProcession_20 : decode cX2_writeProcession 20 = .ok (.iload_n 3, 1) := dk_29 (dk_at dksX2_writeProcession_0 20 rfl rfl)
theorem dX2_writeProcession_21 : decode cX2_writeProcession 21 = .ok (.iconst 1, 1) := dk_4 (dk_at dksX2_writeProcession_0 21 rfl rfl)
theorem dX2_writeProcession_22 : decode cX2_writeProcession 22 = .ok (.isub, 1) := dk_100 (dk_at dksX2_writeProcession_0 22 rfl rfl)
theorem dX2_writeProcession_23 : decode cX2_writeProcession 23 = .ok (.iaload, 1) := dk_46 (dk_at dksX2_writeProcession_0 23 rfl rfl)
theorem dX2_writeProcession_24 : decode cX2_writeProcession 24 = .ok (.aload_n 2, 1) := dk_44 (dk_at dksX2_writeProcession_1 0 rfl rfl)
theorem dX2_writeProcession_25 : decode cX2_writeProcession 25 = .ok (.iload_n 3, 1) := dk_29 (dk_at dksX2_writeProcession_1 1 rfl rfl)
theorem dX2_writeProcession_26 : decode cX2_writeProcession 26 = .ok (.iaload, 1) := dk_46 (dk_at dksX2_writeProcession_1 2 rfl rfl)
theorem dX2_writeProcession_27 : decode cX2_writeProcession 27 = .ok (.invokevirtual 110, 3) := dk_182 0 110 (dk_at dksX2_writeProcession_1 3 rfl rfl)
theorem dX2_writeProcession_30 : decode cX2_writeProcession 30 = .ok (.ifCond .eq 8, 3) := dk_153 0 8 (dk_at dksX2_writeProcession_1 6 rfl rfl)
theorem dX2_writeProcession_33 : decode cX2_writeProcession 33 = .ok (.bipush 62, 2) := dk_16 62 (dk_at dksX2_writeProcession_1 9 rfl rfl)
theorem dX2_writeProcession_35 : decode cX2_writeProcession 35 = .ok (.goto 5, 3) := dk_167 0 5 (dk_at dksX2_writeProcession_1 11 rfl rfl)
theorem dX2_writeProcession_38 : decode cX2_writeProcession 38 = .ok (.bipush 44, 2) := dk_16 44 (dk_at dksX2_writeProcession_1 14 rfl rfl)
theorem dX2_writeProcession_40 : decode cX2_writeProcession 40 = .ok (.invokevirtual 252, 3) := dk_182 0 252 (dk_at dksX2_writeProcession_1 16 rfl rfl)
theorem dX2_writeProcession_43 : decode cX2_writeProcession 43 = .ok (.pop, 1) := dk_87 (dk_at dksX2_writeProcession_1 19 rfl rfl)
theorem dX2_writeProcession_44 : decode cX2_writeProcession 44 = .ok (.aload_n 1, 1) := dk_43 (dk_at dksX2_writeProcession_1 20 rfl rfl)
theorem dX2_writeProcession_45 : decode cX2_writeProcession 45 = .ok (.aload_n 2, 1) := dk_44 (dk_at dksX2_writeProcession_1 21 rfl rfl)
theorem dX2_writeProcession_46 : decode cX2_writeProcession 46 = .ok (.iload_n 3, 1) := dk_29 (dk_at dksX2_writeProcession_1 22 rfl rfl)
theorem dX2_writeProcession_47 : decode cX2_writeProcession 47 = .ok (.iaload, 1) := dk_46 (dk_at dksX2_writeProcession_1 23 rfl rfl)
theorem dX2_writeProcession_48 : decode cX2_writeProcession 48 = .ok (.invokevirtual 255, 3) := dk_182 0 255 (dk_at dksX2_writeProcession_2 0 rfl rfl)
theorem dX2_writeProcession_51 : decode cX2_writeProcession 51 = .ok (.pop, 1) := dk_87 (dk_at dksX2_writeProcession_2 3 rfl rfl)
theorem dX2_writeProcession_52 : decode cX2_writeProcession 52 = .ok (.iinc 3 1, 3) := dk_132 3 1 (dk_at dksX2_writeProcession_2 4 rfl rfl)
theorem dX2_writeProcession_55 : decode cX2_writeProcession 55 = .ok (.goto (-48), 3) := dk_167 255 208 (dk_at dksX2_writeProcession_2 7 rfl rfl)
theorem dX2_writeProcession_58 : decode cX2_writeProcession 58 = .ok (.return_, 1) := dk_177 (dk_at dksX2_writeProcession_2 10 rfl rfl)
abbrev cX2_grandProcession : ByteArray := prog_8_method_18_code
def yX2_grandProcession : MethodName := ⟨RX2, "grandProcession", "()[I"⟩
def dkwX2_grandProcession_0 : List UInt8 := [42, 42, 186, 0, 144, 0, 0, 182, 0, 140, 176]
abbrev dktX2_grandProcession_0 : List UInt8 := dkwX2_grandProcession_0 ++ []
theorem dksX2_grandProcession_0 : cX2_grandProcession.data.toList.drop 0 = dktX2_grandProcession_0 := by decide +kernel
theorem dX2_grandProcession_0 : decode cX2_grandProcession 0 = .ok (.aload_n 0, 1) := dk_42 (dk_at dksX2_grandProcession_0 0 rfl rfl)
theorem dX2_grandProcession_1 : decode cX2_grandProcession 1 = .ok (.aload_n 0, 1) := dk_42 (dk_at dksX2_grandProcession_0 1 rfl rfl)
theorem dX2_grandProcession_2 : decode cX2_grandProcession 2 = .ok (.invokedynamic 144, 5) := by decide +kernel
theorem dX2_grandProcession_7 : decode cX2_grandProcession 7 = .ok (.invokevirtual 140, 3) := dk_182 0 140 (dk_at dksX2_grandProcession_0 7 rfl rfl)
theorem dX2_grandProcession_10 : decode cX2_grandProcession 10 = .ok (.areturn, 1) := dk_176 (dk_at dksX2_grandProcession_0 10 rfl rfl)
abbrev cX2_lambda_grandProcession_1 : ByteArray := prog_8_method_36_code
def yX2_lambda_grandProcession_1 : MethodName := ⟨RX2, "lambda$grandProcession$1", "(II)Z"⟩
def dkwX2_lambda_grandProcession_1_0 : List UInt8 := [42, 180, 0, 9, 27, 46, 42, 180, 0, 9, 28, 46, 164, 0, 7, 4, 167, 0, 4, 3, 172]
abbrev dktX2_lambda_grandProcession_1_0 : List UInt8 := dkwX2_lambda_grandProcession_1_0 ++ []
theorem dksX2_lambda_grandProcession_1_0 : cX2_lambda_grandProcession_1.data.toList.drop 0 = dktX2_lambda_grandProcession_1_0 := by decide +kernel
theorem dX2_lambda_grandProcession_1_0 : decode cX2_lambda_grandProcession_1 0 = .ok (.aload_n 0, 1) := dk_42 (dk_at dksX2_lambda_grandProcession_1_0 0 rfl rfl)
theorem dX2_lambda_grandProcession_1_1 : decode cX2_lambda_grandProcession_1 1 = .ok (.getfield 9, 3) := dk_180 0 9 (dk_at dksX2_lambda_grandProcession_1_0 1 rfl rfl)
theorem dX2_lambda_grandProcession_1_4 : decode cX2_lambda_grandProcession_1 4 = .ok (.iload_n 1, 1) := dk_27 (dk_at dksX2_lambda_grandProcession_1_0 4 rfl rfl)
theorem dX2_lambda_grandProcession_1_5 : decode cX2_lambda_grandProcession_1 5 = .ok (.iaload, 1) := dk_46 (dk_at dksX2_lambda_grandProcession_1_0 5 rfl rfl)
theorem dX2_lambda_grandProcession_1_6 : decode cX2_lambda_grandProcession_1 6 = .ok (.aload_n 0, 1) := dk_42 (dk_at dksX2_lambda_grandProcession_1_0 6 rfl rfl)
theorem dX2_lambda_grandProcession_1_7 : decode cX2_lambda_grandProcession_1 7 = .ok (.getfield 9, 3) := dk_180 0 9 (dk_at dksX2_lambda_grandProcession_1_0 7 rfl rfl)
theorem dX2_lambda_grandProcession_1_10 : decode cX2_lambda_grandProcession_1 10 = .ok (.iload_n 2, 1) := dk_28 (dk_at dksX2_lambda_grandProcession_1_0 10 rfl rfl)
theorem dX2_lambda_grandProcession_1_11 : decode cX2_lambda_grandProcession_1 11 = .ok (.iaload, 1) := dk_46 (dk_at dksX2_lambda_grandProcession_1_0 11 rfl rfl)
theorem dX2_lambda_grandProcession_1_12 : decode cX2_lambda_grandProcession_1 12 = .ok (.if_icmp .le 7, 3) := dk_164 0 7 (dk_at dksX2_lambda_grandProcession_1_0 12 rfl rfl)
theorem dX2_lambda_grandProcession_1_15 : decode cX2_lambda_grandProcession_1 15 = .ok (.iconst 1, 1) := dk_4 (dk_at dksX2_lambda_grandProcession_1_0 15 rfl rfl)
theorem dX2_lambda_grandProcession_1_16 : decode cX2_lambda_grandProcession_1 16 = .ok (.goto 4, 3) := dk_167 0 4 (dk_at dksX2_lambda_grandProcession_1_0 16 rfl rfl)
theorem dX2_lambda_grandProcession_1_19 : decode cX2_lambda_grandProcession_1 19 = .ok (.iconst 0, 1) := dk_3 (dk_at dksX2_lambda_grandProcession_1_0 19 rfl rfl)
theorem dX2_lambda_grandProcession_1_20 : decode cX2_lambda_grandProcession_1 20 = .ok (.ireturn, 1) := dk_172 (dk_at dksX2_lambda_grandProcession_1_0 20 rfl rfl)
abbrev cX2_procession : ByteArray := prog_8_method_16_code
def yX2_procession : MethodName := ⟨RX2, "procession", "(LRoyalCourt$Order;)[I"⟩
def dkwX2_procession_4 : List UInt8 := [21, 4, 4, 21, 6, 120, 128, 54, 4, 132, 5, 1, 167, 255, 169, 45, 176]
abbrev dktX2_procession_4 : List UInt8 := dkwX2_procession_4 ++ []
def dkwX2_procession_3 : List UInt8 := [153, 0, 8, 21, 7, 167, 0, 5, 21, 6, 54, 6, 132, 7, 1, 167, 255, 205, 45, 21, 5, 21, 6, 79]
abbrev dktX2_procession_3 : List UInt8 := dkwX2_procession_3 ++ dktX2_procession_4
def dkwX2_procession_2 : List UInt8 := [184, 0, 124, 153, 0, 27, 21, 6, 2, 159, 0, 16, 43, 21, 7, 21, 6, 185, 0, 132, 3, 0]
abbrev dktX2_procession_2 : List UInt8 := dkwX2_procession_2 ++ dktX2_procession_3
def dkwX2_procession_1 : List UInt8 := [162, 0, 84, 2, 54, 6, 3, 54, 7, 21, 7, 42, 180, 0, 32, 162, 0, 48, 44, 21, 4, 21, 7]
abbrev dktX2_procession_1 : List UInt8 := dkwX2_procession_1 ++ dktX2_procession_2
def dkwX2_procession_0 : List UInt8 := [42, 182, 0, 120, 77, 42, 180, 0, 32, 188, 10, 78, 3, 54, 4, 3, 54, 5, 21, 5, 42, 180, 0, 32]
abbrev dktX2_procession_0 : List UInt8 := dkwX2_procession_0 ++ dktX2_procession_1
theorem dksX2_procession_0 : cX2_procession.data.toList.drop 0 = dktX2_procession_0 := by decide +kernel
theorem dksX2_procession_1 : cX2_procession.data.toList.drop 24 = dktX2_procession_1 := dk_seg dksX2_procession_0 24 rfl rfl
theorem dksX2_procession_2 : cX2_procession.data.toList.drop 47 = dktX2_procession_2 := dk_seg dksX2_procession_1 23 rfl rfl
theorem dksX2_procession_3 : cX2_procession.data.toList.drop 69 = dktX2_procession_3 := dk_seg dksX2_procession_2 22 rfl rfl
theorem dksX2_procession_4 : cX2_procession.data.toList.drop 93 = dktX2_procession_4 := dk_seg dksX2_procession_3 24 rfl rfl
theorem dX2_procession_0 : decode cX2_procession 0 = .ok (.aload_n 0, 1) := dk_42 (dk_at dksX2_procession_0 0 rfl rfl)
theorem dX2_procession_1 : decode cX2_procession 1 = .ok (.invokevirtual 120, 3) := dk_182 0 120 (dk_at dksX2_procession_0 1 rfl rfl)
theorem dX2_procession_4 : decode cX2_procession 4 = .ok (.astore_n 2, 1) := dk_77 (dk_at dksX2_procession_0 4 rfl rfl)
theorem dX2_procession_5 : decode cX2_procession 5 = .ok (.aload_n 0, 1) := dk_42 (dk_at dksX2_procession_0 5 rfl rfl)
theorem dX2_procession_6 : decode cX2_procession 6 = .ok (.getfield 32, 3) := dk_180 0 32 (dk_at dksX2_procession_0 6 rfl rfl)
theorem dX2_procession_9 : decode cX2_procession 9 = .ok (.newarray .int, 2) := dk_188_10 (dk_at dksX2_procession_0 9 rfl rfl)
theorem dX2_procession_11 : decode cX2_procession 11 = .ok (.astore_n 3, 1) := dk_78 (dk_at dksX2_procession_0 11 rfl rfl)
theorem dX2_procession_12 : decode cX2_procession 12 = .ok (.iconst 0, 1) := dk_3 (dk_at dksX2_procession_0 12 rfl rfl)
theorem dX2_procession_13 : decode cX2_procession 13 = .ok (.istore 4, 2) := dk_54 4 (dk_at dksX2_procession_0 13 rfl rfl)
theorem dX2_procession_15 : decode cX2_procession 15 = .ok (.iconst 0, 1) := dk_3 (dk_at dksX2_procession_0 15 rfl rfl)
theorem dX2_procession_16 : decode cX2_procession 16 = .ok (.istore 5, 2) := dk_54 5 (dk_at dksX2_procession_0 16 rfl rfl)
theorem dX2_procession_18 : decode cX2_procession 18 = .ok (.iload 5, 2) := dk_21 5 (dk_at dksX2_procession_0 18 rfl rfl)
theorem dX2_procession_20 : decode cX2_procession 20 = .ok (.aload_n 0, 1) := dk_42 (dk_at dksX2_procession_0 20 rfl rfl)
theorem dX2_procession_21 : decode cX2_procession 21 = .ok (.getfield 32, 3) := dk_180 0 32 (dk_at dksX2_procession_0 21 rfl rfl)
theorem dX2_procession_24 : decode cX2_procession 24 = .ok (.if_icmp .ge 84, 3) := dk_162 0 84 (dk_at dksX2_procession_1 0 rfl rfl)
theorem dX2_procession_27 : decode cX2_procession 27 = .ok (.iconst (-1), 1) := dk_2 (dk_at dksX2_procession_1 3 rfl rfl)
theorem dX2_procession_28 : decode cX2_procession 28 = .ok (.istore 6, 2) := dk_54 6 (dk_at dksX2_procession_1 4 rfl rfl)
theorem dX2_procession_30 : decode cX2_procession 30 = .ok (.iconst 0, 1) := dk_3 (dk_at dksX2_procession_1 6 rfl rfl)
theorem dX2_procession_31 : decode cX2_procession 31 = .ok (.istore 7, 2) := dk_54 7 (dk_at dksX2_procession_1 7 rfl rfl)
theorem dX2_procession_33 : decode cX2_procession 33 = .ok (.iload 7, 2) := dk_21 7 (dk_at dksX2_procession_1 9 rfl rfl)
theorem dX2_procession_35 : decode cX2_procession 35 = .ok (.aload_n 0, 1) := dk_42 (dk_at dksX2_procession_1 11 rfl rfl)
theorem dX2_procession_36 : decode cX2_procession 36 = .ok (.getfield 32, 3) := dk_180 0 32 (dk_at dksX2_procession_1 12 rfl rfl)
theorem dX2_procession_39 : decode cX2_procession 39 = .ok (.if_icmp .ge 48, 3) := dk_162 0 48 (dk_at dksX2_procession_1 15 rfl rfl)
theorem dX2_procession_42 : decode cX2_procession 42 = .ok (.aload_n 2, 1) := dk_44 (dk_at dksX2_procession_1 18 rfl rfl)
theorem dX2_procession_43 : decode cX2_procession 43 = .ok (.iload 4, 2) := dk_21 4 (dk_at dksX2_procession_1 19 rfl rfl)
theorem dX2_procession_45 : decode cX2_procession 45 = .ok (.iload 7, 2) := dk_21 7 (dk_at dksX2_procession_1 21 rfl rfl)
theorem dX2_procession_47 : decode cX2_procession 47 = .ok (.invokestatic 124, 3) := dk_184 0 124 (dk_at dksX2_procession_2 0 rfl rfl)
theorem dX2_procession_50 : decode cX2_procession 50 = .ok (.ifCond .eq 27, 3) := dk_153 0 27 (dk_at dksX2_procession_2 3 rfl rfl)
theorem dX2_procession_53 : decode cX2_procession 53 = .ok (.iload 6, 2) := dk_21 6 (dk_at dksX2_procession_2 6 rfl rfl)
theorem dX2_procession_55 : decode cX2_procession 55 = .ok (.iconst (-1), 1) := dk_2 (dk_at dksX2_procession_2 8 rfl rfl)
theorem dX2_procession_56 : decode cX2_procession 56 = .ok (.if_icmp .eq 16, 3) := dk_159 0 16 (dk_at dksX2_procession_2 9 rfl rfl)
theorem dX2_procession_59 : decode cX2_procession 59 = .ok (.aload_n 1, 1) := dk_43 (dk_at dksX2_procession_2 12 rfl rfl)
theorem dX2_procession_60 : decode cX2_procession 60 = .ok (.iload 7, 2) := dk_21 7 (dk_at dksX2_procession_2 13 rfl rfl)
theorem dX2_procession_62 : decode cX2_procession 62 = .ok (.iload 6, 2) := dk_21 6 (dk_at dksX2_procession_2 15 rfl rfl)
theorem dX2_procession_64 : decode cX2_procession 64 = .ok (.invokeinterface 132 3, 5) := by decide +kernel
theorem dX2_procession_69 : decode cX2_procession 69 = .ok (.ifCond .eq 8, 3) := dk_153 0 8 (dk_at dksX2_procession_3 0 rfl rfl)
theorem dX2_procession_72 : decode cX2_procession 72 = .ok (.iload 7, 2) := dk_21 7 (dk_at dksX2_procession_3 3 rfl rfl)
theorem dX2_procession_74 : decode cX2_procession 74 = .ok (.goto 5, 3) := dk_167 0 5 (dk_at dksX2_procession_3 5 rfl rfl)
theorem dX2_procession_77 : decode cX2_procession 77 = .ok (.iload 6, 2) := dk_21 6 (dk_at dksX2_procession_3 8 rfl rfl)
theorem dX2_procession_79 : decode cX2_procession 79 = .ok (.istore 6, 2) := dk_54 6 (dk_at dksX2_procession_3 10 rfl rfl)
theorem dX2_procession_81 : decode cX2_procession 81 = .ok (.iinc 7 1, 3) := dk_132 7 1 (dk_at dksX2_procession_3 12 rfl rfl)
theorem dX2_procession_84 : decode cX2_procession 84 = .ok (.goto (-51), 3) := dk_167 255 205 (dk_at dksX2_procession_3 15 rfl rfl)
theorem dX2_procession_87 : decode cX2_procession 87 = .ok (.aload_n 3, 1) := dk_45 (dk_at dksX2_procession_3 18 rfl rfl)
theorem dX2_procession_88 : decode cX2_procession 88 = .ok (.iload 5, 2) := dk_21 5 (dk_at dksX2_procession_3 19 rfl rfl)
theorem dX2_procession_90 : decode cX2_procession 90 = .ok (.iload 6, 2) := dk_21 6 (dk_at dksX2_procession_3 21 rfl rfl)
theorem dX2_procession_92 : decode cX2_procession 92 = .ok (.iastore, 1) := dk_79 (dk_at dksX2_procession_3 23 rfl rfl)
theorem dX2_procession_93 : decode cX2_procession 93 = .ok (.iload 4, 2) := dk_21 4 (dk_at dksX2_procession_4 0 rfl rfl)
theorem dX2_procession_95 : decode cX2_procession 95 = .ok (.iconst 1, 1) := dk_4 (dk_at dksX2_procession_4 2 rfl rfl)
theorem dX2_procession_96 : decode cX2_procession 96 = .ok (.iload 6, 2) := dk_21 6 (dk_at dksX2_procession_4 3 rfl rfl)
theorem dX2_procession_98 : decode cX2_procession 98 = .ok (.ishl, 1) := dk_120 (dk_at dksX2_procession_4 5 rfl rfl)
theorem dX2_procession_99 : decode cX2_procession 99 = .ok (.ior, 1) := dk_128 (dk_at dksX2_procession_4 6 rfl rfl)
theorem dX2_procession_100 : decode cX2_procession 100 = .ok (.istore 4, 2) := dk_54 4 (dk_at dksX2_procession_4 7 rfl rfl)
theorem dX2_procession_102 : decode cX2_procession 102 = .ok (.iinc 5 1, 3) := dk_132 5 1 (dk_at dksX2_procession_4 9 rfl rfl)
theorem dX2_procession_105 : decode cX2_procession 105 = .ok (.goto (-87), 3) := dk_167 255 169 (dk_at dksX2_procession_4 12 rfl rfl)
theorem dX2_procession_108 : decode cX2_procession 108 = .ok (.aload_n 3, 1) := dk_45 (dk_at dksX2_procession_4 15 rfl rfl)
theorem dX2_procession_109 : decode cX2_procession 109 = .ok (.areturn, 1) := dk_176 (dk_at dksX2_procession_4 16 rfl rfl)
abbrev cX2_precedes : ByteArray := prog_8_method_7_code
def yX2_precedes : MethodName := ⟨RX2, "precedes", "(II)Z"⟩
def dkwX2_precedes_1 : List UInt8 := [28, 159, 0, 12, 42, 29, 28, 182, 0, 110, 153, 0, 5, 4, 172, 132, 3, 1, 167, 255, 216, 3, 172]
abbrev dktX2_precedes_1 : List UInt8 := dkwX2_precedes_1 ++ []
def dkwX2_precedes_0 : List UInt8 := [3, 62, 29, 42, 180, 0, 32, 162, 0, 38, 42, 180, 0, 18, 27, 46, 29, 184, 0, 106, 153, 0, 19, 29]
abbrev dktX2_precedes_0 : List UInt8 := dkwX2_precedes_0 ++ dktX2_precedes_1
theorem dksX2_precedes_0 : cX2_precedes.data.toList.drop 0 = dktX2_precedes_0 := by decide +kernel
theorem dksX2_precedes_1 : cX2_precedes.data.toList.drop 24 = dktX2_precedes_1 := dk_seg dksX2_precedes_0 24 rfl rfl
theorem dX2_precedes_0 : decode cX2_precedes 0 = .ok (.iconst 0, 1) := dk_3 (dk_at dksX2_precedes_0 0 rfl rfl)
theorem dX2_precedes_1 : decode cX2_precedes 1 = .ok (.istore_n 3, 1) := dk_62 (dk_at dksX2_precedes_0 1 rfl rfl)
theorem dX2_precedes_2 : decode cX2_precedes 2 = .ok (.iload_n 3, 1) := dk_29 (dk_at dksX2_precedes_0 2 rfl rfl)
theorem dX2_precedes_3 : decode cX2_precedes 3 = .ok (.aload_n 0, 1) := dk_42 (dk_at dksX2_precedes_0 3 rfl rfl)
theorem dX2_precedes_4 : decode cX2_precedes 4 = .ok (.getfield 32, 3) := dk_180 0 32 (dk_at dksX2_precedes_0 4 rfl rfl)
theorem dX2_precedes_7 : decode cX2_precedes 7 = .ok (.if_icmp .ge 38, 3) := dk_162 0 38 (dk_at dksX2_precedes_0 7 rfl rfl)
theorem dX2_precedes_10 : decode cX2_precedes 10 = .ok (.aload_n 0, 1) := dk_42 (dk_at dksX2_precedes_0 10 rfl rfl)
theorem dX2_precedes_11 : decode cX2_precedes 11 = .ok (.getfield 18, 3) := dk_180 0 18 (dk_at dksX2_precedes_0 11 rfl rfl)
theorem dX2_precedes_14 : decode cX2_precedes 14 = .ok (.iload_n 1, 1) := dk_27 (dk_at dksX2_precedes_0 14 rfl rfl)
theorem dX2_precedes_15 : decode cX2_precedes 15 = .ok (.iaload, 1) := dk_46 (dk_at dksX2_precedes_0 15 rfl rfl)
theorem dX2_precedes_16 : decode cX2_precedes 16 = .ok (.iload_n 3, 1) := dk_29 (dk_at dksX2_precedes_0 16 rfl rfl)
theorem dX2_precedes_17 : decode cX2_precedes 17 = .ok (.invokestatic 106, 3) := dk_184 0 106 (dk_at dksX2_precedes_0 17 rfl rfl)
theorem dX2_precedes_20 : decode cX2_precedes 20 = .ok (.ifCond .eq 19, 3) := dk_153 0 19 (dk_at dksX2_precedes_0 20 rfl rfl)
theorem dX2_precedes_23 : decode cX2_precedes 23 = .ok (.iload_n 3, 1) := dk_29 (dk_at dksX2_precedes_0 23 rfl rfl)
theorem dX2_precedes_24 : decode cX2_precedes 24 = .ok (.iload_n 2, 1) := dk_28 (dk_at dksX2_precedes_1 0 rfl rfl)
theorem dX2_precedes_25 : decode cX2_precedes 25 = .ok (.if_icmp .eq 12, 3) := dk_159 0 12 (dk_at dksX2_precedes_1 1 rfl rfl)
theorem dX2_precedes_28 : decode cX2_precedes 28 = .ok (.aload_n 0, 1) := dk_42 (dk_at dksX2_precedes_1 4 rfl rfl)
theorem dX2_precedes_29 : decode cX2_precedes 29 = .ok (.iload_n 3, 1) := dk_29 (dk_at dksX2_precedes_1 5 rfl rfl)
theorem dX2_precedes_30 : decode cX2_precedes 30 = .ok (.iload_n 2, 1) := dk_28 (dk_at dksX2_precedes_1 6 rfl rfl)
theorem dX2_precedes_31 : decode cX2_precedes 31 = .ok (.invokevirtual 110, 3) := dk_182 0 110 (dk_at dksX2_precedes_1 7 rfl rfl)
theorem dX2_precedes_34 : decode cX2_precedes 34 = .ok (.ifCond .eq 5, 3) := dk_153 0 5 (dk_at dksX2_precedes_1 10 rfl rfl)
theorem dX2_precedes_37 : decode cX2_precedes 37 = .ok (.iconst 1, 1) := dk_4 (dk_at dksX2_precedes_1 13 rfl rfl)
theorem dX2_precedes_38 : decode cX2_precedes 38 = .ok (.ireturn, 1) := dk_172 (dk_at dksX2_precedes_1 14 rfl rfl)
theorem dX2_precedes_39 : decode cX2_precedes 39 = .ok (.iinc 3 1, 3) := dk_132 3 1 (dk_at dksX2_precedes_1 15 rfl rfl)
theorem dX2_precedes_42 : decode cX2_precedes 42 = .ok (.goto (-40), 3) := dk_167 255 216 (dk_at dksX2_precedes_1 18 rfl rfl)
theorem dX2_precedes_45 : decode cX2_precedes 45 = .ok (.iconst 0, 1) := dk_3 (dk_at dksX2_precedes_1 21 rfl rfl)
theorem dX2_precedes_46 : decode cX2_precedes 46 = .ok (.ireturn, 1) := dk_172 (dk_at dksX2_precedes_1 22 rfl rfl)
abbrev cX2_isConsistent : ByteArray := prog_8_method_33_code
def yX2_isConsistent : MethodName := ⟨RX2, "isConsistent", "()Z"⟩
def dkwX2_isConsistent_3 : List UInt8 := [182, 0, 246, 153, 0, 7, 4, 167, 0, 4, 3, 172]
abbrev dktX2_isConsistent_3 : List UInt8 := dkwX2_isConsistent_3 ++ []
def dkwX2_isConsistent_2 : List UInt8 := [167, 0, 4, 3, 60, 27, 153, 0, 26, 42, 182, 0, 239, 42, 182, 0, 243, 148, 154, 0, 14, 42]
abbrev dktX2_isConsistent_2 : List UInt8 := dkwX2_isConsistent_2 ++ dktX2_isConsistent_3
def dkwX2_isConsistent_1 : List UInt8 := [79, 89, 5, 42, 180, 0, 77, 116, 79, 184, 0, 235, 133, 42, 180, 0, 70, 101, 148, 154, 0, 7, 4]
abbrev dktX2_isConsistent_1 : List UInt8 := dkwX2_isConsistent_1 ++ dktX2_isConsistent_2
def dkwX2_isConsistent_0 : List UInt8 := [42, 182, 0, 232, 133, 6, 188, 10, 89, 3, 16, 20, 42, 180, 0, 32, 104, 79, 89, 4, 42, 180, 0, 74]
abbrev dktX2_isConsistent_0 : List UInt8 := dkwX2_isConsistent_0 ++ dktX2_isConsistent_1
theorem dksX2_isConsistent_0 : cX2_isConsistent.data.toList.drop 0 = dktX2_isConsistent_0 := by decide +kernel
theorem dksX2_isConsistent_1 : cX2_isConsistent.data.toList.drop 24 = dktX2_isConsistent_1 := dk_seg dksX2_isConsistent_0 24 rfl rfl
theorem dksX2_isConsistent_2 : cX2_isConsistent.data.toList.drop 47 = dktX2_isConsistent_2 := dk_seg dksX2_isConsistent_1 23 rfl rfl
theorem dksX2_isConsistent_3 : cX2_isConsistent.data.toList.drop 69 = dktX2_isConsistent_3 := dk_seg dksX2_isConsistent_2 22 rfl rfl
theorem dX2_isConsistent_0 : decode cX2_isConsistent 0 = .ok (.aload_n 0, 1) := dk_42 (dk_at dksX2_isConsistent_0 0 rfl rfl)
theorem dX2_isConsistent_1 : decode cX2_isConsistent 1 = .ok (.invokevirtual 232, 3) := dk_182 0 232 (dk_at dksX2_isConsistent_0 1 rfl rfl)
theorem dX2_isConsistent_4 : decode cX2_isConsistent 4 = .ok (.i2l, 1) := dk_133 (dk_at dksX2_isConsistent_0 4 rfl rfl)
theorem dX2_isConsistent_5 : decode cX2_isConsistent 5 = .ok (.iconst 3, 1) := dk_6 (dk_at dksX2_isConsistent_0 5 rfl rfl)
theorem dX2_isConsistent_6 : decode cX2_isConsistent 6 = .ok (.newarray .int, 2) := dk_188_10 (dk_at dksX2_isConsistent_0 6 rfl rfl)
theorem dX2_isConsistent_8 : decode cX2_isConsistent 8 = .ok (.dup, 1) := dk_89 (dk_at dksX2_isConsistent_0 8 rfl rfl)
theorem dX2_isConsistent_9 : decode cX2_isConsistent 9 = .ok (.iconst 0, 1) := dk_3 (dk_at dksX2_isConsistent_0 9 rfl rfl)
theorem dX2_isConsistent_10 : decode cX2_isConsistent 10 = .ok (.bipush 20, 2) := dk_16 20 (dk_at dksX2_isConsistent_0 10 rfl rfl)
theorem dX2_isConsistent_12 : decode cX2_isConsistent 12 = .ok (.aload_n 0, 1) := dk_42 (dk_at dksX2_isConsistent_0 12 rfl rfl)
theorem dX2_isConsistent_13 : decode cX2_isConsistent 13 = .ok (.getfield 32, 3) := dk_180 0 32 (dk_at dksX2_isConsistent_0 13 rfl rfl)
theorem dX2_isConsistent_16 : decode cX2_isConsistent 16 = .ok (.imul, 1) := dk_104 (dk_at dksX2_isConsistent_0 16 rfl rfl)
theorem dX2_isConsistent_17 : decode cX2_isConsistent 17 = .ok (.iastore, 1) := dk_79 (dk_at dksX2_isConsistent_0 17 rfl rfl)
theorem dX2_isConsistent_18 : decode cX2_isConsistent 18 = .ok (.dup, 1) := dk_89 (dk_at dksX2_isConsistent_0 18 rfl rfl)
theorem dX2_isConsistent_19 : decode cX2_isConsistent 19 = .ok (.iconst 1, 1) := dk_4 (dk_at dksX2_isConsistent_0 19 rfl rfl)
theorem dX2_isConsistent_20 : decode cX2_isConsistent 20 = .ok (.aload_n 0, 1) := dk_42 (dk_at dksX2_isConsistent_0 20 rfl rfl)
theorem dX2_isConsistent_21 : decode cX2_isConsistent 21 = .ok (.getfield 74, 3) := dk_180 0 74 (dk_at dksX2_isConsistent_0 21 rfl rfl)
theorem dX2_isConsistent_24 : decode cX2_isConsistent 24 = .ok (.iastore, 1) := dk_79 (dk_at dksX2_isConsistent_1 0 rfl rfl)
theorem dX2_isConsistent_25 : decode cX2_isConsistent 25 = .ok (.dup, 1) := dk_89 (dk_at dksX2_isConsistent_1 1 rfl rfl)
theorem dX2_isConsistent_26 : decode cX2_isConsistent 26 = .ok (.iconst 2, 1) := dk_5 (dk_at dksX2_isConsistent_1 2 rfl rfl)
theorem dX2_isConsistent_27 : decode cX2_isConsistent 27 = .ok (.aload_n 0, 1) := dk_42 (dk_at dksX2_isConsistent_1 3 rfl rfl)
theorem dX2_isConsistent_28 : decode cX2_isConsistent 28 = .ok (.getfield 77, 3) := dk_180 0 77 (dk_at dksX2_isConsistent_1 4 rfl rfl)
theorem dX2_isConsistent_31 : decode cX2_isConsistent 31 = .ok (.ineg, 1) := dk_116 (dk_at dksX2_isConsistent_1 7 rfl rfl)
theorem dX2_isConsistent_32 : decode cX2_isConsistent 32 = .ok (.iastore, 1) := dk_79 (dk_at dksX2_isConsistent_1 8 rfl rfl)
theorem dX2_isConsistent_33 : decode cX2_isConsistent 33 = .ok (.invokestatic 235, 3) := dk_184 0 235 (dk_at dksX2_isConsistent_1 9 rfl rfl)
theorem dX2_isConsistent_36 : decode cX2_isConsistent 36 = .ok (.i2l, 1) := dk_133 (dk_at dksX2_isConsistent_1 12 rfl rfl)
theorem dX2_isConsistent_37 : decode cX2_isConsistent 37 = .ok (.aload_n 0, 1) := dk_42 (dk_at dksX2_isConsistent_1 13 rfl rfl)
theorem dX2_isConsistent_38 : decode cX2_isConsistent 38 = .ok (.getfield 70, 3) := dk_180 0 70 (dk_at dksX2_isConsistent_1 14 rfl rfl)
theorem dX2_isConsistent_41 : decode cX2_isConsistent 41 = .ok (.lsub, 1) := dk_101 (dk_at dksX2_isConsistent_1 17 rfl rfl)
theorem dX2_isConsistent_42 : decode cX2_isConsistent 42 = .ok (.lcmp, 1) := dk_148 (dk_at dksX2_isConsistent_1 18 rfl rfl)
theorem dX2_isConsistent_43 : decode cX2_isConsistent 43 = .ok (.ifCond .ne 7, 3) := dk_154 0 7 (dk_at dksX2_isConsistent_1 19 rfl rfl)
theorem dX2_isConsistent_46 : decode cX2_isConsistent 46 = .ok (.iconst 1, 1) := dk_4 (dk_at dksX2_isConsistent_1 22 rfl rfl)
theorem dX2_isConsistent_47 : decode cX2_isConsistent 47 = .ok (.goto 4, 3) := dk_167 0 4 (dk_at dksX2_isConsistent_2 0 rfl rfl)
theorem dX2_isConsistent_50 : decode cX2_isConsistent 50 = .ok (.iconst 0, 1) := dk_3 (dk_at dksX2_isConsistent_2 3 rfl rfl)
theorem dX2_isConsistent_51 : decode cX2_isConsistent 51 = .ok (.istore_n 1, 1) := dk_60 (dk_at dksX2_isConsistent_2 4 rfl rfl)
theorem dX2_isConsistent_52 : decode cX2_isConsistent 52 = .ok (.iload_n 1, 1) := dk_27 (dk_at dksX2_isConsistent_2 5 rfl rfl)
theorem dX2_isConsistent_53 : decode cX2_isConsistent 53 = .ok (.ifCond .eq 26, 3) := dk_153 0 26 (dk_at dksX2_isConsistent_2 6 rfl rfl)
theorem dX2_isConsistent_56 : decode cX2_isConsistent 56 = .ok (.aload_n 0, 1) := dk_42 (dk_at dksX2_isConsistent_2 9 rfl rfl)
theorem dX2_isConsistent_57 : decode cX2_isConsistent 57 = .ok (.invokevirtual 239, 3) := dk_182 0 239 (dk_at dksX2_isConsistent_2 10 rfl rfl)
theorem dX2_isConsistent_60 : decode cX2_isConsistent 60 = .ok (.aload_n 0, 1) := dk_42 (dk_at dksX2_isConsistent_2 13 rfl rfl)
theorem dX2_isConsistent_61 : decode cX2_isConsistent 61 = .ok (.invokevirtual 243, 3) := dk_182 0 243 (dk_at dksX2_isConsistent_2 14 rfl rfl)
theorem dX2_isConsistent_64 : decode cX2_isConsistent 64 = .ok (.lcmp, 1) := dk_148 (dk_at dksX2_isConsistent_2 17 rfl rfl)
theorem dX2_isConsistent_65 : decode cX2_isConsistent 65 = .ok (.ifCond .ne 14, 3) := dk_154 0 14 (dk_at dksX2_isConsistent_2 18 rfl rfl)
theorem dX2_isConsistent_68 : decode cX2_isConsistent 68 = .ok (.aload_n 0, 1) := dk_42 (dk_at dksX2_isConsistent_2 21 rfl rfl)
theorem dX2_isConsistent_69 : decode cX2_isConsistent 69 = .ok (.invokevirtual 246, 3) := dk_182 0 246 (dk_at dksX2_isConsistent_3 0 rfl rfl)
theorem dX2_isConsistent_72 : decode cX2_isConsistent 72 = .ok (.ifCond .eq 7, 3) := dk_153 0 7 (dk_at dksX2_isConsistent_3 3 rfl rfl)
theorem dX2_isConsistent_75 : decode cX2_isConsistent 75 = .ok (.iconst 1, 1) := dk_4 (dk_at dksX2_isConsistent_3 6 rfl rfl)
theorem dX2_isConsistent_76 : decode cX2_isConsistent 76 = .ok (.goto 4, 3) := dk_167 0 4 (dk_at dksX2_isConsistent_3 7 rfl rfl)
theorem dX2_isConsistent_79 : decode cX2_isConsistent 79 = .ok (.iconst 0, 1) := dk_3 (dk_at dksX2_isConsistent_3 10 rfl rfl)
theorem dX2_isConsistent_80 : decode cX2_isConsistent 80 = .ok (.ireturn, 1) := dk_172 (dk_at dksX2_isConsistent_3 11 rfl rfl)
abbrev cX2_sumOfFavors : ByteArray := prog_8_method_31_code
def yX2_sumOfFavors : MethodName := ⟨RX2, "sumOfFavors", "()I"⟩
def dkwX2_sumOfFavors_1 : List UInt8 := [167, 255, 236, 27, 172]
abbrev dktX2_sumOfFavors_1 : List UInt8 := dkwX2_sumOfFavors_1 ++ []
def dkwX2_sumOfFavors_0 : List UInt8 := [3, 60, 3, 61, 28, 42, 180, 0, 32, 162, 0, 18, 27, 42, 180, 0, 15, 28, 46, 96, 60, 132, 2, 1]
abbrev dktX2_sumOfFavors_0 : List UInt8 := dkwX2_sumOfFavors_0 ++ dktX2_sumOfFavors_1
theorem dksX2_sumOfFavors_0 : cX2_sumOfFavors.data.toList.drop 0 = dktX2_sumOfFavors_0 := by decide +kernel
theorem dksX2_sumOfFavors_1 : cX2_sumOfFavors.data.toList.drop 24 = dktX2_sumOfFavors_1 := dk_seg dksX2_sumOfFavors_0 24 rfl rfl
theorem dX2_sumOfFavors_0 : decode cX2_sumOfFavors 0 = .ok (.iconst 0, 1) := dk_3 (dk_at dksX2_sumOfFavors_0 0 rfl rfl)
theorem dX2_sumOfFavors_1 : decode cX2_sumOfFavors 1 = .ok (.istore_n 1, 1) := dk_60 (dk_at dksX2_sumOfFavors_0 1 rfl rfl)
theorem dX2_sumOfFavors_2 : decode cX2_sumOfFavors 2 = .ok (.iconst 0, 1) := dk_3 (dk_at dksX2_sumOfFavors_0 2 rfl rfl)
theorem dX2_sumOfFavors_3 : decode cX2_sumOfFavors 3 = .ok (.istore_n 2, 1) := dk_61 (dk_at dksX2_sumOfFavors_0 3 rfl rfl)
theorem dX2_sumOfFavors_4 : decode cX2_sumOfFavors 4 = .ok (.iload_n 2, 1) := dk_28 (dk_at dksX2_sumOfFavors_0 4 rfl rfl)
theorem dX2_sumOfFavors_5 : decode cX2_sumOfFavors 5 = .ok (.aload_n 0, 1) := dk_42 (dk_at dksX2_sumOfFavors_0 5 rfl rfl)
theorem dX2_sumOfFavors_6 : decode cX2_sumOfFavors 6 = .ok (.getfield 32, 3) := dk_180 0 32 (dk_at dksX2_sumOfFavors_0 6 rfl rfl)
theorem dX2_sumOfFavors_9 : decode cX2_sumOfFavors 9 = .ok (.if_icmp .ge 18, 3) := dk_162 0 18 (dk_at dksX2_sumOfFavors_0 9 rfl rfl)
theorem dX2_sumOfFavors_12 : decode cX2_sumOfFavors 12 = .ok (.iload_n 1, 1) := dk_27 (dk_at dksX2_sumOfFavors_0 12 rfl rfl)
theorem dX2_sumOfFavors_13 : decode cX2_sumOfFavors 13 = .ok (.aload_n 0, 1) := dk_42 (dk_at dksX2_sumOfFavors_0 13 rfl rfl)
theorem dX2_sumOfFavors_14 : decode cX2_sumOfFavors 14 = .ok (.getfield 15, 3) := dk_180 0 15 (dk_at dksX2_sumOfFavors_0 14 rfl rfl)
theorem dX2_sumOfFavors_17 : decode cX2_sumOfFavors 17 = .ok (.iload_n 2, 1) := dk_28 (dk_at dksX2_sumOfFavors_0 17 rfl rfl)
theorem dX2_sumOfFavors_18 : decode cX2_sumOfFavors 18 = .ok (.iaload, 1) := dk_46 (dk_at dksX2_sumOfFavors_0 18 rfl rfl)
theorem dX2_sumOfFavors_19 : decode cX2_sumOfFavors 19 = .ok (.iadd, 1) := dk_96 (dk_at dksX2_sumOfFavors_0 19 rfl rfl)
theorem dX2_sumOfFavors_20 : decode cX2_sumOfFavors 20 = .ok (.istore_n 1, 1) := dk_60 (dk_at dksX2_sumOfFavors_0 20 rfl rfl)
theorem dX2_sumOfFavors_21 : decode cX2_sumOfFavors 21 = .ok (.iinc 2 1, 3) := dk_132 2 1 (dk_at dksX2_sumOfFavors_0 21 rfl rfl)
theorem dX2_sumOfFavors_24 : decode cX2_sumOfFavors 24 = .ok (.goto (-20), 3) := dk_167 255 236 (dk_at dksX2_sumOfFavors_1 0 rfl rfl)
theorem dX2_sumOfFavors_27 : decode cX2_sumOfFavors 27 = .ok (.iload_n 1, 1) := dk_27 (dk_at dksX2_sumOfFavors_1 3 rfl rfl)
theorem dX2_sumOfFavors_28 : decode cX2_sumOfFavors 28 = .ok (.ireturn, 1) := dk_172 (dk_at dksX2_sumOfFavors_1 4 rfl rfl)
abbrev cX2_areRequestsConsistent : ByteArray := prog_8_method_32_code
def yX2_areRequestsConsistent : MethodName := ⟨RX2, "areRequestsConsistent", "()Z"⟩
def dkwX2_areRequestsConsistent_4 : List UInt8 := [3, 172]
abbrev dktX2_areRequestsConsistent_4 : List UInt8 := dkwX2_areRequestsConsistent_4 ++ []
def dkwX2_areRequestsConsistent_3 : List UInt8 := [153, 0, 20, 42, 182, 0, 197, 182, 0, 226, 42, 182, 0, 197, 182, 0, 229, 160, 0, 7, 4, 167, 0, 4]
abbrev dktX2_areRequestsConsistent_3 : List UInt8 := dkwX2_areRequestsConsistent_3 ++ dktX2_areRequestsConsistent_4
def dkwX2_areRequestsConsistent_2 : List UInt8 := [190, 42, 180, 0, 28, 163, 0, 7, 4, 167, 0, 4, 3, 126, 61, 167, 255, 207, 27, 153, 0, 28, 28]
abbrev dktX2_areRequestsConsistent_2 : List UInt8 := dkwX2_areRequestsConsistent_2 ++ dktX2_areRequestsConsistent_3
def dkwX2_areRequestsConsistent_1 : List UInt8 := [185, 0, 57, 1, 0, 192, 0, 61, 58, 4, 27, 25, 4, 182, 0, 223, 126, 60, 28, 25, 4, 180, 0, 188]
abbrev dktX2_areRequestsConsistent_1 : List UInt8 := dkwX2_areRequestsConsistent_1 ++ dktX2_areRequestsConsistent_2
def dkwX2_areRequestsConsistent_0 : List UInt8 := [4, 60, 4, 61, 42, 180, 0, 24, 182, 0, 47, 78, 45, 185, 0, 51, 1, 0, 153, 0, 46, 45]
abbrev dktX2_areRequestsConsistent_0 : List UInt8 := dkwX2_areRequestsConsistent_0 ++ dktX2_areRequestsConsistent_1
theorem dksX2_areRequestsConsistent_0 : cX2_areRequestsConsistent.data.toList.drop 0 = dktX2_areRequestsConsistent_0 := by decide +kernel
theorem dksX2_areRequestsConsistent_1 : cX2_areRequestsConsistent.data.toList.drop 22 = dktX2_areRequestsConsistent_1 := dk_seg dksX2_areRequestsConsistent_0 22 rfl rfl
theorem dksX2_areRequestsConsistent_2 : cX2_areRequestsConsistent.data.toList.drop 46 = dktX2_areRequestsConsistent_2 := dk_seg dksX2_areRequestsConsistent_1 24 rfl rfl
theorem dksX2_areRequestsConsistent_3 : cX2_areRequestsConsistent.data.toList.drop 69 = dktX2_areRequestsConsistent_3 := dk_seg dksX2_areRequestsConsistent_2 23 rfl rfl
theorem dksX2_areRequestsConsistent_4 : cX2_areRequestsConsistent.data.toList.drop 93 = dktX2_areRequestsConsistent_4 := dk_seg dksX2_areRequestsConsistent_3 24 rfl rfl
theorem dX2_areRequestsConsistent_0 : decode cX2_areRequestsConsistent 0 = .ok (.iconst 1, 1) := dk_4 (dk_at dksX2_areRequestsConsistent_0 0 rfl rfl)
theorem dX2_areRequestsConsistent_1 : decode cX2_areRequestsConsistent 1 = .ok (.istore_n 1, 1) := dk_60 (dk_at dksX2_areRequestsConsistent_0 1 rfl rfl)
theorem dX2_areRequestsConsistent_2 : decode cX2_areRequestsConsistent 2 = .ok (.iconst 1, 1) := dk_4 (dk_at dksX2_areRequestsConsistent_0 2 rfl rfl)
theorem dX2_areRequestsConsistent_3 : decode cX2_areRequestsConsistent 3 = .ok (.istore_n 2, 1) := dk_61 (dk_at dksX2_areRequestsConsistent_0 3 rfl rfl)
theorem dX2_areRequestsConsistent_4 : decode cX2_areRequestsConsistent 4 = .ok (.aload_n 0, 1) := dk_42 (dk_at dksX2_areRequestsConsistent_0 4 rfl rfl)
theorem dX2_areRequestsConsistent_5 : decode cX2_areRequestsConsistent 5 = .ok (.getfield 24, 3) := dk_180 0 24 (dk_at dksX2_areRequestsConsistent_0 5 rfl rfl)
theorem dX2_areRequestsConsistent_8 : decode cX2_areRequestsConsistent 8 = .ok (.invokevirtual 47, 3) := dk_182 0 47 (dk_at dksX2_areRequestsConsistent_0 8 rfl rfl)
theorem dX2_areRequestsConsistent_11 : decode cX2_areRequestsConsistent 11 = .ok (.astore_n 3, 1) := dk_78 (dk_at dksX2_areRequestsConsistent_0 11 rfl rfl)
theorem dX2_areRequestsConsistent_12 : decode cX2_areRequestsConsistent 12 = .ok (.aload_n 3, 1) := dk_45 (dk_at dksX2_areRequestsConsistent_0 12 rfl rfl)
theorem dX2_areRequestsConsistent_13 : decode cX2_areRequestsConsistent 13 = .ok (.invokeinterface 51 1, 5) := by decide +kernel
theorem dX2_areRequestsConsistent_18 : decode cX2_areRequestsConsistent 18 = .ok (.ifCond .eq 46, 3) := dk_153 0 46 (dk_at dksX2_areRequestsConsistent_0 18 rfl rfl)
theorem dX2_areRequestsConsistent_21 : decode cX2_areRequestsConsistent 21 = .ok (.aload_n 3, 1) := dk_45 (dk_at dksX2_areRequestsConsistent_0 21 rfl rfl)
theorem dX2_areRequestsConsistent_22 : decode cX2_areRequestsConsistent 22 = .ok (.invokeinterface 57 1, 5) := by decide +kernel
theorem dX2_areRequestsConsistent_27 : decode cX2_areRequestsConsistent 27 = .ok (.checkcast 61, 3) := dk_192 0 61 (dk_at dksX2_areRequestsConsistent_1 5 rfl rfl)
theorem dX2_areRequestsConsistent_30 : decode cX2_areRequestsConsistent 30 = .ok (.astore 4, 2) := dk_58 4 (dk_at dksX2_areRequestsConsistent_1 8 rfl rfl)
theorem dX2_areRequestsConsistent_32 : decode cX2_areRequestsConsistent 32 = .ok (.iload_n 1, 1) := dk_27 (dk_at dksX2_areRequestsConsistent_1 10 rfl rfl)
theorem dX2_areRequestsConsistent_33 : decode cX2_areRequestsConsistent 33 = .ok (.aload 4, 2) := dk_25 4 (dk_at dksX2_areRequestsConsistent_1 11 rfl rfl)
theorem dX2_areRequestsConsistent_35 : decode cX2_areRequestsConsistent 35 = .ok (.invokevirtual 223, 3) := dk_182 0 223 (dk_at dksX2_areRequestsConsistent_1 13 rfl rfl)
theorem dX2_areRequestsConsistent_38 : decode cX2_areRequestsConsistent 38 = .ok (.iand, 1) := dk_126 (dk_at dksX2_areRequestsConsistent_1 16 rfl rfl)
theorem dX2_areRequestsConsistent_39 : decode cX2_areRequestsConsistent 39 = .ok (.istore_n 1, 1) := dk_60 (dk_at dksX2_areRequestsConsistent_1 17 rfl rfl)
theorem dX2_areRequestsConsistent_40 : decode cX2_areRequestsConsistent 40 = .ok (.iload_n 2, 1) := dk_28 (dk_at dksX2_areRequestsConsistent_1 18 rfl rfl)
theorem dX2_areRequestsConsistent_41 : decode cX2_areRequestsConsistent 41 = .ok (.aload 4, 2) := dk_25 4 (dk_at dksX2_areRequestsConsistent_1 19 rfl rfl)
theorem dX2_areRequestsConsistent_43 : decode cX2_areRequestsConsistent 43 = .ok (.getfield 188, 3) := dk_180 0 188 (dk_at dksX2_areRequestsConsistent_1 21 rfl rfl)
theorem dX2_areRequestsConsistent_46 : decode cX2_areRequestsConsistent 46 = .ok (.arraylength, 1) := dk_190 (dk_at dksX2_areRequestsConsistent_2 0 rfl rfl)
theorem dX2_areRequestsConsistent_47 : decode cX2_areRequestsConsistent 47 = .ok (.aload_n 0, 1) := dk_42 (dk_at dksX2_areRequestsConsistent_2 1 rfl rfl)
theorem dX2_areRequestsConsistent_48 : decode cX2_areRequestsConsistent 48 = .ok (.getfield 28, 3) := dk_180 0 28 (dk_at dksX2_areRequestsConsistent_2 2 rfl rfl)
theorem dX2_areRequestsConsistent_51 : decode cX2_areRequestsConsistent 51 = .ok (.if_icmp .gt 7, 3) := dk_163 0 7 (dk_at dksX2_areRequestsConsistent_2 5 rfl rfl)
theorem dX2_areRequestsConsistent_54 : decode cX2_areRequestsConsistent 54 = .ok (.iconst 1, 1) := dk_4 (dk_at dksX2_areRequestsConsistent_2 8 rfl rfl)
theorem dX2_areRequestsConsistent_55 : decode cX2_areRequestsConsistent 55 = .ok (.goto 4, 3) := dk_167 0 4 (dk_at dksX2_areRequestsConsistent_2 9 rfl rfl)
theorem dX2_areRequestsConsistent_58 : decode cX2_areRequestsConsistent 58 = .ok (.iconst 0, 1) := dk_3 (dk_at dksX2_areRequestsConsistent_2 12 rfl rfl)
theorem dX2_areRequestsConsistent_59 : decode cX2_areRequestsConsistent 59 = .ok (.iand, 1) := dk_126 (dk_at dksX2_areRequestsConsistent_2 13 rfl rfl)
theorem dX2_areRequestsConsistent_60 : decode cX2_areRequestsConsistent 60 = .ok (.istore_n 2, 1) := dk_61 (dk_at dksX2_areRequestsConsistent_2 14 rfl rfl)
theorem dX2_areRequestsConsistent_61 : decode cX2_areRequestsConsistent 61 = .ok (.goto (-49), 3) := dk_167 255 207 (dk_at dksX2_areRequestsConsistent_2 15 rfl rfl)
theorem dX2_areRequestsConsistent_64 : decode cX2_areRequestsConsistent 64 = .ok (.iload_n 1, 1) := dk_27 (dk_at dksX2_areRequestsConsistent_2 18 rfl rfl)
theorem dX2_areRequestsConsistent_65 : decode cX2_areRequestsConsistent 65 = .ok (.ifCond .eq 28, 3) := dk_153 0 28 (dk_at dksX2_areRequestsConsistent_2 19 rfl rfl)
theorem dX2_areRequestsConsistent_68 : decode cX2_areRequestsConsistent 68 = .ok (.iload_n 2, 1) := dk_28 (dk_at dksX2_areRequestsConsistent_2 22 rfl rfl)
theorem dX2_areRequestsConsistent_69 : decode cX2_areRequestsConsistent 69 = .ok (.ifCond .eq 20, 3) := dk_153 0 20 (dk_at dksX2_areRequestsConsistent_3 0 rfl rfl)
theorem dX2_areRequestsConsistent_72 : decode cX2_areRequestsConsistent 72 = .ok (.aload_n 0, 1) := dk_42 (dk_at dksX2_areRequestsConsistent_3 3 rfl rfl)
theorem dX2_areRequestsConsistent_73 : decode cX2_areRequestsConsistent 73 = .ok (.invokevirtual 197, 3) := dk_182 0 197 (dk_at dksX2_areRequestsConsistent_3 4 rfl rfl)
theorem dX2_areRequestsConsistent_76 : decode cX2_areRequestsConsistent 76 = .ok (.invokevirtual 226, 3) := dk_182 0 226 (dk_at dksX2_areRequestsConsistent_3 7 rfl rfl)
theorem dX2_areRequestsConsistent_79 : decode cX2_areRequestsConsistent 79 = .ok (.aload_n 0, 1) := dk_42 (dk_at dksX2_areRequestsConsistent_3 10 rfl rfl)
theorem dX2_areRequestsConsistent_80 : decode cX2_areRequestsConsistent 80 = .ok (.invokevirtual 197, 3) := dk_182 0 197 (dk_at dksX2_areRequestsConsistent_3 11 rfl rfl)
theorem dX2_areRequestsConsistent_83 : decode cX2_areRequestsConsistent 83 = .ok (.invokevirtual 229, 3) := dk_182 0 229 (dk_at dksX2_areRequestsConsistent_3 14 rfl rfl)
theorem dX2_areRequestsConsistent_86 : decode cX2_areRequestsConsistent 86 = .ok (.if_icmp .ne 7, 3) := dk_160 0 7 (dk_at dksX2_areRequestsConsistent_3 17 rfl rfl)
theorem dX2_areRequestsConsistent_89 : decode cX2_areRequestsConsistent 89 = .ok (.iconst 1, 1) := dk_4 (dk_at dksX2_areRequestsConsistent_3 20 rfl rfl)
theorem dX2_areRequestsConsistent_90 : decode cX2_areRequestsConsistent 90 = .ok (.goto 4, 3) := dk_167 0 4 (dk_at dksX2_areRequestsConsistent_3 21 rfl rfl)
theorem dX2_areRequestsConsistent_93 : decode cX2_areRequestsConsistent 93 = .ok (.iconst 0, 1) := dk_3 (dk_at dksX2_areRequestsConsistent_4 0 rfl rfl)
theorem dX2_areRequestsConsistent_94 : decode cX2_areRequestsConsistent 94 = .ok (.ireturn, 1) := dk_172 (dk_at dksX2_areRequestsConsistent_4 1 rfl rfl)
abbrev cX2_page : ByteArray := prog_8_method_27_code
def yX2_page : MethodName := ⟨RX2, "page", "()LRoyalCourt$Page;"⟩
def dkwX2_page_2 : List UInt8 := [180, 0, 28, 43, 183, 0, 194, 176]
abbrev dktX2_page_2 : List UInt8 := dkwX2_page_2 ++ []
def dkwX2_page_1 : List UInt8 := [28, 182, 0, 96, 192, 0, 61, 180, 0, 188, 190, 79, 132, 2, 1, 167, 255, 229, 187, 0, 192, 89, 42]
abbrev dktX2_page_1 : List UInt8 := dkwX2_page_1 ++ dktX2_page_2
def dkwX2_page_0 : List UInt8 := [42, 180, 0, 24, 182, 0, 92, 188, 10, 76, 3, 61, 28, 43, 190, 162, 0, 27, 43, 28, 42, 180, 0, 24]
abbrev dktX2_page_0 : List UInt8 := dkwX2_page_0 ++ dktX2_page_1
theorem dksX2_page_0 : cX2_page.data.toList.drop 0 = dktX2_page_0 := by decide +kernel
theorem dksX2_page_1 : cX2_page.data.toList.drop 24 = dktX2_page_1 := dk_seg dksX2_page_0 24 rfl rfl
theorem dksX2_page_2 : cX2_page.data.toList.drop 47 = dktX2_page_2 := dk_seg dksX2_page_1 23 rfl rfl
theorem dX2_page_0 : decode cX2_page 0 = .ok (.aload_n 0, 1) := dk_42 (dk_at dksX2_page_0 0 rfl rfl)
theorem dX2_page_1 : decode cX2_page 1 = .ok (.getfield 24, 3) := dk_180 0 24 (dk_at dksX2_page_0 1 rfl rfl)
theorem dX2_page_4 : decode cX2_page 4 = .ok (.invokevirtual 92, 3) := dk_182 0 92 (dk_at dksX2_page_0 4 rfl rfl)
theorem dX2_page_7 : decode cX2_page 7 = .ok (.newarray .int, 2) := dk_188_10 (dk_at dksX2_page_0 7 rfl rfl)
theorem dX2_page_9 : decode cX2_page 9 = .ok (.astore_n 1, 1) := dk_76 (dk_at dksX2_page_0 9 rfl rfl)
theorem dX2_page_10 : decode cX2_page 10 = .ok (.iconst 0, 1) := dk_3 (dk_at dksX2_page_0 10 rfl rfl)
theorem dX2_page_11 : decode cX2_page 11 = .ok (.istore_n 2, 1) := dk_61 (dk_at dksX2_page_0 11 rfl rfl)
theorem dX2_page_12 : decode cX2_page 12 = .ok (.iload_n 2, 1) := dk_28 (dk_at dksX2_page_0 12 rfl rfl)
theorem dX2_page_13 : decode cX2_page 13 = .ok (.aload_n 1, 1) := dk_43 (dk_at dksX2_page_0 13 rfl rfl)
theorem dX2_page_14 : decode cX2_page 14 = .ok (.arraylength, 1) := dk_190 (dk_at dksX2_page_0 14 rfl rfl)
theorem dX2_page_15 : decode cX2_page 15 = .ok (.if_icmp .ge 27, 3) := dk_162 0 27 (dk_at dksX2_page_0 15 rfl rfl)
theorem dX2_page_18 : decode cX2_page 18 = .ok (.aload_n 1, 1) := dk_43 (dk_at dksX2_page_0 18 rfl rfl)
theorem dX2_page_19 : decode cX2_page 19 = .ok (.iload_n 2, 1) := dk_28 (dk_at dksX2_page_0 19 rfl rfl)
theorem dX2_page_20 : decode cX2_page 20 = .ok (.aload_n 0, 1) := dk_42 (dk_at dksX2_page_0 20 rfl rfl)
theorem dX2_page_21 : decode cX2_page 21 = .ok (.getfield 24, 3) := dk_180 0 24 (dk_at dksX2_page_0 21 rfl rfl)
theorem dX2_page_24 : decode cX2_page 24 = .ok (.iload_n 2, 1) := dk_28 (dk_at dksX2_page_1 0 rfl rfl)
theorem dX2_page_25 : decode cX2_page 25 = .ok (.invokevirtual 96, 3) := dk_182 0 96 (dk_at dksX2_page_1 1 rfl rfl)
theorem dX2_page_28 : decode cX2_page 28 = .ok (.checkcast 61, 3) := dk_192 0 61 (dk_at dksX2_page_1 4 rfl rfl)
theorem dX2_page_31 : decode cX2_page 31 = .ok (.getfield 188, 3) := dk_180 0 188 (dk_at dksX2_page_1 7 rfl rfl)
theorem dX2_page_34 : decode cX2_page 34 = .ok (.arraylength, 1) := dk_190 (dk_at dksX2_page_1 10 rfl rfl)
theorem dX2_page_35 : decode cX2_page 35 = .ok (.iastore, 1) := dk_79 (dk_at dksX2_page_1 11 rfl rfl)
theorem dX2_page_36 : decode cX2_page 36 = .ok (.iinc 2 1, 3) := dk_132 2 1 (dk_at dksX2_page_1 12 rfl rfl)
theorem dX2_page_39 : decode cX2_page 39 = .ok (.goto (-27), 3) := dk_167 255 229 (dk_at dksX2_page_1 15 rfl rfl)
theorem dX2_page_42 : decode cX2_page 42 = .ok (.new 192, 3) := dk_187 0 192 (dk_at dksX2_page_1 18 rfl rfl)
theorem dX2_page_45 : decode cX2_page 45 = .ok (.dup, 1) := dk_89 (dk_at dksX2_page_1 21 rfl rfl)
theorem dX2_page_46 : decode cX2_page 46 = .ok (.aload_n 0, 1) := dk_42 (dk_at dksX2_page_1 22 rfl rfl)
theorem dX2_page_47 : decode cX2_page 47 = .ok (.getfield 28, 3) := dk_180 0 28 (dk_at dksX2_page_2 0 rfl rfl)
theorem dX2_page_50 : decode cX2_page 50 = .ok (.aload_n 1, 1) := dk_43 (dk_at dksX2_page_2 3 rfl rfl)
theorem dX2_page_51 : decode cX2_page 51 = .ok (.invokespecial 194, 3) := dk_183 0 194 (dk_at dksX2_page_2 4 rfl rfl)
theorem dX2_page_54 : decode cX2_page 54 = .ok (.areturn, 1) := dk_176 (dk_at dksX2_page_2 7 rfl rfl)
abbrev cX2_copyFrom : ByteArray := prog_8_method_2_code
def yX2_copyFrom : MethodName := ⟨RX2, "copyFrom", "(LRoyalCourt$State;)V"⟩
def dkwX2_copyFrom_6 : List UInt8 := [181, 0, 77, 177]
abbrev dktX2_copyFrom_6 : List UInt8 := dkwX2_copyFrom_6 ++ []
def dkwX2_copyFrom_5 : List UInt8 := [181, 0, 67, 42, 43, 180, 0, 70, 181, 0, 70, 42, 43, 180, 0, 74, 181, 0, 74, 42, 43, 180, 0, 77]
abbrev dktX2_copyFrom_5 : List UInt8 := dkwX2_copyFrom_5 ++ dktX2_copyFrom_6
def dkwX2_copyFrom_4 : List UInt8 := [180, 0, 24, 45, 182, 0, 63, 87, 167, 255, 228, 42, 43, 180, 0, 28, 181, 0, 28, 42, 43, 180, 0, 67]
abbrev dktX2_copyFrom_4 : List UInt8 := dkwX2_copyFrom_4 ++ dktX2_copyFrom_5
def dkwX2_copyFrom_3 : List UInt8 := [182, 0, 47, 77, 44, 185, 0, 51, 1, 0, 153, 0, 25, 44, 185, 0, 57, 1, 0, 192, 0, 61, 78, 42]
abbrev dktX2_copyFrom_3 : List UInt8 := dkwX2_copyFrom_3 ++ dktX2_copyFrom_4
def dkwX2_copyFrom_2 : List UInt8 := [16, 8, 184, 0, 35, 42, 43, 180, 0, 41, 181, 0, 41, 42, 180, 0, 24, 182, 0, 44, 43, 180, 0, 24]
abbrev dktX2_copyFrom_2 : List UInt8 := dkwX2_copyFrom_2 ++ dktX2_copyFrom_3
def dkwX2_copyFrom_1 : List UInt8 := [180, 0, 15, 3, 42, 180, 0, 15, 3, 16, 8, 184, 0, 35, 43, 180, 0, 18, 3, 42, 180, 0, 18, 3]
abbrev dktX2_copyFrom_1 : List UInt8 := dkwX2_copyFrom_1 ++ dktX2_copyFrom_2
def dkwX2_copyFrom_0 : List UInt8 := [42, 43, 180, 0, 32, 181, 0, 32, 43, 180, 0, 9, 3, 42, 180, 0, 9, 3, 16, 8, 184, 0, 35, 43]
abbrev dktX2_copyFrom_0 : List UInt8 := dkwX2_copyFrom_0 ++ dktX2_copyFrom_1
theorem dksX2_copyFrom_0 : cX2_copyFrom.data.toList.drop 0 = dktX2_copyFrom_0 := by decide +kernel
theorem dksX2_copyFrom_1 : cX2_copyFrom.data.toList.drop 24 = dktX2_copyFrom_1 := dk_seg dksX2_copyFrom_0 24 rfl rfl
theorem dksX2_copyFrom_2 : cX2_copyFrom.data.toList.drop 48 = dktX2_copyFrom_2 := dk_seg dksX2_copyFrom_1 24 rfl rfl
theorem dksX2_copyFrom_3 : cX2_copyFrom.data.toList.drop 72 = dktX2_copyFrom_3 := dk_seg dksX2_copyFrom_2 24 rfl rfl
theorem dksX2_copyFrom_4 : cX2_copyFrom.data.toList.drop 96 = dktX2_copyFrom_4 := dk_seg dksX2_copyFrom_3 24 rfl rfl
theorem dksX2_copyFrom_5 : cX2_copyFrom.data.toList.drop 120 = dktX2_copyFrom_5 := dk_seg dksX2_copyFrom_4 24 rfl rfl
theorem dksX2_copyFrom_6 : cX2_copyFrom.data.toList.drop 144 = dktX2_copyFrom_6 := dk_seg dksX2_copyFrom_5 24 rfl rfl
theorem dX2_copyFrom_0 : decode cX2_copyFrom 0 = .ok (.aload_n 0, 1) := dk_42 (dk_at dksX2_copyFrom_0 0 rfl rfl)
theorem dX2_copyFrom_1 : decode cX2_copyFrom 1 = .ok (.aload_n 1, 1) := dk_43 (dk_at dksX2_copyFrom_0 1 rfl rfl)
theorem dX2_copyFrom_2 : decode cX2_copyFrom 2 = .ok (.getfield 32, 3) := dk_180 0 32 (dk_at dksX2_copyFrom_0 2 rfl rfl)
theorem dX2_copyFrom_5 : decode cX2_copyFrom 5 = .ok (.putfield 32, 3) := dk_181 0 32 (dk_at dksX2_copyFrom_0 5 rfl rfl)
theorem dX2_copyFrom_8 : decode cX2_copyFrom 8 = .ok (.aload_n 1, 1) := dk_43 (dk_at dksX2_copyFrom_0 8 rfl rfl)
theorem dX2_copyFrom_9 : decode cX2_copyFrom 9 = .ok (.getfield 9, 3) := dk_180 0 9 (dk_at dksX2_copyFrom_0 9 rfl rfl)
theorem dX2_copyFrom_12 : decode cX2_copyFrom 12 = .ok (.iconst 0, 1) := dk_3 (dk_at dksX2_copyFrom_0 12 rfl rfl)
theorem dX2_copyFrom_13 : decode cX2_copyFrom 13 = .ok (.aload_n 0, 1) := dk_42 (dk_at dksX2_copyFrom_0 13 rfl rfl)
theorem dX2_copyFrom_14 : decode cX2_copyFrom 14 = .ok (.getfield 9, 3) := dk_180 0 9 (dk_at dksX2_copyFrom_0 14 rfl rfl)
theorem dX2_copyFrom_17 : decode cX2_copyFrom 17 = .ok (.iconst 0, 1) := dk_3 (dk_at dksX2_copyFrom_0 17 rfl rfl)
theorem dX2_copyFrom_18 : decode cX2_copyFrom 18 = .ok (.bipush 8, 2) := dk_16 8 (dk_at dksX2_copyFrom_0 18 rfl rfl)
theorem dX2_copyFrom_20 : decode cX2_copyFrom 20 = .ok (.invokestatic 35, 3) := dk_184 0 35 (dk_at dksX2_copyFrom_0 20 rfl rfl)
theorem dX2_copyFrom_23 : decode cX2_copyFrom 23 = .ok (.aload_n 1, 1) := dk_43 (dk_at dksX2_copyFrom_0 23 rfl rfl)
theorem dX2_copyFrom_24 : decode cX2_copyFrom 24 = .ok (.getfield 15, 3) := dk_180 0 15 (dk_at dksX2_copyFrom_1 0 rfl rfl)
theorem dX2_copyFrom_27 : decode cX2_copyFrom 27 = .ok (.iconst 0, 1) := dk_3 (dk_at dksX2_copyFrom_1 3 rfl rfl)
theorem dX2_copyFrom_28 : decode cX2_copyFrom 28 = .ok (.aload_n 0, 1) := dk_42 (dk_at dksX2_copyFrom_1 4 rfl rfl)
theorem dX2_copyFrom_29 : decode cX2_copyFrom 29 = .ok (.getfield 15, 3) := dk_180 0 15 (dk_at dksX2_copyFrom_1 5 rfl rfl)
theorem dX2_copyFrom_32 : decode cX2_copyFrom 32 = .ok (.iconst 0, 1) := dk_3 (dk_at dksX2_copyFrom_1 8 rfl rfl)
theorem dX2_copyFrom_33 : decode cX2_copyFrom 33 = .ok (.bipush 8, 2) := dk_16 8 (dk_at dksX2_copyFrom_1 9 rfl rfl)
theorem dX2_copyFrom_35 : decode cX2_copyFrom 35 = .ok (.invokestatic 35, 3) := dk_184 0 35 (dk_at dksX2_copyFrom_1 11 rfl rfl)
theorem dX2_copyFrom_38 : decode cX2_copyFrom 38 = .ok (.aload_n 1, 1) := dk_43 (dk_at dksX2_copyFrom_1 14 rfl rfl)
theorem dX2_copyFrom_39 : decode cX2_copyFrom 39 = .ok (.getfield 18, 3) := dk_180 0 18 (dk_at dksX2_copyFrom_1 15 rfl rfl)
theorem dX2_copyFrom_42 : decode cX2_copyFrom 42 = .ok (.iconst 0, 1) := dk_3 (dk_at dksX2_copyFrom_1 18 rfl rfl)
theorem dX2_copyFrom_43 : decode cX2_copyFrom 43 = .ok (.aload_n 0, 1) := dk_42 (dk_at dksX2_copyFrom_1 19 rfl rfl)
theorem dX2_copyFrom_44 : decode cX2_copyFrom 44 = .ok (.getfield 18, 3) := dk_180 0 18 (dk_at dksX2_copyFrom_1 20 rfl rfl)
theorem dX2_copyFrom_47 : decode cX2_copyFrom 47 = .ok (.iconst 0, 1) := dk_3 (dk_at dksX2_copyFrom_1 23 rfl rfl)
theorem dX2_copyFrom_48 : decode cX2_copyFrom 48 = .ok (.bipush 8, 2) := dk_16 8 (dk_at dksX2_copyFrom_2 0 rfl rfl)
theorem dX2_copyFrom_50 : decode cX2_copyFrom 50 = .ok (.invokestatic 35, 3) := dk_184 0 35 (dk_at dksX2_copyFrom_2 2 rfl rfl)
theorem dX2_copyFrom_53 : decode cX2_copyFrom 53 = .ok (.aload_n 0, 1) := dk_42 (dk_at dksX2_copyFrom_2 5 rfl rfl)
theorem dX2_copyFrom_54 : decode cX2_copyFrom 54 = .ok (.aload_n 1, 1) := dk_43 (dk_at dksX2_copyFrom_2 6 rfl rfl)
theorem dX2_copyFrom_55 : decode cX2_copyFrom 55 = .ok (.getfield 41, 3) := dk_180 0 41 (dk_at dksX2_copyFrom_2 7 rfl rfl)
theorem dX2_copyFrom_58 : decode cX2_copyFrom 58 = .ok (.putfield 41, 3) := dk_181 0 41 (dk_at dksX2_copyFrom_2 10 rfl rfl)
theorem dX2_copyFrom_61 : decode cX2_copyFrom 61 = .ok (.aload_n 0, 1) := dk_42 (dk_at dksX2_copyFrom_2 13 rfl rfl)
theorem dX2_copyFrom_62 : decode cX2_copyFrom 62 = .ok (.getfield 24, 3) := dk_180 0 24 (dk_at dksX2_copyFrom_2 14 rfl rfl)
theorem dX2_copyFrom_65 : decode cX2_copyFrom 65 = .ok (.invokevirtual 44, 3) := dk_182 0 44 (dk_at dksX2_copyFrom_2 17 rfl rfl)
theorem dX2_copyFrom_68 : decode cX2_copyFrom 68 = .ok (.aload_n 1, 1) := dk_43 (dk_at dksX2_copyFrom_2 20 rfl rfl)
theorem dX2_copyFrom_69 : decode cX2_copyFrom 69 = .ok (.getfield 24, 3) := dk_180 0 24 (dk_at dksX2_copyFrom_2 21 rfl rfl)
theorem dX2_copyFrom_72 : decode cX2_copyFrom 72 = .ok (.invokevirtual 47, 3) := dk_182 0 47 (dk_at dksX2_copyFrom_3 0 rfl rfl)
theorem dX2_copyFrom_75 : decode cX2_copyFrom 75 = .ok (.astore_n 2, 1) := dk_77 (dk_at dksX2_copyFrom_3 3 rfl rfl)
theorem dX2_copyFrom_76 : decode cX2_copyFrom 76 = .ok (.aload_n 2, 1) := dk_44 (dk_at dksX2_copyFrom_3 4 rfl rfl)
theorem dX2_copyFrom_77 : decode cX2_copyFrom 77 = .ok (.invokeinterface 51 1, 5) := by decide +kernel
theorem dX2_copyFrom_82 : decode cX2_copyFrom 82 = .ok (.ifCond .eq 25, 3) := dk_153 0 25 (dk_at dksX2_copyFrom_3 10 rfl rfl)
theorem dX2_copyFrom_85 : decode cX2_copyFrom 85 = .ok (.aload_n 2, 1) := dk_44 (dk_at dksX2_copyFrom_3 13 rfl rfl)
theorem dX2_copyFrom_86 : decode cX2_copyFrom 86 = .ok (.invokeinterface 57 1, 5) := by decide +kernel
theorem dX2_copyFrom_91 : decode cX2_copyFrom 91 = .ok (.checkcast 61, 3) := dk_192 0 61 (dk_at dksX2_copyFrom_3 19 rfl rfl)
theorem dX2_copyFrom_94 : decode cX2_copyFrom 94 = .ok (.astore_n 3, 1) := dk_78 (dk_at dksX2_copyFrom_3 22 rfl rfl)
theorem dX2_copyFrom_95 : decode cX2_copyFrom 95 = .ok (.aload_n 0, 1) := dk_42 (dk_at dksX2_copyFrom_3 23 rfl rfl)
theorem dX2_copyFrom_96 : decode cX2_copyFrom 96 = .ok (.getfield 24, 3) := dk_180 0 24 (dk_at dksX2_copyFrom_4 0 rfl rfl)
theorem dX2_copyFrom_99 : decode cX2_copyFrom 99 = .ok (.aload_n 3, 1) := dk_45 (dk_at dksX2_copyFrom_4 3 rfl rfl)
theorem dX2_copyFrom_100 : decode cX2_copyFrom 100 = .ok (.invokevirtual 63, 3) := dk_182 0 63 (dk_at dksX2_copyFrom_4 4 rfl rfl)
theorem dX2_copyFrom_103 : decode cX2_copyFrom 103 = .ok (.pop, 1) := dk_87 (dk_at dksX2_copyFrom_4 7 rfl rfl)
theorem dX2_copyFrom_104 : decode cX2_copyFrom 104 = .ok (.goto (-28), 3) := dk_167 255 228 (dk_at dksX2_copyFrom_4 8 rfl rfl)
theorem dX2_copyFrom_107 : decode cX2_copyFrom 107 = .ok (.aload_n 0, 1) := dk_42 (dk_at dksX2_copyFrom_4 11 rfl rfl)
theorem dX2_copyFrom_108 : decode cX2_copyFrom 108 = .ok (.aload_n 1, 1) := dk_43 (dk_at dksX2_copyFrom_4 12 rfl rfl)
theorem dX2_copyFrom_109 : decode cX2_copyFrom 109 = .ok (.getfield 28, 3) := dk_180 0 28 (dk_at dksX2_copyFrom_4 13 rfl rfl)
theorem dX2_copyFrom_112 : decode cX2_copyFrom 112 = .ok (.putfield 28, 3) := dk_181 0 28 (dk_at dksX2_copyFrom_4 16 rfl rfl)
theorem dX2_copyFrom_115 : decode cX2_copyFrom 115 = .ok (.aload_n 0, 1) := dk_42 (dk_at dksX2_copyFrom_4 19 rfl rfl)
theorem dX2_copyFrom_116 : decode cX2_copyFrom 116 = .ok (.aload_n 1, 1) := dk_43 (dk_at dksX2_copyFrom_4 20 rfl rfl)
theorem dX2_copyFrom_117 : decode cX2_copyFrom 117 = .ok (.getfield 67, 3) := dk_180 0 67 (dk_at dksX2_copyFrom_4 21 rfl rfl)
theorem dX2_copyFrom_120 : decode cX2_copyFrom 120 = .ok (.putfield 67, 3) := dk_181 0 67 (dk_at dksX2_copyFrom_5 0 rfl rfl)
theorem dX2_copyFrom_123 : decode cX2_copyFrom 123 = .ok (.aload_n 0, 1) := dk_42 (dk_at dksX2_copyFrom_5 3 rfl rfl)
theorem dX2_copyFrom_124 : decode cX2_copyFrom 124 = .ok (.aload_n 1, 1) := dk_43 (dk_at dksX2_copyFrom_5 4 rfl rfl)
theorem dX2_copyFrom_125 : decode cX2_copyFrom 125 = .ok (.getfield 70, 3) := dk_180 0 70 (dk_at dksX2_copyFrom_5 5 rfl rfl)
theorem dX2_copyFrom_128 : decode cX2_copyFrom 128 = .ok (.putfield 70, 3) := dk_181 0 70 (dk_at dksX2_copyFrom_5 8 rfl rfl)
theorem dX2_copyFrom_131 : decode cX2_copyFrom 131 = .ok (.aload_n 0, 1) := dk_42 (dk_at dksX2_copyFrom_5 11 rfl rfl)
theorem dX2_copyFrom_132 : decode cX2_copyFrom 132 = .ok (.aload_n 1, 1) := dk_43 (dk_at dksX2_copyFrom_5 12 rfl rfl)
theorem dX2_copyFrom_133 : decode cX2_copyFrom 133 = .ok (.getfield 74, 3) := dk_180 0 74 (dk_at dksX2_copyFrom_5 13 rfl rfl)
theorem dX2_copyFrom_136 : decode cX2_copyFrom 136 = .ok (.putfield 74, 3) := dk_181 0 74 (dk_at dksX2_copyFrom_5 16 rfl rfl)
theorem dX2_copyFrom_139 : decode cX2_copyFrom 139 = .ok (.aload_n 0, 1) := dk_42 (dk_at dksX2_copyFrom_5 19 rfl rfl)
theorem dX2_copyFrom_140 : decode cX2_copyFrom 140 = .ok (.aload_n 1, 1) := dk_43 (dk_at dksX2_copyFrom_5 20 rfl rfl)
theorem dX2_copyFrom_141 : decode cX2_copyFrom 141 = .ok (.getfield 77, 3) := dk_180 0 77 (dk_at dksX2_copyFrom_5 21 rfl rfl)
theorem dX2_copyFrom_144 : decode cX2_copyFrom 144 = .ok (.putfield 77, 3) := dk_181 0 77 (dk_at dksX2_copyFrom_6 0 rfl rfl)
theorem dX2_copyFrom_147 : decode cX2_copyFrom 147 = .ok (.return_, 1) := dk_177 (dk_at dksX2_copyFrom_6 3 rfl rfl)
abbrev cX2_addCourtier : ByteArray := prog_8_method_6_code
def yX2_addCourtier : MethodName := ⟨RX2, "addCourtier", "(I)I"⟩
def dkwX2_addCourtier_3 : List UInt8 := [4, 100, 172]
abbrev dktX2_addCourtier_3 : List UInt8 := dkwX2_addCourtier_3 ++ []
def dkwX2_addCourtier_2 : List UInt8 := [42, 180, 0, 18, 42, 180, 0, 32, 3, 79, 42, 89, 180, 0, 32, 4, 96, 181, 0, 32, 42, 180, 0, 32]
abbrev dktX2_addCourtier_2 : List UInt8 := dkwX2_addCourtier_2 ++ dktX2_addCourtier_3
def dkwX2_addCourtier_1 : List UInt8 := [184, 0, 103, 42, 180, 0, 9, 42, 180, 0, 32, 27, 79, 42, 180, 0, 15, 42, 180, 0, 32, 16, 20, 79]
abbrev dktX2_addCourtier_1 : List UInt8 := dkwX2_addCourtier_1 ++ dktX2_addCourtier_2
def dkwX2_addCourtier_0 : List UInt8 := [27, 4, 16, 99, 184, 0, 80, 184, 0, 100, 42, 180, 0, 32, 16, 8, 162, 0, 7, 4, 167, 0, 4, 3]
abbrev dktX2_addCourtier_0 : List UInt8 := dkwX2_addCourtier_0 ++ dktX2_addCourtier_1
theorem dksX2_addCourtier_0 : cX2_addCourtier.data.toList.drop 0 = dktX2_addCourtier_0 := by decide +kernel
theorem dksX2_addCourtier_1 : cX2_addCourtier.data.toList.drop 24 = dktX2_addCourtier_1 := dk_seg dksX2_addCourtier_0 24 rfl rfl
theorem dksX2_addCourtier_2 : cX2_addCourtier.data.toList.drop 48 = dktX2_addCourtier_2 := dk_seg dksX2_addCourtier_1 24 rfl rfl
theorem dksX2_addCourtier_3 : cX2_addCourtier.data.toList.drop 72 = dktX2_addCourtier_3 := dk_seg dksX2_addCourtier_2 24 rfl rfl
theorem dX2_addCourtier_0 : decode cX2_addCourtier 0 = .ok (.iload_n 1, 1) := dk_27 (dk_at dksX2_addCourtier_0 0 rfl rfl)
theorem dX2_addCourtier_1 : decode cX2_addCourtier 1 = .ok (.iconst 1, 1) := dk_4 (dk_at dksX2_addCourtier_0 1 rfl rfl)
theorem dX2_addCourtier_2 : decode cX2_addCourtier 2 = .ok (.bipush 99, 2) := dk_16 99 (dk_at dksX2_addCourtier_0 2 rfl rfl)
theorem dX2_addCourtier_4 : decode cX2_addCourtier 4 = .ok (.invokestatic 80, 3) := dk_184 0 80 (dk_at dksX2_addCourtier_0 4 rfl rfl)
theorem dX2_addCourtier_7 : decode cX2_addCourtier 7 = .ok (.invokestatic 100, 3) := dk_184 0 100 (dk_at dksX2_addCourtier_0 7 rfl rfl)
theorem dX2_addCourtier_10 : decode cX2_addCourtier 10 = .ok (.aload_n 0, 1) := dk_42 (dk_at dksX2_addCourtier_0 10 rfl rfl)
theorem dX2_addCourtier_11 : decode cX2_addCourtier 11 = .ok (.getfield 32, 3) := dk_180 0 32 (dk_at dksX2_addCourtier_0 11 rfl rfl)
theorem dX2_addCourtier_14 : decode cX2_addCourtier 14 = .ok (.bipush 8, 2) := dk_16 8 (dk_at dksX2_addCourtier_0 14 rfl rfl)
theorem dX2_addCourtier_16 : decode cX2_addCourtier 16 = .ok (.if_icmp .ge 7, 3) := dk_162 0 7 (dk_at dksX2_addCourtier_0 16 rfl rfl)
theorem dX2_addCourtier_19 : decode cX2_addCourtier 19 = .ok (.iconst 1, 1) := dk_4 (dk_at dksX2_addCourtier_0 19 rfl rfl)
theorem dX2_addCourtier_20 : decode cX2_addCourtier 20 = .ok (.goto 4, 3) := dk_167 0 4 (dk_at dksX2_addCourtier_0 20 rfl rfl)
theorem dX2_addCourtier_23 : decode cX2_addCourtier 23 = .ok (.iconst 0, 1) := dk_3 (dk_at dksX2_addCourtier_0 23 rfl rfl)
theorem dX2_addCourtier_24 : decode cX2_addCourtier 24 = .ok (.invokestatic 103, 3) := dk_184 0 103 (dk_at dksX2_addCourtier_1 0 rfl rfl)
theorem dX2_addCourtier_27 : decode cX2_addCourtier 27 = .ok (.aload_n 0, 1) := dk_42 (dk_at dksX2_addCourtier_1 3 rfl rfl)
theorem dX2_addCourtier_28 : decode cX2_addCourtier 28 = .ok (.getfield 9, 3) := dk_180 0 9 (dk_at dksX2_addCourtier_1 4 rfl rfl)
theorem dX2_addCourtier_31 : decode cX2_addCourtier 31 = .ok (.aload_n 0, 1) := dk_42 (dk_at dksX2_addCourtier_1 7 rfl rfl)
theorem dX2_addCourtier_32 : decode cX2_addCourtier 32 = .ok (.getfield 32, 3) := dk_180 0 32 (dk_at dksX2_addCourtier_1 8 rfl rfl)
theorem dX2_addCourtier_35 : decode cX2_addCourtier 35 = .ok (.iload_n 1, 1) := dk_27 (dk_at dksX2_addCourtier_1 11 rfl rfl)
theorem dX2_addCourtier_36 : decode cX2_addCourtier 36 = .ok (.iastore, 1) := dk_79 (dk_at dksX2_addCourtier_1 12 rfl rfl)
theorem dX2_addCourtier_37 : decode cX2_addCourtier 37 = .ok (.aload_n 0, 1) := dk_42 (dk_at dksX2_addCourtier_1 13 rfl rfl)
theorem dX2_addCourtier_38 : decode cX2_addCourtier 38 = .ok (.getfield 15, 3) := dk_180 0 15 (dk_at dksX2_addCourtier_1 14 rfl rfl)
theorem dX2_addCourtier_41 : decode cX2_addCourtier 41 = .ok (.aload_n 0, 1) := dk_42 (dk_at dksX2_addCourtier_1 17 rfl rfl)
theorem dX2_addCourtier_42 : decode cX2_addCourtier 42 = .ok (.getfield 32, 3) := dk_180 0 32 (dk_at dksX2_addCourtier_1 18 rfl rfl)
theorem dX2_addCourtier_45 : decode cX2_addCourtier 45 = .ok (.bipush 20, 2) := dk_16 20 (dk_at dksX2_addCourtier_1 21 rfl rfl)
theorem dX2_addCourtier_47 : decode cX2_addCourtier 47 = .ok (.iastore, 1) := dk_79 (dk_at dksX2_addCourtier_1 23 rfl rfl)
theorem dX2_addCourtier_48 : decode cX2_addCourtier 48 = .ok (.aload_n 0, 1) := dk_42 (dk_at dksX2_addCourtier_2 0 rfl rfl)
theorem dX2_addCourtier_49 : decode cX2_addCourtier 49 = .ok (.getfield 18, 3) := dk_180 0 18 (dk_at dksX2_addCourtier_2 1 rfl rfl)
theorem dX2_addCourtier_52 : decode cX2_addCourtier 52 = .ok (.aload_n 0, 1) := dk_42 (dk_at dksX2_addCourtier_2 4 rfl rfl)
theorem dX2_addCourtier_53 : decode cX2_addCourtier 53 = .ok (.getfield 32, 3) := dk_180 0 32 (dk_at dksX2_addCourtier_2 5 rfl rfl)
theorem dX2_addCourtier_56 : decode cX2_addCourtier 56 = .ok (.iconst 0, 1) := dk_3 (dk_at dksX2_addCourtier_2 8 rfl rfl)
theorem dX2_addCourtier_57 : decode cX2_addCourtier 57 = .ok (.iastore, 1) := dk_79 (dk_at dksX2_addCourtier_2 9 rfl rfl)
theorem dX2_addCourtier_58 : decode cX2_addCourtier 58 = .ok (.aload_n 0, 1) := dk_42 (dk_at dksX2_addCourtier_2 10 rfl rfl)
theorem dX2_addCourtier_59 : decode cX2_addCourtier 59 = .ok (.dup, 1) := dk_89 (dk_at dksX2_addCourtier_2 11 rfl rfl)
theorem dX2_addCourtier_60 : decode cX2_addCourtier 60 = .ok (.getfield 32, 3) := dk_180 0 32 (dk_at dksX2_addCourtier_2 12 rfl rfl)
theorem dX2_addCourtier_63 : decode cX2_addCourtier 63 = .ok (.iconst 1, 1) := dk_4 (dk_at dksX2_addCourtier_2 15 rfl rfl)
theorem dX2_addCourtier_64 : decode cX2_addCourtier 64 = .ok (.iadd, 1) := dk_96 (dk_at dksX2_addCourtier_2 16 rfl rfl)
theorem dX2_addCourtier_65 : decode cX2_addCourtier 65 = .ok (.putfield 32, 3) := dk_181 0 32 (dk_at dksX2_addCourtier_2 17 rfl rfl)
theorem dX2_addCourtier_68 : decode cX2_addCourtier 68 = .ok (.aload_n 0, 1) := dk_42 (dk_at dksX2_addCourtier_2 20 rfl rfl)
theorem dX2_addCourtier_69 : decode cX2_addCourtier 69 = .ok (.getfield 32, 3) := dk_180 0 32 (dk_at dksX2_addCourtier_2 21 rfl rfl)
theorem dX2_addCourtier_72 : decode cX2_addCourtier 72 = .ok (.iconst 1, 1) := dk_4 (dk_at dksX2_addCourtier_3 0 rfl rfl)
theorem dX2_addCourtier_73 : decode cX2_addCourtier 73 = .ok (.isub, 1) := dk_100 (dk_at dksX2_addCourtier_3 1 rfl rfl)
theorem dX2_addCourtier_74 : decode cX2_addCourtier 74 = .ok (.ireturn, 1) := dk_172 (dk_at dksX2_addCourtier_3 2 rfl rfl)
abbrev cX2_addRule : ByteArray := prog_8_method_8_code
def yX2_addRule : MethodName := ⟨RX2, "addRule", "(II)I"⟩
def dkwX2_addRule_3 : List UInt8 := [181, 0, 41, 42, 180, 0, 41, 172]
abbrev dktX2_addRule_3 : List UInt8 := dkwX2_addRule_3 ++ []
def dkwX2_addRule_2 : List UInt8 := [184, 0, 103, 42, 180, 0, 18, 27, 92, 46, 4, 28, 120, 128, 79, 42, 89, 180, 0, 41, 4, 96]
abbrev dktX2_addRule_2 : List UInt8 := dkwX2_addRule_2 ++ dktX2_addRule_3
def dkwX2_addRule_1 : List UInt8 := [46, 28, 184, 0, 106, 154, 0, 16, 42, 28, 27, 182, 0, 110, 154, 0, 7, 4, 167, 0, 4, 3]
abbrev dktX2_addRule_1 : List UInt8 := dkwX2_addRule_1 ++ dktX2_addRule_2
def dkwX2_addRule_0 : List UInt8 := [42, 27, 28, 182, 0, 113, 27, 28, 159, 0, 7, 4, 167, 0, 4, 3, 184, 0, 100, 42, 180, 0, 18, 27]
abbrev dktX2_addRule_0 : List UInt8 := dkwX2_addRule_0 ++ dktX2_addRule_1
theorem dksX2_addRule_0 : cX2_addRule.data.toList.drop 0 = dktX2_addRule_0 := by decide +kernel
theorem dksX2_addRule_1 : cX2_addRule.data.toList.drop 24 = dktX2_addRule_1 := dk_seg dksX2_addRule_0 24 rfl rfl
theorem dksX2_addRule_2 : cX2_addRule.data.toList.drop 46 = dktX2_addRule_2 := dk_seg dksX2_addRule_1 22 rfl rfl
theorem dksX2_addRule_3 : cX2_addRule.data.toList.drop 68 = dktX2_addRule_3 := dk_seg dksX2_addRule_2 22 rfl rfl
theorem dX2_addRule_0 : decode cX2_addRule 0 = .ok (.aload_n 0, 1) := dk_42 (dk_at dksX2_addRule_0 0 rfl rfl)
theorem dX2_addRule_1 : decode cX2_addRule 1 = .ok (.iload_n 1, 1) := dk_27 (dk_at dksX2_addRule_0 1 rfl rfl)
theorem dX2_addRule_2 : decode cX2_addRule 2 = .ok (.iload_n 2, 1) := dk_28 (dk_at dksX2_addRule_0 2 rfl rfl)
theorem dX2_addRule_3 : decode cX2_addRule 3 = .ok (.invokevirtual 113, 3) := dk_182 0 113 (dk_at dksX2_addRule_0 3 rfl rfl)
theorem dX2_addRule_6 : decode cX2_addRule 6 = .ok (.iload_n 1, 1) := dk_27 (dk_at dksX2_addRule_0 6 rfl rfl)
theorem dX2_addRule_7 : decode cX2_addRule 7 = .ok (.iload_n 2, 1) := dk_28 (dk_at dksX2_addRule_0 7 rfl rfl)
theorem dX2_addRule_8 : decode cX2_addRule 8 = .ok (.if_icmp .eq 7, 3) := dk_159 0 7 (dk_at dksX2_addRule_0 8 rfl rfl)
theorem dX2_addRule_11 : decode cX2_addRule 11 = .ok (.iconst 1, 1) := dk_4 (dk_at dksX2_addRule_0 11 rfl rfl)
theorem dX2_addRule_12 : decode cX2_addRule 12 = .ok (.goto 4, 3) := dk_167 0 4 (dk_at dksX2_addRule_0 12 rfl rfl)
theorem dX2_addRule_15 : decode cX2_addRule 15 = .ok (.iconst 0, 1) := dk_3 (dk_at dksX2_addRule_0 15 rfl rfl)
theorem dX2_addRule_16 : decode cX2_addRule 16 = .ok (.invokestatic 100, 3) := dk_184 0 100 (dk_at dksX2_addRule_0 16 rfl rfl)
theorem dX2_addRule_19 : decode cX2_addRule 19 = .ok (.aload_n 0, 1) := dk_42 (dk_at dksX2_addRule_0 19 rfl rfl)
theorem dX2_addRule_20 : decode cX2_addRule 20 = .ok (.getfield 18, 3) := dk_180 0 18 (dk_at dksX2_addRule_0 20 rfl rfl)
theorem dX2_addRule_23 : decode cX2_addRule 23 = .ok (.iload_n 1, 1) := dk_27 (dk_at dksX2_addRule_0 23 rfl rfl)
theorem dX2_addRule_24 : decode cX2_addRule 24 = .ok (.iaload, 1) := dk_46 (dk_at dksX2_addRule_1 0 rfl rfl)
theorem dX2_addRule_25 : decode cX2_addRule 25 = .ok (.iload_n 2, 1) := dk_28 (dk_at dksX2_addRule_1 1 rfl rfl)
theorem dX2_addRule_26 : decode cX2_addRule 26 = .ok (.invokestatic 106, 3) := dk_184 0 106 (dk_at dksX2_addRule_1 2 rfl rfl)
theorem dX2_addRule_29 : decode cX2_addRule 29 = .ok (.ifCond .ne 16, 3) := dk_154 0 16 (dk_at dksX2_addRule_1 5 rfl rfl)
theorem dX2_addRule_32 : decode cX2_addRule 32 = .ok (.aload_n 0, 1) := dk_42 (dk_at dksX2_addRule_1 8 rfl rfl)
theorem dX2_addRule_33 : decode cX2_addRule 33 = .ok (.iload_n 2, 1) := dk_28 (dk_at dksX2_addRule_1 9 rfl rfl)
theorem dX2_addRule_34 : decode cX2_addRule 34 = .ok (.iload_n 1, 1) := dk_27 (dk_at dksX2_addRule_1 10 rfl rfl)
theorem dX2_addRule_35 : decode cX2_addRule 35 = .ok (.invokevirtual 110, 3) := dk_182 0 110 (dk_at dksX2_addRule_1 11 rfl rfl)
theorem dX2_addRule_38 : decode cX2_addRule 38 = .ok (.ifCond .ne 7, 3) := dk_154 0 7 (dk_at dksX2_addRule_1 14 rfl rfl)
theorem dX2_addRule_41 : decode cX2_addRule 41 = .ok (.iconst 1, 1) := dk_4 (dk_at dksX2_addRule_1 17 rfl rfl)
theorem dX2_addRule_42 : decode cX2_addRule 42 = .ok (.goto 4, 3) := dk_167 0 4 (dk_at dksX2_addRule_1 18 rfl rfl)
theorem dX2_addRule_45 : decode cX2_addRule 45 = .ok (.iconst 0, 1) := dk_3 (dk_at dksX2_addRule_1 21 rfl rfl)
theorem dX2_addRule_46 : decode cX2_addRule 46 = .ok (.invokestatic 103, 3) := dk_184 0 103 (dk_at dksX2_addRule_2 0 rfl rfl)
theorem dX2_addRule_49 : decode cX2_addRule 49 = .ok (.aload_n 0, 1) := dk_42 (dk_at dksX2_addRule_2 3 rfl rfl)
theorem dX2_addRule_50 : decode cX2_addRule 50 = .ok (.getfield 18, 3) := dk_180 0 18 (dk_at dksX2_addRule_2 4 rfl rfl)
theorem dX2_addRule_53 : decode cX2_addRule 53 = .ok (.iload_n 1, 1) := dk_27 (dk_at dksX2_addRule_2 7 rfl rfl)
theorem dX2_addRule_54 : decode cX2_addRule 54 = .ok (.dup2, 1) := dk_92 (dk_at dksX2_addRule_2 8 rfl rfl)
theorem dX2_addRule_55 : decode cX2_addRule 55 = .ok (.iaload, 1) := dk_46 (dk_at dksX2_addRule_2 9 rfl rfl)
theorem dX2_addRule_56 : decode cX2_addRule 56 = .ok (.iconst 1, 1) := dk_4 (dk_at dksX2_addRule_2 10 rfl rfl)
theorem dX2_addRule_57 : decode cX2_addRule 57 = .ok (.iload_n 2, 1) := dk_28 (dk_at dksX2_addRule_2 11 rfl rfl)
theorem dX2_addRule_58 : decode cX2_addRule 58 = .ok (.ishl, 1) := dk_120 (dk_at dksX2_addRule_2 12 rfl rfl)
theorem dX2_addRule_59 : decode cX2_addRule 59 = .ok (.ior, 1) := dk_128 (dk_at dksX2_addRule_2 13 rfl rfl)
theorem dX2_addRule_60 : decode cX2_addRule 60 = .ok (.iastore, 1) := dk_79 (dk_at dksX2_addRule_2 14 rfl rfl)
theorem dX2_addRule_61 : decode cX2_addRule 61 = .ok (.aload_n 0, 1) := dk_42 (dk_at dksX2_addRule_2 15 rfl rfl)
theorem dX2_addRule_62 : decode cX2_addRule 62 = .ok (.dup, 1) := dk_89 (dk_at dksX2_addRule_2 16 rfl rfl)
theorem dX2_addRule_63 : decode cX2_addRule 63 = .ok (.getfield 41, 3) := dk_180 0 41 (dk_at dksX2_addRule_2 17 rfl rfl)
theorem dX2_addRule_66 : decode cX2_addRule 66 = .ok (.iconst 1, 1) := dk_4 (dk_at dksX2_addRule_2 20 rfl rfl)
theorem dX2_addRule_67 : decode cX2_addRule 67 = .ok (.iadd, 1) := dk_96 (dk_at dksX2_addRule_2 21 rfl rfl)
theorem dX2_addRule_68 : decode cX2_addRule 68 = .ok (.putfield 41, 3) := dk_181 0 41 (dk_at dksX2_addRule_3 0 rfl rfl)
theorem dX2_addRule_71 : decode cX2_addRule 71 = .ok (.aload_n 0, 1) := dk_42 (dk_at dksX2_addRule_3 3 rfl rfl)
theorem dX2_addRule_72 : decode cX2_addRule 72 = .ok (.getfield 41, 3) := dk_180 0 41 (dk_at dksX2_addRule_3 4 rfl rfl)
theorem dX2_addRule_75 : decode cX2_addRule 75 = .ok (.ireturn, 1) := dk_172 (dk_at dksX2_addRule_3 7 rfl rfl)
abbrev cX2_checkCourtiers : ByteArray := prog_8_method_4_code
def yX2_checkCourtiers : MethodName := ⟨RX2, "checkCourtiers", "(II)V"⟩
def dkwX2_checkCourtiers_0 : List UInt8 := [42, 27, 182, 0, 88, 42, 28, 182, 0, 88, 177]
abbrev dktX2_checkCourtiers_0 : List UInt8 := dkwX2_checkCourtiers_0 ++ []
theorem dksX2_checkCourtiers_0 : cX2_checkCourtiers.data.toList.drop 0 = dktX2_checkCourtiers_0 := by decide +kernel
theorem dX2_checkCourtiers_0 : decode cX2_checkCourtiers 0 = .ok (.aload_n 0, 1) := dk_42 (dk_at dksX2_checkCourtiers_0 0 rfl rfl)
theorem dX2_checkCourtiers_1 : decode cX2_checkCourtiers 1 = .ok (.iload_n 1, 1) := dk_27 (dk_at dksX2_checkCourtiers_0 1 rfl rfl)
theorem dX2_checkCourtiers_2 : decode cX2_checkCourtiers 2 = .ok (.invokevirtual 88, 3) := dk_182 0 88 (dk_at dksX2_checkCourtiers_0 2 rfl rfl)
theorem dX2_checkCourtiers_5 : decode cX2_checkCourtiers 5 = .ok (.aload_n 0, 1) := dk_42 (dk_at dksX2_checkCourtiers_0 5 rfl rfl)
theorem dX2_checkCourtiers_6 : decode cX2_checkCourtiers 6 = .ok (.iload_n 2, 1) := dk_28 (dk_at dksX2_checkCourtiers_0 6 rfl rfl)
theorem dX2_checkCourtiers_7 : decode cX2_checkCourtiers 7 = .ok (.invokevirtual 88, 3) := dk_182 0 88 (dk_at dksX2_checkCourtiers_0 7 rfl rfl)
theorem dX2_checkCourtiers_10 : decode cX2_checkCourtiers 10 = .ok (.return_, 1) := dk_177 (dk_at dksX2_checkCourtiers_0 10 rfl rfl)
abbrev cX2_checkCourtier : ByteArray := prog_8_method_3_code
def yX2_checkCourtier : MethodName := ⟨RX2, "checkCourtier", "(I)V"⟩
def dkwX2_checkCourtier_0 : List UInt8 := [27, 3, 42, 180, 0, 32, 4, 100, 184, 0, 80, 184, 0, 84, 177]
abbrev dktX2_checkCourtier_0 : List UInt8 := dkwX2_checkCourtier_0 ++ []
theorem dksX2_checkCourtier_0 : cX2_checkCourtier.data.toList.drop 0 = dktX2_checkCourtier_0 := by decide +kernel
theorem dX2_checkCourtier_0 : decode cX2_checkCourtier 0 = .ok (.iload_n 1, 1) := dk_27 (dk_at dksX2_checkCourtier_0 0 rfl rfl)
theorem dX2_checkCourtier_1 : decode cX2_checkCourtier 1 = .ok (.iconst 0, 1) := dk_3 (dk_at dksX2_checkCourtier_0 1 rfl rfl)
theorem dX2_checkCourtier_2 : decode cX2_checkCourtier 2 = .ok (.aload_n 0, 1) := dk_42 (dk_at dksX2_checkCourtier_0 2 rfl rfl)
theorem dX2_checkCourtier_3 : decode cX2_checkCourtier 3 = .ok (.getfield 32, 3) := dk_180 0 32 (dk_at dksX2_checkCourtier_0 3 rfl rfl)
theorem dX2_checkCourtier_6 : decode cX2_checkCourtier 6 = .ok (.iconst 1, 1) := dk_4 (dk_at dksX2_checkCourtier_0 6 rfl rfl)
theorem dX2_checkCourtier_7 : decode cX2_checkCourtier 7 = .ok (.isub, 1) := dk_100 (dk_at dksX2_checkCourtier_0 7 rfl rfl)
theorem dX2_checkCourtier_8 : decode cX2_checkCourtier 8 = .ok (.invokestatic 80, 3) := dk_184 0 80 (dk_at dksX2_checkCourtier_0 8 rfl rfl)
theorem dX2_checkCourtier_11 : decode cX2_checkCourtier 11 = .ok (.invokestatic 84, 3) := dk_184 0 84 (dk_at dksX2_checkCourtier_0 11 rfl rfl)
theorem dX2_checkCourtier_14 : decode cX2_checkCourtier 14 = .ok (.return_, 1) := dk_177 (dk_at dksX2_checkCourtier_0 14 rfl rfl)
abbrev cX2_removeRule : ByteArray := prog_8_method_9_code
def yX2_removeRule : MethodName := ⟨RX2, "removeRule", "(II)I"⟩
def dkwX2_removeRule_1 : List UInt8 := [92, 46, 4, 28, 120, 2, 130, 126, 79, 42, 89, 180, 0, 41, 4, 100, 181, 0, 41, 42, 180, 0, 41, 172]
abbrev dktX2_removeRule_1 : List UInt8 := dkwX2_removeRule_1 ++ []
def dkwX2_removeRule_0 : List UInt8 := [42, 27, 28, 182, 0, 113, 42, 180, 0, 18, 27, 46, 28, 184, 0, 106, 184, 0, 117, 42, 180, 0, 18, 27]
abbrev dktX2_removeRule_0 : List UInt8 := dkwX2_removeRule_0 ++ dktX2_removeRule_1
theorem dksX2_removeRule_0 : cX2_removeRule.data.toList.drop 0 = dktX2_removeRule_0 := by decide +kernel
theorem dksX2_removeRule_1 : cX2_removeRule.data.toList.drop 24 = dktX2_removeRule_1 := dk_seg dksX2_removeRule_0 24 rfl rfl
theorem dX2_removeRule_0 : decode cX2_removeRule 0 = .ok (.aload_n 0, 1) := dk_42 (dk_at dksX2_removeRule_0 0 rfl rfl)
theorem dX2_removeRule_1 : decode cX2_removeRule 1 = .ok (.iload_n 1, 1) := dk_27 (dk_at dksX2_removeRule_0 1 rfl rfl)
theorem dX2_removeRule_2 : decode cX2_removeRule 2 = .ok (.iload_n 2, 1) := dk_28 (dk_at dksX2_removeRule_0 2 rfl rfl)
theorem dX2_removeRule_3 : decode cX2_removeRule 3 = .ok (.invokevirtual 113, 3) := dk_182 0 113 (dk_at dksX2_removeRule_0 3 rfl rfl)
theorem dX2_removeRule_6 : decode cX2_removeRule 6 = .ok (.aload_n 0, 1) := dk_42 (dk_at dksX2_removeRule_0 6 rfl rfl)
theorem dX2_removeRule_7 : decode cX2_removeRule 7 = .ok (.getfield 18, 3) := dk_180 0 18 (dk_at dksX2_removeRule_0 7 rfl rfl)
theorem dX2_removeRule_10 : decode cX2_removeRule 10 = .ok (.iload_n 1, 1) := dk_27 (dk_at dksX2_removeRule_0 10 rfl rfl)
theorem dX2_removeRule_11 : decode cX2_removeRule 11 = .ok (.iaload, 1) := dk_46 (dk_at dksX2_removeRule_0 11 rfl rfl)
theorem dX2_removeRule_12 : decode cX2_removeRule 12 = .ok (.iload_n 2, 1) := dk_28 (dk_at dksX2_removeRule_0 12 rfl rfl)
theorem dX2_removeRule_13 : decode cX2_removeRule 13 = .ok (.invokestatic 106, 3) := dk_184 0 106 (dk_at dksX2_removeRule_0 13 rfl rfl)
theorem dX2_removeRule_16 : decode cX2_removeRule 16 = .ok (.invokestatic 117, 3) := dk_184 0 117 (dk_at dksX2_removeRule_0 16 rfl rfl)
theorem dX2_removeRule_19 : decode cX2_removeRule 19 = .ok (.aload_n 0, 1) := dk_42 (dk_at dksX2_removeRule_0 19 rfl rfl)
theorem dX2_removeRule_20 : decode cX2_removeRule 20 = .ok (.getfield 18, 3) := dk_180 0 18 (dk_at dksX2_removeRule_0 20 rfl rfl)
theorem dX2_removeRule_23 : decode cX2_removeRule 23 = .ok (.iload_n 1, 1) := dk_27 (dk_at dksX2_removeRule_0 23 rfl rfl)
theorem dX2_removeRule_24 : decode cX2_removeRule 24 = .ok (.dup2, 1) := dk_92 (dk_at dksX2_removeRule_1 0 rfl rfl)
theorem dX2_removeRule_25 : decode cX2_removeRule 25 = .ok (.iaload, 1) := dk_46 (dk_at dksX2_removeRule_1 1 rfl rfl)
theorem dX2_removeRule_26 : decode cX2_removeRule 26 = .ok (.iconst 1, 1) := dk_4 (dk_at dksX2_removeRule_1 2 rfl rfl)
theorem dX2_removeRule_27 : decode cX2_removeRule 27 = .ok (.iload_n 2, 1) := dk_28 (dk_at dksX2_removeRule_1 3 rfl rfl)
theorem dX2_removeRule_28 : decode cX2_removeRule 28 = .ok (.ishl, 1) := dk_120 (dk_at dksX2_removeRule_1 4 rfl rfl)
theorem dX2_removeRule_29 : decode cX2_removeRule 29 = .ok (.iconst (-1), 1) := dk_2 (dk_at dksX2_removeRule_1 5 rfl rfl)
theorem dX2_removeRule_30 : decode cX2_removeRule 30 = .ok (.ixor, 1) := dk_130 (dk_at dksX2_removeRule_1 6 rfl rfl)
theorem dX2_removeRule_31 : decode cX2_removeRule 31 = .ok (.iand, 1) := dk_126 (dk_at dksX2_removeRule_1 7 rfl rfl)
theorem dX2_removeRule_32 : decode cX2_removeRule 32 = .ok (.iastore, 1) := dk_79 (dk_at dksX2_removeRule_1 8 rfl rfl)
theorem dX2_removeRule_33 : decode cX2_removeRule 33 = .ok (.aload_n 0, 1) := dk_42 (dk_at dksX2_removeRule_1 9 rfl rfl)
theorem dX2_removeRule_34 : decode cX2_removeRule 34 = .ok (.dup, 1) := dk_89 (dk_at dksX2_removeRule_1 10 rfl rfl)
theorem dX2_removeRule_35 : decode cX2_removeRule 35 = .ok (.getfield 41, 3) := dk_180 0 41 (dk_at dksX2_removeRule_1 11 rfl rfl)
theorem dX2_removeRule_38 : decode cX2_removeRule 38 = .ok (.iconst 1, 1) := dk_4 (dk_at dksX2_removeRule_1 14 rfl rfl)
theorem dX2_removeRule_39 : decode cX2_removeRule 39 = .ok (.isub, 1) := dk_100 (dk_at dksX2_removeRule_1 15 rfl rfl)
theorem dX2_removeRule_40 : decode cX2_removeRule 40 = .ok (.putfield 41, 3) := dk_181 0 41 (dk_at dksX2_removeRule_1 16 rfl rfl)
theorem dX2_removeRule_43 : decode cX2_removeRule 43 = .ok (.aload_n 0, 1) := dk_42 (dk_at dksX2_removeRule_1 19 rfl rfl)
theorem dX2_removeRule_44 : decode cX2_removeRule 44 = .ok (.getfield 41, 3) := dk_180 0 41 (dk_at dksX2_removeRule_1 20 rfl rfl)
theorem dX2_removeRule_47 : decode cX2_removeRule 47 = .ok (.ireturn, 1) := dk_172 (dk_at dksX2_removeRule_1 23 rfl rfl)
abbrev cX2_courtierByDignity : ByteArray := prog_8_method_10_code
def yX2_courtierByDignity : MethodName := ⟨RX2, "courtierByDignity", "(I)I"⟩
def dkwX2_courtierByDignity_3 : List UInt8 := [132, 4, 1, 167, 255, 198, 29, 27, 160, 0, 5, 28, 172, 132, 2, 1, 167, 255, 172, 2, 172]
abbrev dktX2_courtierByDignity_3 : List UInt8 := dkwX2_courtierByDignity_3 ++ []
def dkwX2_courtierByDignity_2 : List UInt8 := [42, 180, 0, 9, 28, 46, 160, 0, 13, 21, 4, 28, 162, 0, 7, 4, 167, 0, 4, 3, 96, 62]
abbrev dktX2_courtierByDignity_2 : List UInt8 := dkwX2_courtierByDignity_2 ++ dktX2_courtierByDignity_3
def dkwX2_courtierByDignity_1 : List UInt8 := [29, 42, 180, 0, 9, 21, 4, 46, 42, 180, 0, 9, 28, 46, 163, 0, 25, 42, 180, 0, 9, 21, 4, 46]
abbrev dktX2_courtierByDignity_1 : List UInt8 := dkwX2_courtierByDignity_1 ++ dktX2_courtierByDignity_2
def dkwX2_courtierByDignity_0 : List UInt8 := [3, 61, 28, 42, 180, 0, 32, 162, 0, 82, 3, 62, 3, 54, 4, 21, 4, 42, 180, 0, 32, 162, 0, 55]
abbrev dktX2_courtierByDignity_0 : List UInt8 := dkwX2_courtierByDignity_0 ++ dktX2_courtierByDignity_1
theorem dksX2_courtierByDignity_0 : cX2_courtierByDignity.data.toList.drop 0 = dktX2_courtierByDignity_0 := by decide +kernel
theorem dksX2_courtierByDignity_1 : cX2_courtierByDignity.data.toList.drop 24 = dktX2_courtierByDignity_1 := dk_seg dksX2_courtierByDignity_0 24 rfl rfl
theorem dksX2_courtierByDignity_2 : cX2_courtierByDignity.data.toList.drop 48 = dktX2_courtierByDignity_2 := dk_seg dksX2_courtierByDignity_1 24 rfl rfl
theorem dksX2_courtierByDignity_3 : cX2_courtierByDignity.data.toList.drop 70 = dktX2_courtierByDignity_3 := dk_seg dksX2_courtierByDignity_2 22 rfl rfl
theorem dX2_courtierByDignity_0 : decode cX2_courtierByDignity 0 = .ok (.iconst 0, 1) := dk_3 (dk_at dksX2_courtierByDignity_0 0 rfl rfl)
theorem dX2_courtierByDignity_1 : decode cX2_courtierByDignity 1 = .ok (.istore_n 2, 1) := dk_61 (dk_at dksX2_courtierByDignity_0 1 rfl rfl)
theorem dX2_courtierByDignity_2 : decode cX2_courtierByDignity 2 = .ok (.iload_n 2, 1) := dk_28 (dk_at dksX2_courtierByDignity_0 2 rfl rfl)
theorem dX2_courtierByDignity_3 : decode cX2_courtierByDignity 3 = .ok (.aload_n 0, 1) := dk_42 (dk_at dksX2_courtierByDignity_0 3 rfl rfl)
theorem dX2_courtierByDignity_4 : decode cX2_courtierByDignity 4 = .ok (.getfield 32, 3) := dk_180 0 32 (dk_at dksX2_courtierByDignity_0 4 rfl rfl)
theorem dX2_courtierByDignity_7 : decode cX2_courtierByDignity 7 = .ok (.if_icmp .ge 82, 3) := dk_162 0 82 (dk_at dksX2_courtierByDignity_0 7 rfl rfl)
theorem dX2_courtierByDignity_10 : decode cX2_courtierByDignity 10 = .ok (.iconst 0, 1) := dk_3 (dk_at dksX2_courtierByDignity_0 10 rfl rfl)
theorem dX2_courtierByDignity_11 : decode cX2_courtierByDignity 11 = .ok (.istore_n 3, 1) := dk_62 (dk_at dksX2_courtierByDignity_0 11 rfl rfl)
theorem dX2_courtierByDignity_12 : decode cX2_courtierByDignity 12 = .ok (.iconst 0, 1) := dk_3 (dk_at dksX2_courtierByDignity_0 12 rfl rfl)
theorem dX2_courtierByDignity_13 : decode cX2_courtierByDignity 13 = .ok (.istore 4, 2) := dk_54 4 (dk_at dksX2_courtierByDignity_0 13 rfl rfl)
theorem dX2_courtierByDignity_15 : decode cX2_courtierByDignity 15 = .ok (.iload 4, 2) := dk_21 4 (dk_at dksX2_courtierByDignity_0 15 rfl rfl)
theorem dX2_courtierByDignity_17 : decode cX2_courtierByDignity 17 = .ok (.aload_n 0, 1) := dk_42 (dk_at dksX2_courtierByDignity_0 17 rfl rfl)
theorem dX2_courtierByDignity_18 : decode cX2_courtierByDignity 18 = .ok (.getfield 32, 3) := dk_180 0 32 (dk_at dksX2_courtierByDignity_0 18 rfl rfl)
theorem dX2_courtierByDignity_21 : decode cX2_courtierByDignity 21 = .ok (.if_icmp .ge 55, 3) := dk_162 0 55 (dk_at dksX2_courtierByDignity_0 21 rfl rfl)
theorem dX2_courtierByDignity_24 : decode cX2_courtierByDignity 24 = .ok (.iload_n 3, 1) := dk_29 (dk_at dksX2_courtierByDignity_1 0 rfl rfl)
theorem dX2_courtierByDignity_25 : decode cX2_courtierByDignity 25 = .ok (.aload_n 0, 1) := dk_42 (dk_at dksX2_courtierByDignity_1 1 rfl rfl)
theorem dX2_courtierByDignity_26 : decode cX2_courtierByDignity 26 = .ok (.getfield 9, 3) := dk_180 0 9 (dk_at dksX2_courtierByDignity_1 2 rfl rfl)
theorem dX2_courtierByDignity_29 : decode cX2_courtierByDignity 29 = .ok (.iload 4, 2) := dk_21 4 (dk_at dksX2_courtierByDignity_1 5 rfl rfl)
theorem dX2_courtierByDignity_31 : decode cX2_courtierByDignity 31 = .ok (.iaload, 1) := dk_46 (dk_at dksX2_courtierByDignity_1 7 rfl rfl)
theorem dX2_courtierByDignity_32 : decode cX2_courtierByDignity 32 = .ok (.aload_n 0, 1) := dk_42 (dk_at dksX2_courtierByDignity_1 8 rfl rfl)
theorem dX2_courtierByDignity_33 : decode cX2_courtierByDignity 33 = .ok (.getfield 9, 3) := dk_180 0 9 (dk_at dksX2_courtierByDignity_1 9 rfl rfl)
theorem dX2_courtierByDignity_36 : decode cX2_courtierByDignity 36 = .ok (.iload_n 2, 1) := dk_28 (dk_at dksX2_courtierByDignity_1 12 rfl rfl)
theorem dX2_courtierByDignity_37 : decode cX2_courtierByDignity 37 = .ok (.iaload, 1) := dk_46 (dk_at dksX2_courtierByDignity_1 13 rfl rfl)
theorem dX2_courtierByDignity_38 : decode cX2_courtierByDignity 38 = .ok (.if_icmp .gt 25, 3) := dk_163 0 25 (dk_at dksX2_courtierByDignity_1 14 rfl rfl)
theorem dX2_courtierByDignity_41 : decode cX2_courtierByDignity 41 = .ok (.aload_n 0, 1) := dk_42 (dk_at dksX2_courtierByDignity_1 17 rfl rfl)
theorem dX2_courtierByDignity_42 : decode cX2_courtierByDignity 42 = .ok (.getfield 9, 3) := dk_180 0 9 (dk_at dksX2_courtierByDignity_1 18 rfl rfl)
theorem dX2_courtierByDignity_45 : decode cX2_courtierByDignity 45 = .ok (.iload 4, 2) := dk_21 4 (dk_at dksX2_courtierByDignity_1 21 rfl rfl)
theorem dX2_courtierByDignity_47 : decode cX2_courtierByDignity 47 = .ok (.iaload, 1) := dk_46 (dk_at dksX2_courtierByDignity_1 23 rfl rfl)
theorem dX2_courtierByDignity_48 : decode cX2_courtierByDignity 48 = .ok (.aload_n 0, 1) := dk_42 (dk_at dksX2_courtierByDignity_2 0 rfl rfl)
theorem dX2_courtierByDignity_49 : decode cX2_courtierByDignity 49 = .ok (.getfield 9, 3) := dk_180 0 9 (dk_at dksX2_courtierByDignity_2 1 rfl rfl)
theorem dX2_courtierByDignity_52 : decode cX2_courtierByDignity 52 = .ok (.iload_n 2, 1) := dk_28 (dk_at dksX2_courtierByDignity_2 4 rfl rfl)
theorem dX2_courtierByDignity_53 : decode cX2_courtierByDignity 53 = .ok (.iaload, 1) := dk_46 (dk_at dksX2_courtierByDignity_2 5 rfl rfl)
theorem dX2_courtierByDignity_54 : decode cX2_courtierByDignity 54 = .ok (.if_icmp .ne 13, 3) := dk_160 0 13 (dk_at dksX2_courtierByDignity_2 6 rfl rfl)
theorem dX2_courtierByDignity_57 : decode cX2_courtierByDignity 57 = .ok (.iload 4, 2) := dk_21 4 (dk_at dksX2_courtierByDignity_2 9 rfl rfl)
theorem dX2_courtierByDignity_59 : decode cX2_courtierByDignity 59 = .ok (.iload_n 2, 1) := dk_28 (dk_at dksX2_courtierByDignity_2 11 rfl rfl)
theorem dX2_courtierByDignity_60 : decode cX2_courtierByDignity 60 = .ok (.if_icmp .ge 7, 3) := dk_162 0 7 (dk_at dksX2_courtierByDignity_2 12 rfl rfl)
theorem dX2_courtierByDignity_63 : decode cX2_courtierByDignity 63 = .ok (.iconst 1, 1) := dk_4 (dk_at dksX2_courtierByDignity_2 15 rfl rfl)
theorem dX2_courtierByDignity_64 : decode cX2_courtierByDignity 64 = .ok (.goto 4, 3) := dk_167 0 4 (dk_at dksX2_courtierByDignity_2 16 rfl rfl)
theorem dX2_courtierByDignity_67 : decode cX2_courtierByDignity 67 = .ok (.iconst 0, 1) := dk_3 (dk_at dksX2_courtierByDignity_2 19 rfl rfl)
theorem dX2_courtierByDignity_68 : decode cX2_courtierByDignity 68 = .ok (.iadd, 1) := dk_96 (dk_at dksX2_courtierByDignity_2 20 rfl rfl)
theorem dX2_courtierByDignity_69 : decode cX2_courtierByDignity 69 = .ok (.istore_n 3, 1) := dk_62 (dk_at dksX2_courtierByDignity_2 21 rfl rfl)
theorem dX2_courtierByDignity_70 : decode cX2_courtierByDignity 70 = .ok (.iinc 4 1, 3) := dk_132 4 1 (dk_at dksX2_courtierByDignity_3 0 rfl rfl)
theorem dX2_courtierByDignity_73 : decode cX2_courtierByDignity 73 = .ok (.goto (-58), 3) := dk_167 255 198 (dk_at dksX2_courtierByDignity_3 3 rfl rfl)
theorem dX2_courtierByDignity_76 : decode cX2_courtierByDignity 76 = .ok (.iload_n 3, 1) := dk_29 (dk_at dksX2_courtierByDignity_3 6 rfl rfl)
theorem dX2_courtierByDignity_77 : decode cX2_courtierByDignity 77 = .ok (.iload_n 1, 1) := dk_27 (dk_at dksX2_courtierByDignity_3 7 rfl rfl)
theorem dX2_courtierByDignity_78 : decode cX2_courtierByDignity 78 = .ok (.if_icmp .ne 5, 3) := dk_160 0 5 (dk_at dksX2_courtierByDignity_3 8 rfl rfl)
theorem dX2_courtierByDignity_81 : decode cX2_courtierByDignity 81 = .ok (.iload_n 2, 1) := dk_28 (dk_at dksX2_courtierByDignity_3 11 rfl rfl)
theorem dX2_courtierByDignity_82 : decode cX2_courtierByDignity 82 = .ok (.ireturn, 1) := dk_172 (dk_at dksX2_courtierByDignity_3 12 rfl rfl)
theorem dX2_courtierByDignity_83 : decode cX2_courtierByDignity 83 = .ok (.iinc 2 1, 3) := dk_132 2 1 (dk_at dksX2_courtierByDignity_3 13 rfl rfl)
theorem dX2_courtierByDignity_86 : decode cX2_courtierByDignity 86 = .ok (.goto (-84), 3) := dk_167 255 172 (dk_at dksX2_courtierByDignity_3 16 rfl rfl)
theorem dX2_courtierByDignity_89 : decode cX2_courtierByDignity 89 = .ok (.iconst (-1), 1) := dk_2 (dk_at dksX2_courtierByDignity_3 19 rfl rfl)
theorem dX2_courtierByDignity_90 : decode cX2_courtierByDignity 90 = .ok (.ireturn, 1) := dk_172 (dk_at dksX2_courtierByDignity_3 20 rfl rfl)
abbrev cX2_firstProcession : ByteArray := prog_8_method_17_code
def yX2_firstProcession : MethodName := ⟨RX2, "firstProcession", "()[I"⟩
def dkwX2_firstProcession_0 : List UInt8 := [42, 186, 0, 137, 0, 0, 182, 0, 140, 176]
abbrev dktX2_firstProcession_0 : List UInt8 := dkwX2_firstProcession_0 ++ []
theorem dksX2_firstProcession_0 : cX2_firstProcession.data.toList.drop 0 = dktX2_firstProcession_0 := by decide +kernel
theorem dX2_firstProcession_0 : decode cX2_firstProcession 0 = .ok (.aload_n 0, 1) := dk_42 (dk_at dksX2_firstProcession_0 0 rfl rfl)
theorem dX2_firstProcession_1 : decode cX2_firstProcession 1 = .ok (.invokedynamic 137, 5) := by decide +kernel
theorem dX2_firstProcession_6 : decode cX2_firstProcession 6 = .ok (.invokevirtual 140, 3) := dk_182 0 140 (dk_at dksX2_firstProcession_0 6 rfl rfl)
theorem dX2_firstProcession_9 : decode cX2_firstProcession 9 = .ok (.areturn, 1) := dk_176 (dk_at dksX2_firstProcession_0 9 rfl rfl)
abbrev cX2_lambda_firstProcession_0 : ByteArray := prog_8_method_37_code
def yX2_lambda_firstProcession_0 : MethodName := ⟨RX2, "lambda$firstProcession$0", "(II)Z"⟩
def dkwX2_lambda_firstProcession_0_0 : List UInt8 := [26, 27, 162, 0, 7, 4, 167, 0, 4, 3, 172]
abbrev dktX2_lambda_firstProcession_0_0 : List UInt8 := dkwX2_lambda_firstProcession_0_0 ++ []
theorem dksX2_lambda_firstProcession_0_0 : cX2_lambda_firstProcession_0.data.toList.drop 0 = dktX2_lambda_firstProcession_0_0 := by decide +kernel
theorem dX2_lambda_firstProcession_0_0 : decode cX2_lambda_firstProcession_0 0 = .ok (.iload_n 0, 1) := dk_26 (dk_at dksX2_lambda_firstProcession_0_0 0 rfl rfl)
theorem dX2_lambda_firstProcession_0_1 : decode cX2_lambda_firstProcession_0 1 = .ok (.iload_n 1, 1) := dk_27 (dk_at dksX2_lambda_firstProcession_0_0 1 rfl rfl)
theorem dX2_lambda_firstProcession_0_2 : decode cX2_lambda_firstProcession_0 2 = .ok (.if_icmp .ge 7, 3) := dk_162 0 7 (dk_at dksX2_lambda_firstProcession_0_0 2 rfl rfl)
theorem dX2_lambda_firstProcession_0_5 : decode cX2_lambda_firstProcession_0 5 = .ok (.iconst 1, 1) := dk_4 (dk_at dksX2_lambda_firstProcession_0_0 5 rfl rfl)
theorem dX2_lambda_firstProcession_0_6 : decode cX2_lambda_firstProcession_0 6 = .ok (.goto 4, 3) := dk_167 0 4 (dk_at dksX2_lambda_firstProcession_0_0 6 rfl rfl)
theorem dX2_lambda_firstProcession_0_9 : decode cX2_lambda_firstProcession_0 9 = .ok (.iconst 0, 1) := dk_3 (dk_at dksX2_lambda_firstProcession_0_0 9 rfl rfl)
theorem dX2_lambda_firstProcession_0_10 : decode cX2_lambda_firstProcession_0 10 = .ok (.ireturn, 1) := dk_172 (dk_at dksX2_lambda_firstProcession_0_0 10 rfl rfl)
abbrev cX2_lowestPlaceOf : ByteArray := prog_8_method_19_code
def yX2_lowestPlaceOf : MethodName := ⟨RX2, "lowestPlaceOf", "(I)I"⟩
def dkwX2_lowestPlaceOf_1 : List UInt8 := [167, 0, 4, 3, 96, 61, 132, 3, 1, 167, 255, 228, 28, 172]
abbrev dktX2_lowestPlaceOf_1 : List UInt8 := dkwX2_lowestPlaceOf_1 ++ []
def dkwX2_lowestPlaceOf_0 : List UInt8 := [3, 61, 3, 62, 29, 42, 180, 0, 32, 162, 0, 26, 28, 42, 29, 27, 182, 0, 110, 153, 0, 7, 4]
abbrev dktX2_lowestPlaceOf_0 : List UInt8 := dkwX2_lowestPlaceOf_0 ++ dktX2_lowestPlaceOf_1
theorem dksX2_lowestPlaceOf_0 : cX2_lowestPlaceOf.data.toList.drop 0 = dktX2_lowestPlaceOf_0 := by decide +kernel
theorem dksX2_lowestPlaceOf_1 : cX2_lowestPlaceOf.data.toList.drop 23 = dktX2_lowestPlaceOf_1 := dk_seg dksX2_lowestPlaceOf_0 23 rfl rfl
theorem dX2_lowestPlaceOf_0 : decode cX2_lowestPlaceOf 0 = .ok (.iconst 0, 1) := dk_3 (dk_at dksX2_lowestPlaceOf_0 0 rfl rfl)
theorem dX2_lowestPlaceOf_1 : decode cX2_lowestPlaceOf 1 = .ok (.istore_n 2, 1) := dk_61 (dk_at dksX2_lowestPlaceOf_0 1 rfl rfl)
theorem dX2_lowestPlaceOf_2 : decode cX2_lowestPlaceOf 2 = .ok (.iconst 0, 1) := dk_3 (dk_at dksX2_lowestPlaceOf_0 2 rfl rfl)
theorem dX2_lowestPlaceOf_3 : decode cX2_lowestPlaceOf 3 = .ok (.istore_n 3, 1) := dk_62 (dk_at dksX2_lowestPlaceOf_0 3 rfl rfl)
theorem dX2_lowestPlaceOf_4 : decode cX2_lowestPlaceOf 4 = .ok (.iload_n 3, 1) := dk_29 (dk_at dksX2_lowestPlaceOf_0 4 rfl rfl)
theorem dX2_lowestPlaceOf_5 : decode cX2_lowestPlaceOf 5 = .ok (.aload_n 0, 1) := dk_42 (dk_at dksX2_lowestPlaceOf_0 5 rfl rfl)
theorem dX2_lowestPlaceOf_6 : decode cX2_lowestPlaceOf 6 = .ok (.getfield 32, 3) := dk_180 0 32 (dk_at dksX2_lowestPlaceOf_0 6 rfl rfl)
theorem dX2_lowestPlaceOf_9 : decode cX2_lowestPlaceOf 9 = .ok (.if_icmp .ge 26, 3) := dk_162 0 26 (dk_at dksX2_lowestPlaceOf_0 9 rfl rfl)
theorem dX2_lowestPlaceOf_12 : decode cX2_lowestPlaceOf 12 = .ok (.iload_n 2, 1) := dk_28 (dk_at dksX2_lowestPlaceOf_0 12 rfl rfl)
theorem dX2_lowestPlaceOf_13 : decode cX2_lowestPlaceOf 13 = .ok (.aload_n 0, 1) := dk_42 (dk_at dksX2_lowestPlaceOf_0 13 rfl rfl)
theorem dX2_lowestPlaceOf_14 : decode cX2_lowestPlaceOf 14 = .ok (.iload_n 3, 1) := dk_29 (dk_at dksX2_lowestPlaceOf_0 14 rfl rfl)
theorem dX2_lowestPlaceOf_15 : decode cX2_lowestPlaceOf 15 = .ok (.iload_n 1, 1) := dk_27 (dk_at dksX2_lowestPlaceOf_0 15 rfl rfl)
theorem dX2_lowestPlaceOf_16 : decode cX2_lowestPlaceOf 16 = .ok (.invokevirtual 110, 3) := dk_182 0 110 (dk_at dksX2_lowestPlaceOf_0 16 rfl rfl)
theorem dX2_lowestPlaceOf_19 : decode cX2_lowestPlaceOf 19 = .ok (.ifCond .eq 7, 3) := dk_153 0 7 (dk_at dksX2_lowestPlaceOf_0 19 rfl rfl)
theorem dX2_lowestPlaceOf_22 : decode cX2_lowestPlaceOf 22 = .ok (.iconst 1, 1) := dk_4 (dk_at dksX2_lowestPlaceOf_0 22 rfl rfl)
theorem dX2_lowestPlaceOf_23 : decode cX2_lowestPlaceOf 23 = .ok (.goto 4, 3) := dk_167 0 4 (dk_at dksX2_lowestPlaceOf_1 0 rfl rfl)
theorem dX2_lowestPlaceOf_26 : decode cX2_lowestPlaceOf 26 = .ok (.iconst 0, 1) := dk_3 (dk_at dksX2_lowestPlaceOf_1 3 rfl rfl)
theorem dX2_lowestPlaceOf_27 : decode cX2_lowestPlaceOf 27 = .ok (.iadd, 1) := dk_96 (dk_at dksX2_lowestPlaceOf_1 4 rfl rfl)
theorem dX2_lowestPlaceOf_28 : decode cX2_lowestPlaceOf 28 = .ok (.istore_n 2, 1) := dk_61 (dk_at dksX2_lowestPlaceOf_1 5 rfl rfl)
theorem dX2_lowestPlaceOf_29 : decode cX2_lowestPlaceOf 29 = .ok (.iinc 3 1, 3) := dk_132 3 1 (dk_at dksX2_lowestPlaceOf_1 6 rfl rfl)
theorem dX2_lowestPlaceOf_32 : decode cX2_lowestPlaceOf 32 = .ok (.goto (-28), 3) := dk_167 255 228 (dk_at dksX2_lowestPlaceOf_1 9 rfl rfl)
theorem dX2_lowestPlaceOf_35 : decode cX2_lowestPlaceOf 35 = .ok (.iload_n 2, 1) := dk_28 (dk_at dksX2_lowestPlaceOf_1 12 rfl rfl)
theorem dX2_lowestPlaceOf_36 : decode cX2_lowestPlaceOf 36 = .ok (.ireturn, 1) := dk_172 (dk_at dksX2_lowestPlaceOf_1 13 rfl rfl)
abbrev cX2_submit : ByteArray := prog_8_method_20_code
def yX2_submit : MethodName := ⟨RX2, "submit", "(ILjava/lang/StringBuilder;)I"⟩
def dkwX2_submit_5 : List UInt8 := [79, 42, 180, 0, 24, 182, 0, 92, 4, 100, 172]
abbrev dktX2_submit_5 : List UInt8 := dkwX2_submit_5 ++ []
def dkwX2_submit_4 : List UInt8 := [42, 89, 180, 0, 77, 21, 7, 96, 181, 0, 77, 42, 180, 0, 15, 27, 92, 46, 21, 6, 21, 7, 100, 96]
abbrev dktX2_submit_4 : List UInt8 := dkwX2_submit_4 ++ dktX2_submit_5
def dkwX2_submit_3 : List UInt8 := [46, 21, 6, 96, 45, 180, 0, 162, 184, 0, 165, 54, 7, 42, 89, 180, 0, 74, 21, 6, 96, 181, 0, 74]
abbrev dktX2_submit_3 : List UInt8 := dkwX2_submit_3 ++ dktX2_submit_4
def dkwX2_submit_2 : List UInt8 := [42, 180, 0, 24, 25, 5, 182, 0, 63, 87, 25, 5, 16, 98, 182, 0, 158, 54, 6, 42, 180, 0, 15, 27]
abbrev dktX2_submit_2 : List UInt8 := dkwX2_submit_2 ++ dktX2_submit_3
def dkwX2_submit_1 : List UInt8 := [162, 0, 7, 4, 167, 0, 4, 3, 184, 0, 103, 187, 0, 61, 89, 27, 45, 21, 4, 183, 0, 155, 58, 5]
abbrev dktX2_submit_1 : List UInt8 := dkwX2_submit_1 ++ dktX2_submit_2
def dkwX2_submit_0 : List UInt8 := [187, 0, 147, 89, 44, 183, 0, 149, 78, 45, 182, 0, 152, 54, 4, 42, 180, 0, 24, 182, 0, 92, 16, 6]
abbrev dktX2_submit_0 : List UInt8 := dkwX2_submit_0 ++ dktX2_submit_1
theorem dksX2_submit_0 : cX2_submit.data.toList.drop 0 = dktX2_submit_0 := by decide +kernel
theorem dksX2_submit_1 : cX2_submit.data.toList.drop 24 = dktX2_submit_1 := dk_seg dksX2_submit_0 24 rfl rfl
theorem dksX2_submit_2 : cX2_submit.data.toList.drop 48 = dktX2_submit_2 := dk_seg dksX2_submit_1 24 rfl rfl
theorem dksX2_submit_3 : cX2_submit.data.toList.drop 72 = dktX2_submit_3 := dk_seg dksX2_submit_2 24 rfl rfl
theorem dksX2_submit_4 : cX2_submit.data.toList.drop 96 = dktX2_submit_4 := dk_seg dksX2_submit_3 24 rfl rfl
theorem dksX2_submit_5 : cX2_submit.data.toList.drop 120 = dktX2_submit_5 := dk_seg dksX2_submit_4 24 rfl rfl
theorem dX2_submit_0 : decode cX2_submit 0 = .ok (.new 147, 3) := dk_187 0 147 (dk_at dksX2_submit_0 0 rfl rfl)
theorem dX2_submit_3 : decode cX2_submit 3 = .ok (.dup, 1) := dk_89 (dk_at dksX2_submit_0 3 rfl rfl)
theorem dX2_submit_4 : decode cX2_submit 4 = .ok (.aload_n 2, 1) := dk_44 (dk_at dksX2_submit_0 4 rfl rfl)
theorem dX2_submit_5 : decode cX2_submit 5 = .ok (.invokespecial 149, 3) := dk_183 0 149 (dk_at dksX2_submit_0 5 rfl rfl)
theorem dX2_submit_8 : decode cX2_submit 8 = .ok (.astore_n 3, 1) := dk_78 (dk_at dksX2_submit_0 8 rfl rfl)
theorem dX2_submit_9 : decode cX2_submit 9 = .ok (.aload_n 3, 1) := dk_45 (dk_at dksX2_submit_0 9 rfl rfl)
theorem dX2_submit_10 : decode cX2_submit 10 = .ok (.invokevirtual 152, 3) := dk_182 0 152 (dk_at dksX2_submit_0 10 rfl rfl)
theorem dX2_submit_13 : decode cX2_submit 13 = .ok (.istore 4, 2) := dk_54 4 (dk_at dksX2_submit_0 13 rfl rfl)
theorem dX2_submit_15 : decode cX2_submit 15 = .ok (.aload_n 0, 1) := dk_42 (dk_at dksX2_submit_0 15 rfl rfl)
theorem dX2_submit_16 : decode cX2_submit 16 = .ok (.getfield 24, 3) := dk_180 0 24 (dk_at dksX2_submit_0 16 rfl rfl)
theorem dX2_submit_19 : decode cX2_submit 19 = .ok (.invokevirtual 92, 3) := dk_182 0 92 (dk_at dksX2_submit_0 19 rfl rfl)
theorem dX2_submit_22 : decode cX2_submit 22 = .ok (.bipush 6, 2) := dk_16 6 (dk_at dksX2_submit_0 22 rfl rfl)
theorem dX2_submit_24 : decode cX2_submit 24 = .ok (.if_icmp .ge 7, 3) := dk_162 0 7 (dk_at dksX2_submit_1 0 rfl rfl)
theorem dX2_submit_27 : decode cX2_submit 27 = .ok (.iconst 1, 1) := dk_4 (dk_at dksX2_submit_1 3 rfl rfl)
theorem dX2_submit_28 : decode cX2_submit 28 = .ok (.goto 4, 3) := dk_167 0 4 (dk_at dksX2_submit_1 4 rfl rfl)
theorem dX2_submit_31 : decode cX2_submit 31 = .ok (.iconst 0, 1) := dk_3 (dk_at dksX2_submit_1 7 rfl rfl)
theorem dX2_submit_32 : decode cX2_submit 32 = .ok (.invokestatic 103, 3) := dk_184 0 103 (dk_at dksX2_submit_1 8 rfl rfl)
theorem dX2_submit_35 : decode cX2_submit 35 = .ok (.new 61, 3) := dk_187 0 61 (dk_at dksX2_submit_1 11 rfl rfl)
theorem dX2_submit_38 : decode cX2_submit 38 = .ok (.dup, 1) := dk_89 (dk_at dksX2_submit_1 14 rfl rfl)
theorem dX2_submit_39 : decode cX2_submit 39 = .ok (.iload_n 1, 1) := dk_27 (dk_at dksX2_submit_1 15 rfl rfl)
theorem dX2_submit_40 : decode cX2_submit 40 = .ok (.aload_n 3, 1) := dk_45 (dk_at dksX2_submit_1 16 rfl rfl)
theorem dX2_submit_41 : decode cX2_submit 41 = .ok (.iload 4, 2) := dk_21 4 (dk_at dksX2_submit_1 17 rfl rfl)
theorem dX2_submit_43 : decode cX2_submit 43 = .ok (.invokespecial 155, 3) := dk_183 0 155 (dk_at dksX2_submit_1 19 rfl rfl)
theorem dX2_submit_46 : decode cX2_submit 46 = .ok (.astore 5, 2) := dk_58 5 (dk_at dksX2_submit_1 22 rfl rfl)
theorem dX2_submit_48 : decode cX2_submit 48 = .ok (.aload_n 0, 1) := dk_42 (dk_at dksX2_submit_2 0 rfl rfl)
theorem dX2_submit_49 : decode cX2_submit 49 = .ok (.getfield 24, 3) := dk_180 0 24 (dk_at dksX2_submit_2 1 rfl rfl)
theorem dX2_submit_52 : decode cX2_submit 52 = .ok (.aload 5, 2) := dk_25 5 (dk_at dksX2_submit_2 4 rfl rfl)
theorem dX2_submit_54 : decode cX2_submit 54 = .ok (.invokevirtual 63, 3) := dk_182 0 63 (dk_at dksX2_submit_2 6 rfl rfl)
theorem dX2_submit_57 : decode cX2_submit 57 = .ok (.pop, 1) := dk_87 (dk_at dksX2_submit_2 9 rfl rfl)
theorem dX2_submit_58 : decode cX2_submit 58 = .ok (.aload 5, 2) := dk_25 5 (dk_at dksX2_submit_2 10 rfl rfl)
theorem dX2_submit_60 : decode cX2_submit 60 = .ok (.bipush 98, 2) := dk_16 98 (dk_at dksX2_submit_2 12 rfl rfl)
theorem dX2_submit_62 : decode cX2_submit 62 = .ok (.invokevirtual 158, 3) := dk_182 0 158 (dk_at dksX2_submit_2 14 rfl rfl)
theorem dX2_submit_65 : decode cX2_submit 65 = .ok (.istore 6, 2) := dk_54 6 (dk_at dksX2_submit_2 17 rfl rfl)
theorem dX2_submit_67 : decode cX2_submit 67 = .ok (.aload_n 0, 1) := dk_42 (dk_at dksX2_submit_2 19 rfl rfl)
theorem dX2_submit_68 : decode cX2_submit 68 = .ok (.getfield 15, 3) := dk_180 0 15 (dk_at dksX2_submit_2 20 rfl rfl)
theorem dX2_submit_71 : decode cX2_submit 71 = .ok (.iload_n 1, 1) := dk_27 (dk_at dksX2_submit_2 23 rfl rfl)
theorem dX2_submit_72 : decode cX2_submit 72 = .ok (.iaload, 1) := dk_46 (dk_at dksX2_submit_3 0 rfl rfl)
theorem dX2_submit_73 : decode cX2_submit 73 = .ok (.iload 6, 2) := dk_21 6 (dk_at dksX2_submit_3 1 rfl rfl)
theorem dX2_submit_75 : decode cX2_submit 75 = .ok (.iadd, 1) := dk_96 (dk_at dksX2_submit_3 3 rfl rfl)
theorem dX2_submit_76 : decode cX2_submit 76 = .ok (.aload_n 3, 1) := dk_45 (dk_at dksX2_submit_3 4 rfl rfl)
theorem dX2_submit_77 : decode cX2_submit 77 = .ok (.getfield 162, 3) := dk_180 0 162 (dk_at dksX2_submit_3 5 rfl rfl)
theorem dX2_submit_80 : decode cX2_submit 80 = .ok (.invokestatic 165, 3) := dk_184 0 165 (dk_at dksX2_submit_3 8 rfl rfl)
theorem dX2_submit_83 : decode cX2_submit 83 = .ok (.istore 7, 2) := dk_54 7 (dk_at dksX2_submit_3 11 rfl rfl)
theorem dX2_submit_85 : decode cX2_submit 85 = .ok (.aload_n 0, 1) := dk_42 (dk_at dksX2_submit_3 13 rfl rfl)
theorem dX2_submit_86 : decode cX2_submit 86 = .ok (.dup, 1) := dk_89 (dk_at dksX2_submit_3 14 rfl rfl)
theorem dX2_submit_87 : decode cX2_submit 87 = .ok (.getfield 74, 3) := dk_180 0 74 (dk_at dksX2_submit_3 15 rfl rfl)
theorem dX2_submit_90 : decode cX2_submit 90 = .ok (.iload 6, 2) := dk_21 6 (dk_at dksX2_submit_3 18 rfl rfl)
theorem dX2_submit_92 : decode cX2_submit 92 = .ok (.iadd, 1) := dk_96 (dk_at dksX2_submit_3 20 rfl rfl)
theorem dX2_submit_93 : decode cX2_submit 93 = .ok (.putfield 74, 3) := dk_181 0 74 (dk_at dksX2_submit_3 21 rfl rfl)
theorem dX2_submit_96 : decode cX2_submit 96 = .ok (.aload_n 0, 1) := dk_42 (dk_at dksX2_submit_4 0 rfl rfl)
theorem dX2_submit_97 : decode cX2_submit 97 = .ok (.dup, 1) := dk_89 (dk_at dksX2_submit_4 1 rfl rfl)
theorem dX2_submit_98 : decode cX2_submit 98 = .ok (.getfield 77, 3) := dk_180 0 77 (dk_at dksX2_submit_4 2 rfl rfl)
theorem dX2_submit_101 : decode cX2_submit 101 = .ok (.iload 7, 2) := dk_21 7 (dk_at dksX2_submit_4 5 rfl rfl)
theorem dX2_submit_103 : decode cX2_submit 103 = .ok (.iadd, 1) := dk_96 (dk_at dksX2_submit_4 7 rfl rfl)
theorem dX2_submit_104 : decode cX2_submit 104 = .ok (.putfield 77, 3) := dk_181 0 77 (dk_at dksX2_submit_4 8 rfl rfl)
theorem dX2_submit_107 : decode cX2_submit 107 = .ok (.aload_n 0, 1) := dk_42 (dk_at dksX2_submit_4 11 rfl rfl)
theorem dX2_submit_108 : decode cX2_submit 108 = .ok (.getfield 15, 3) := dk_180 0 15 (dk_at dksX2_submit_4 12 rfl rfl)
theorem dX2_submit_111 : decode cX2_submit 111 = .ok (.iload_n 1, 1) := dk_27 (dk_at dksX2_submit_4 15 rfl rfl)
theorem dX2_submit_112 : decode cX2_submit 112 = .ok (.dup2, 1) := dk_92 (dk_at dksX2_submit_4 16 rfl rfl)
theorem dX2_submit_113 : decode cX2_submit 113 = .ok (.iaload, 1) := dk_46 (dk_at dksX2_submit_4 17 rfl rfl)
theorem dX2_submit_114 : decode cX2_submit 114 = .ok (.iload 6, 2) := dk_21 6 (dk_at dksX2_submit_4 18 rfl rfl)
theorem dX2_submit_116 : decode cX2_submit 116 = .ok (.iload 7, 2) := dk_21 7 (dk_at dksX2_submit_4 20 rfl rfl)
theorem dX2_submit_118 : decode cX2_submit 118 = .ok (.isub, 1) := dk_100 (dk_at dksX2_submit_4 22 rfl rfl)
theorem dX2_submit_119 : decode cX2_submit 119 = .ok (.iadd, 1) := dk_96 (dk_at dksX2_submit_4 23 rfl rfl)
theorem dX2_submit_120 : decode cX2_submit 120 = .ok (.iastore, 1) := dk_79 (dk_at dksX2_submit_5 0 rfl rfl)
theorem dX2_submit_121 : decode cX2_submit 121 = .ok (.aload_n 0, 1) := dk_42 (dk_at dksX2_submit_5 1 rfl rfl)
theorem dX2_submit_122 : decode cX2_submit 122 = .ok (.getfield 24, 3) := dk_180 0 24 (dk_at dksX2_submit_5 2 rfl rfl)
theorem dX2_submit_125 : decode cX2_submit 125 = .ok (.invokevirtual 92, 3) := dk_182 0 92 (dk_at dksX2_submit_5 5 rfl rfl)
theorem dX2_submit_128 : decode cX2_submit 128 = .ok (.iconst 1, 1) := dk_4 (dk_at dksX2_submit_5 8 rfl rfl)
theorem dX2_submit_129 : decode cX2_submit 129 = .ok (.isub, 1) := dk_100 (dk_at dksX2_submit_5 9 rfl rfl)
theorem dX2_submit_130 : decode cX2_submit 130 = .ok (.ireturn, 1) := dk_172 (dk_at dksX2_submit_5 10 rfl rfl)
abbrev cX2_grant : ByteArray := prog_8_method_21_code
def yX2_grant : MethodName := ⟨RX2, "grant", "(I)I"⟩
def dkwX2_grant_3 : List UInt8 := [180, 0, 24, 27, 182, 0, 184, 87, 42, 180, 0, 15, 44, 180, 0, 175, 46, 172]
abbrev dktX2_grant_3 : List UInt8 := dkwX2_grant_3 ++ []
def dkwX2_grant_2 : List UInt8 := [89, 180, 0, 70, 44, 180, 0, 178, 133, 97, 181, 0, 70, 42, 89, 180, 0, 67, 4, 96, 181, 0, 67, 42]
abbrev dktX2_grant_2 : List UInt8 := dkwX2_grant_2 ++ dktX2_grant_3
def dkwX2_grant_1 : List UInt8 := [167, 0, 4, 3, 184, 0, 181, 42, 180, 0, 15, 44, 180, 0, 175, 92, 46, 44, 180, 0, 178, 100, 79, 42]
abbrev dktX2_grant_1 : List UInt8 := dkwX2_grant_1 ++ dktX2_grant_2
def dkwX2_grant_0 : List UInt8 := [42, 27, 182, 0, 171, 77, 42, 180, 0, 15, 44, 180, 0, 175, 46, 44, 180, 0, 178, 161, 0, 7, 4]
abbrev dktX2_grant_0 : List UInt8 := dkwX2_grant_0 ++ dktX2_grant_1
theorem dksX2_grant_0 : cX2_grant.data.toList.drop 0 = dktX2_grant_0 := by decide +kernel
theorem dksX2_grant_1 : cX2_grant.data.toList.drop 23 = dktX2_grant_1 := dk_seg dksX2_grant_0 23 rfl rfl
theorem dksX2_grant_2 : cX2_grant.data.toList.drop 47 = dktX2_grant_2 := dk_seg dksX2_grant_1 24 rfl rfl
theorem dksX2_grant_3 : cX2_grant.data.toList.drop 71 = dktX2_grant_3 := dk_seg dksX2_grant_2 24 rfl rfl
theorem dX2_grant_0 : decode cX2_grant 0 = .ok (.aload_n 0, 1) := dk_42 (dk_at dksX2_grant_0 0 rfl rfl)
theorem dX2_grant_1 : decode cX2_grant 1 = .ok (.iload_n 1, 1) := dk_27 (dk_at dksX2_grant_0 1 rfl rfl)
theorem dX2_grant_2 : decode cX2_grant 2 = .ok (.invokevirtual 171, 3) := dk_182 0 171 (dk_at dksX2_grant_0 2 rfl rfl)
theorem dX2_grant_5 : decode cX2_grant 5 = .ok (.astore_n 2, 1) := dk_77 (dk_at dksX2_grant_0 5 rfl rfl)
theorem dX2_grant_6 : decode cX2_grant 6 = .ok (.aload_n 0, 1) := dk_42 (dk_at dksX2_grant_0 6 rfl rfl)
theorem dX2_grant_7 : decode cX2_grant 7 = .ok (.getfield 15, 3) := dk_180 0 15 (dk_at dksX2_grant_0 7 rfl rfl)
theorem dX2_grant_10 : decode cX2_grant 10 = .ok (.aload_n 2, 1) := dk_44 (dk_at dksX2_grant_0 10 rfl rfl)
theorem dX2_grant_11 : decode cX2_grant 11 = .ok (.getfield 175, 3) := dk_180 0 175 (dk_at dksX2_grant_0 11 rfl rfl)
theorem dX2_grant_14 : decode cX2_grant 14 = .ok (.iaload, 1) := dk_46 (dk_at dksX2_grant_0 14 rfl rfl)
theorem dX2_grant_15 : decode cX2_grant 15 = .ok (.aload_n 2, 1) := dk_44 (dk_at dksX2_grant_0 15 rfl rfl)
theorem dX2_grant_16 : decode cX2_grant 16 = .ok (.getfield 178, 3) := dk_180 0 178 (dk_at dksX2_grant_0 16 rfl rfl)
theorem dX2_grant_19 : decode cX2_grant 19 = .ok (.if_icmp .lt 7, 3) := dk_161 0 7 (dk_at dksX2_grant_0 19 rfl rfl)
theorem dX2_grant_22 : decode cX2_grant 22 = .ok (.iconst 1, 1) := dk_4 (dk_at dksX2_grant_0 22 rfl rfl)
theorem dX2_grant_23 : decode cX2_grant 23 = .ok (.goto 4, 3) := dk_167 0 4 (dk_at dksX2_grant_1 0 rfl rfl)
theorem dX2_grant_26 : decode cX2_grant 26 = .ok (.iconst 0, 1) := dk_3 (dk_at dksX2_grant_1 3 rfl rfl)
theorem dX2_grant_27 : decode cX2_grant 27 = .ok (.invokestatic 181, 3) := dk_184 0 181 (dk_at dksX2_grant_1 4 rfl rfl)
theorem dX2_grant_30 : decode cX2_grant 30 = .ok (.aload_n 0, 1) := dk_42 (dk_at dksX2_grant_1 7 rfl rfl)
theorem dX2_grant_31 : decode cX2_grant 31 = .ok (.getfield 15, 3) := dk_180 0 15 (dk_at dksX2_grant_1 8 rfl rfl)
theorem dX2_grant_34 : decode cX2_grant 34 = .ok (.aload_n 2, 1) := dk_44 (dk_at dksX2_grant_1 11 rfl rfl)
theorem dX2_grant_35 : decode cX2_grant 35 = .ok (.getfield 175, 3) := dk_180 0 175 (dk_at dksX2_grant_1 12 rfl rfl)
theorem dX2_grant_38 : decode cX2_grant 38 = .ok (.dup2, 1) := dk_92 (dk_at dksX2_grant_1 15 rfl rfl)
theorem dX2_grant_39 : decode cX2_grant 39 = .ok (.iaload, 1) := dk_46 (dk_at dksX2_grant_1 16 rfl rfl)
theorem dX2_grant_40 : decode cX2_grant 40 = .ok (.aload_n 2, 1) := dk_44 (dk_at dksX2_grant_1 17 rfl rfl)
theorem dX2_grant_41 : decode cX2_grant 41 = .ok (.getfield 178, 3) := dk_180 0 178 (dk_at dksX2_grant_1 18 rfl rfl)
theorem dX2_grant_44 : decode cX2_grant 44 = .ok (.isub, 1) := dk_100 (dk_at dksX2_grant_1 21 rfl rfl)
theorem dX2_grant_45 : decode cX2_grant 45 = .ok (.iastore, 1) := dk_79 (dk_at dksX2_grant_1 22 rfl rfl)
theorem dX2_grant_46 : decode cX2_grant 46 = .ok (.aload_n 0, 1) := dk_42 (dk_at dksX2_grant_1 23 rfl rfl)
theorem dX2_grant_47 : decode cX2_grant 47 = .ok (.dup, 1) := dk_89 (dk_at dksX2_grant_2 0 rfl rfl)
theorem dX2_grant_48 : decode cX2_grant 48 = .ok (.getfield 70, 3) := dk_180 0 70 (dk_at dksX2_grant_2 1 rfl rfl)
theorem dX2_grant_51 : decode cX2_grant 51 = .ok (.aload_n 2, 1) := dk_44 (dk_at dksX2_grant_2 4 rfl rfl)
theorem dX2_grant_52 : decode cX2_grant 52 = .ok (.getfield 178, 3) := dk_180 0 178 (dk_at dksX2_grant_2 5 rfl rfl)
theorem dX2_grant_55 : decode cX2_grant 55 = .ok (.i2l, 1) := dk_133 (dk_at dksX2_grant_2 8 rfl rfl)
theorem dX2_grant_56 : decode cX2_grant 56 = .ok (.ladd, 1) := dk_97 (dk_at dksX2_grant_2 9 rfl rfl)
theorem dX2_grant_57 : decode cX2_grant 57 = .ok (.putfield 70, 3) := dk_181 0 70 (dk_at dksX2_grant_2 10 rfl rfl)
theorem dX2_grant_60 : decode cX2_grant 60 = .ok (.aload_n 0, 1) := dk_42 (dk_at dksX2_grant_2 13 rfl rfl)
theorem dX2_grant_61 : decode cX2_grant 61 = .ok (.dup, 1) := dk_89 (dk_at dksX2_grant_2 14 rfl rfl)
theorem dX2_grant_62 : decode cX2_grant 62 = .ok (.getfield 67, 3) := dk_180 0 67 (dk_at dksX2_grant_2 15 rfl rfl)
theorem dX2_grant_65 : decode cX2_grant 65 = .ok (.iconst 1, 1) := dk_4 (dk_at dksX2_grant_2 18 rfl rfl)
theorem dX2_grant_66 : decode cX2_grant 66 = .ok (.iadd, 1) := dk_96 (dk_at dksX2_grant_2 19 rfl rfl)
theorem dX2_grant_67 : decode cX2_grant 67 = .ok (.putfield 67, 3) := dk_181 0 67 (dk_at dksX2_grant_2 20 rfl rfl)
theorem dX2_grant_70 : decode cX2_grant 70 = .ok (.aload_n 0, 1) := dk_42 (dk_at dksX2_grant_2 23 rfl rfl)
theorem dX2_grant_71 : decode cX2_grant 71 = .ok (.getfield 24, 3) := dk_180 0 24 (dk_at dksX2_grant_3 0 rfl rfl)
theorem dX2_grant_74 : decode cX2_grant 74 = .ok (.iload_n 1, 1) := dk_27 (dk_at dksX2_grant_3 3 rfl rfl)
theorem dX2_grant_75 : decode cX2_grant 75 = .ok (.invokevirtual 184, 3) := dk_182 0 184 (dk_at dksX2_grant_3 4 rfl rfl)
theorem dX2_grant_78 : decode cX2_grant 78 = .ok (.pop, 1) := dk_87 (dk_at dksX2_grant_3 7 rfl rfl)
theorem dX2_grant_79 : decode cX2_grant 79 = .ok (.aload_n 0, 1) := dk_42 (dk_at dksX2_grant_3 8 rfl rfl)
theorem dX2_grant_80 : decode cX2_grant 80 = .ok (.getfield 15, 3) := dk_180 0 15 (dk_at dksX2_grant_3 9 rfl rfl)
theorem dX2_grant_83 : decode cX2_grant 83 = .ok (.aload_n 2, 1) := dk_44 (dk_at dksX2_grant_3 12 rfl rfl)
theorem dX2_grant_84 : decode cX2_grant 84 = .ok (.getfield 175, 3) := dk_180 0 175 (dk_at dksX2_grant_3 13 rfl rfl)
theorem dX2_grant_87 : decode cX2_grant 87 = .ok (.iaload, 1) := dk_46 (dk_at dksX2_grant_3 16 rfl rfl)
theorem dX2_grant_88 : decode cX2_grant 88 = .ok (.ireturn, 1) := dk_172 (dk_at dksX2_grant_3 17 rfl rfl)
abbrev cX2_checkedRequest : ByteArray := prog_8_method_5_code
def yX2_checkedRequest : MethodName := ⟨RX2, "checkedRequest", "(I)LRoyalCourt$Request;"⟩
def dkwX2_checkedRequest_1 : List UInt8 := [182, 0, 96, 192, 0, 61, 176]
abbrev dktX2_checkedRequest_1 : List UInt8 := dkwX2_checkedRequest_1 ++ []
def dkwX2_checkedRequest_0 : List UInt8 := [27, 3, 42, 180, 0, 24, 182, 0, 92, 4, 100, 184, 0, 80, 184, 0, 84, 42, 180, 0, 24, 27]
abbrev dktX2_checkedRequest_0 : List UInt8 := dkwX2_checkedRequest_0 ++ dktX2_checkedRequest_1
theorem dksX2_checkedRequest_0 : cX2_checkedRequest.data.toList.drop 0 = dktX2_checkedRequest_0 := by decide +kernel
theorem dksX2_checkedRequest_1 : cX2_checkedRequest.data.toList.drop 22 = dktX2_checkedRequest_1 := dk_seg dksX2_checkedRequest_0 22 rfl rfl
theorem dX2_checkedRequest_0 : decode cX2_checkedRequest 0 = .ok (.iload_n 1, 1) := dk_27 (dk_at dksX2_checkedRequest_0 0 rfl rfl)
theorem dX2_checkedRequest_1 : decode cX2_checkedRequest 1 = .ok (.iconst 0, 1) := dk_3 (dk_at dksX2_checkedRequest_0 1 rfl rfl)
theorem dX2_checkedRequest_2 : decode cX2_checkedRequest 2 = .ok (.aload_n 0, 1) := dk_42 (dk_at dksX2_checkedRequest_0 2 rfl rfl)
theorem dX2_checkedRequest_3 : decode cX2_checkedRequest 3 = .ok (.getfield 24, 3) := dk_180 0 24 (dk_at dksX2_checkedRequest_0 3 rfl rfl)
theorem dX2_checkedRequest_6 : decode cX2_checkedRequest 6 = .ok (.invokevirtual 92, 3) := dk_182 0 92 (dk_at dksX2_checkedRequest_0 6 rfl rfl)
theorem dX2_checkedRequest_9 : decode cX2_checkedRequest 9 = .ok (.iconst 1, 1) := dk_4 (dk_at dksX2_checkedRequest_0 9 rfl rfl)
theorem dX2_checkedRequest_10 : decode cX2_checkedRequest 10 = .ok (.isub, 1) := dk_100 (dk_at dksX2_checkedRequest_0 10 rfl rfl)
theorem dX2_checkedRequest_11 : decode cX2_checkedRequest 11 = .ok (.invokestatic 80, 3) := dk_184 0 80 (dk_at dksX2_checkedRequest_0 11 rfl rfl)
theorem dX2_checkedRequest_14 : decode cX2_checkedRequest 14 = .ok (.invokestatic 84, 3) := dk_184 0 84 (dk_at dksX2_checkedRequest_0 14 rfl rfl)
theorem dX2_checkedRequest_17 : decode cX2_checkedRequest 17 = .ok (.aload_n 0, 1) := dk_42 (dk_at dksX2_checkedRequest_0 17 rfl rfl)
theorem dX2_checkedRequest_18 : decode cX2_checkedRequest 18 = .ok (.getfield 24, 3) := dk_180 0 24 (dk_at dksX2_checkedRequest_0 18 rfl rfl)
theorem dX2_checkedRequest_21 : decode cX2_checkedRequest 21 = .ok (.iload_n 1, 1) := dk_27 (dk_at dksX2_checkedRequest_0 21 rfl rfl)
theorem dX2_checkedRequest_22 : decode cX2_checkedRequest 22 = .ok (.invokevirtual 96, 3) := dk_182 0 96 (dk_at dksX2_checkedRequest_1 0 rfl rfl)
theorem dX2_checkedRequest_25 : decode cX2_checkedRequest 25 = .ok (.checkcast 61, 3) := dk_192 0 61 (dk_at dksX2_checkedRequest_1 3 rfl rfl)
theorem dX2_checkedRequest_28 : decode cX2_checkedRequest 28 = .ok (.areturn, 1) := dk_176 (dk_at dksX2_checkedRequest_1 6 rfl rfl)
abbrev cX2_withdraw : ByteArray := prog_8_method_22_code
def yX2_withdraw : MethodName := ⟨RX2, "withdraw", "(I)I"⟩
def dkwX2_withdraw_0 : List UInt8 := [42, 27, 182, 0, 171, 87, 42, 180, 0, 24, 27, 182, 0, 184, 87, 42, 180, 0, 24, 182, 0, 92, 172]
abbrev dktX2_withdraw_0 : List UInt8 := dkwX2_withdraw_0 ++ []
theorem dksX2_withdraw_0 : cX2_withdraw.data.toList.drop 0 = dktX2_withdraw_0 := by decide +kernel
theorem dX2_withdraw_0 : decode cX2_withdraw 0 = .ok (.aload_n 0, 1) := dk_42 (dk_at dksX2_withdraw_0 0 rfl rfl)
theorem dX2_withdraw_1 : decode cX2_withdraw 1 = .ok (.iload_n 1, 1) := dk_27 (dk_at dksX2_withdraw_0 1 rfl rfl)
theorem dX2_withdraw_2 : decode cX2_withdraw 2 = .ok (.invokevirtual 171, 3) := dk_182 0 171 (dk_at dksX2_withdraw_0 2 rfl rfl)
theorem dX2_withdraw_5 : decode cX2_withdraw 5 = .ok (.pop, 1) := dk_87 (dk_at dksX2_withdraw_0 5 rfl rfl)
theorem dX2_withdraw_6 : decode cX2_withdraw 6 = .ok (.aload_n 0, 1) := dk_42 (dk_at dksX2_withdraw_0 6 rfl rfl)
theorem dX2_withdraw_7 : decode cX2_withdraw 7 = .ok (.getfield 24, 3) := dk_180 0 24 (dk_at dksX2_withdraw_0 7 rfl rfl)
theorem dX2_withdraw_10 : decode cX2_withdraw 10 = .ok (.iload_n 1, 1) := dk_27 (dk_at dksX2_withdraw_0 10 rfl rfl)
theorem dX2_withdraw_11 : decode cX2_withdraw 11 = .ok (.invokevirtual 184, 3) := dk_182 0 184 (dk_at dksX2_withdraw_0 11 rfl rfl)
theorem dX2_withdraw_14 : decode cX2_withdraw 14 = .ok (.pop, 1) := dk_87 (dk_at dksX2_withdraw_0 14 rfl rfl)
theorem dX2_withdraw_15 : decode cX2_withdraw 15 = .ok (.aload_n 0, 1) := dk_42 (dk_at dksX2_withdraw_0 15 rfl rfl)
theorem dX2_withdraw_16 : decode cX2_withdraw 16 = .ok (.getfield 24, 3) := dk_180 0 24 (dk_at dksX2_withdraw_0 16 rfl rfl)
theorem dX2_withdraw_19 : decode cX2_withdraw 19 = .ok (.invokevirtual 92, 3) := dk_182 0 92 (dk_at dksX2_withdraw_0 19 rfl rfl)
theorem dX2_withdraw_22 : decode cX2_withdraw 22 = .ok (.ireturn, 1) := dk_172 (dk_at dksX2_withdraw_0 22 rfl rfl)
abbrev cX2_requestByValue : ByteArray := prog_8_method_23_code
def yX2_requestByValue : MethodName := ⟨RX2, "requestByValue", "(I)I"⟩
def dkwX2_requestByValue_3 : List UInt8 := [27, 160, 0, 5, 29, 172, 132, 3, 1, 167, 255, 188, 2, 172]
abbrev dktX2_requestByValue_3 : List UInt8 := dkwX2_requestByValue_3 ++ []
def dkwX2_requestByValue_2 : List UInt8 := [185, 0, 132, 3, 0, 153, 0, 7, 4, 167, 0, 4, 3, 96, 54, 4, 132, 5, 1, 167, 255, 219, 21, 4]
abbrev dktX2_requestByValue_2 : List UInt8 := dkwX2_requestByValue_2 ++ dktX2_requestByValue_3
def dkwX2_requestByValue_1 : List UInt8 := [54, 5, 21, 5, 42, 180, 0, 24, 182, 0, 92, 162, 0, 31, 21, 4, 44, 21, 5, 29]
abbrev dktX2_requestByValue_1 : List UInt8 := dkwX2_requestByValue_1 ++ dktX2_requestByValue_2
def dkwX2_requestByValue_0 : List UInt8 := [42, 186, 0, 187, 0, 0, 77, 3, 62, 29, 42, 180, 0, 24, 182, 0, 92, 162, 0, 63, 3, 54, 4, 3]
abbrev dktX2_requestByValue_0 : List UInt8 := dkwX2_requestByValue_0 ++ dktX2_requestByValue_1
theorem dksX2_requestByValue_0 : cX2_requestByValue.data.toList.drop 0 = dktX2_requestByValue_0 := by decide +kernel
theorem dksX2_requestByValue_1 : cX2_requestByValue.data.toList.drop 24 = dktX2_requestByValue_1 := dk_seg dksX2_requestByValue_0 24 rfl rfl
theorem dksX2_requestByValue_2 : cX2_requestByValue.data.toList.drop 44 = dktX2_requestByValue_2 := dk_seg dksX2_requestByValue_1 20 rfl rfl
theorem dksX2_requestByValue_3 : cX2_requestByValue.data.toList.drop 68 = dktX2_requestByValue_3 := dk_seg dksX2_requestByValue_2 24 rfl rfl
theorem dX2_requestByValue_0 : decode cX2_requestByValue 0 = .ok (.aload_n 0, 1) := dk_42 (dk_at dksX2_requestByValue_0 0 rfl rfl)
theorem dX2_requestByValue_1 : decode cX2_requestByValue 1 = .ok (.invokedynamic 187, 5) := by decide +kernel
theorem dX2_requestByValue_6 : decode cX2_requestByValue 6 = .ok (.astore_n 2, 1) := dk_77 (dk_at dksX2_requestByValue_0 6 rfl rfl)
theorem dX2_requestByValue_7 : decode cX2_requestByValue 7 = .ok (.iconst 0, 1) := dk_3 (dk_at dksX2_requestByValue_0 7 rfl rfl)
theorem dX2_requestByValue_8 : decode cX2_requestByValue 8 = .ok (.istore_n 3, 1) := dk_62 (dk_at dksX2_requestByValue_0 8 rfl rfl)
theorem dX2_requestByValue_9 : decode cX2_requestByValue 9 = .ok (.iload_n 3, 1) := dk_29 (dk_at dksX2_requestByValue_0 9 rfl rfl)
theorem dX2_requestByValue_10 : decode cX2_requestByValue 10 = .ok (.aload_n 0, 1) := dk_42 (dk_at dksX2_requestByValue_0 10 rfl rfl)
theorem dX2_requestByValue_11 : decode cX2_requestByValue 11 = .ok (.getfield 24, 3) := dk_180 0 24 (dk_at dksX2_requestByValue_0 11 rfl rfl)
theorem dX2_requestByValue_14 : decode cX2_requestByValue 14 = .ok (.invokevirtual 92, 3) := dk_182 0 92 (dk_at dksX2_requestByValue_0 14 rfl rfl)
theorem dX2_requestByValue_17 : decode cX2_requestByValue 17 = .ok (.if_icmp .ge 63, 3) := dk_162 0 63 (dk_at dksX2_requestByValue_0 17 rfl rfl)
theorem dX2_requestByValue_20 : decode cX2_requestByValue 20 = .ok (.iconst 0, 1) := dk_3 (dk_at dksX2_requestByValue_0 20 rfl rfl)
theorem dX2_requestByValue_21 : decode cX2_requestByValue 21 = .ok (.istore 4, 2) := dk_54 4 (dk_at dksX2_requestByValue_0 21 rfl rfl)
theorem dX2_requestByValue_23 : decode cX2_requestByValue 23 = .ok (.iconst 0, 1) := dk_3 (dk_at dksX2_requestByValue_0 23 rfl rfl)
theorem dX2_requestByValue_24 : decode cX2_requestByValue 24 = .ok (.istore 5, 2) := dk_54 5 (dk_at dksX2_requestByValue_1 0 rfl rfl)
theorem dX2_requestByValue_26 : decode cX2_requestByValue 26 = .ok (.iload 5, 2) := dk_21 5 (dk_at dksX2_requestByValue_1 2 rfl rfl)
theorem dX2_requestByValue_28 : decode cX2_requestByValue 28 = .ok (.aload_n 0, 1) := dk_42 (dk_at dksX2_requestByValue_1 4 rfl rfl)
theorem dX2_requestByValue_29 : decode cX2_requestByValue 29 = .ok (.getfield 24, 3) := dk_180 0 24 (dk_at dksX2_requestByValue_1 5 rfl rfl)
theorem dX2_requestByValue_32 : decode cX2_requestByValue 32 = .ok (.invokevirtual 92, 3) := dk_182 0 92 (dk_at dksX2_requestByValue_1 8 rfl rfl)
theorem dX2_requestByValue_35 : decode cX2_requestByValue 35 = .ok (.if_icmp .ge 31, 3) := dk_162 0 31 (dk_at dksX2_requestByValue_1 11 rfl rfl)
theorem dX2_requestByValue_38 : decode cX2_requestByValue 38 = .ok (.iload 4, 2) := dk_21 4 (dk_at dksX2_requestByValue_1 14 rfl rfl)
theorem dX2_requestByValue_40 : decode cX2_requestByValue 40 = .ok (.aload_n 2, 1) := dk_44 (dk_at dksX2_requestByValue_1 16 rfl rfl)
theorem dX2_requestByValue_41 : decode cX2_requestByValue 41 = .ok (.iload 5, 2) := dk_21 5 (dk_at dksX2_requestByValue_1 17 rfl rfl)
theorem dX2_requestByValue_43 : decode cX2_requestByValue 43 = .ok (.iload_n 3, 1) := dk_29 (dk_at dksX2_requestByValue_1 19 rfl rfl)
theorem dX2_requestByValue_44 : decode cX2_requestByValue 44 = .ok (.invokeinterface 132 3, 5) := by decide +kernel
theorem dX2_requestByValue_49 : decode cX2_requestByValue 49 = .ok (.ifCond .eq 7, 3) := dk_153 0 7 (dk_at dksX2_requestByValue_2 5 rfl rfl)
theorem dX2_requestByValue_52 : decode cX2_requestByValue 52 = .ok (.iconst 1, 1) := dk_4 (dk_at dksX2_requestByValue_2 8 rfl rfl)
theorem dX2_requestByValue_53 : decode cX2_requestByValue 53 = .ok (.goto 4, 3) := dk_167 0 4 (dk_at dksX2_requestByValue_2 9 rfl rfl)
theorem dX2_requestByValue_56 : decode cX2_requestByValue 56 = .ok (.iconst 0, 1) := dk_3 (dk_at dksX2_requestByValue_2 12 rfl rfl)
theorem dX2_requestByValue_57 : decode cX2_requestByValue 57 = .ok (.iadd, 1) := dk_96 (dk_at dksX2_requestByValue_2 13 rfl rfl)
theorem dX2_requestByValue_58 : decode cX2_requestByValue 58 = .ok (.istore 4, 2) := dk_54 4 (dk_at dksX2_requestByValue_2 14 rfl rfl)
theorem dX2_requestByValue_60 : decode cX2_requestByValue 60 = .ok (.iinc 5 1, 3) := dk_132 5 1 (dk_at dksX2_requestByValue_2 16 rfl rfl)
theorem dX2_requestByValue_63 : decode cX2_requestByValue 63 = .ok (.goto (-37), 3) := dk_167 255 219 (dk_at dksX2_requestByValue_2 19 rfl rfl)
theorem dX2_requestByValue_66 : decode cX2_requestByValue 66 = .ok (.iload 4, 2) := dk_21 4 (dk_at dksX2_requestByValue_2 22 rfl rfl)
theorem dX2_requestByValue_68 : decode cX2_requestByValue 68 = .ok (.iload_n 1, 1) := dk_27 (dk_at dksX2_requestByValue_3 0 rfl rfl)
theorem dX2_requestByValue_69 : decode cX2_requestByValue 69 = .ok (.if_icmp .ne 5, 3) := dk_160 0 5 (dk_at dksX2_requestByValue_3 1 rfl rfl)
theorem dX2_requestByValue_72 : decode cX2_requestByValue 72 = .ok (.iload_n 3, 1) := dk_29 (dk_at dksX2_requestByValue_3 4 rfl rfl)
theorem dX2_requestByValue_73 : decode cX2_requestByValue 73 = .ok (.ireturn, 1) := dk_172 (dk_at dksX2_requestByValue_3 5 rfl rfl)
theorem dX2_requestByValue_74 : decode cX2_requestByValue 74 = .ok (.iinc 3 1, 3) := dk_132 3 1 (dk_at dksX2_requestByValue_3 6 rfl rfl)
theorem dX2_requestByValue_77 : decode cX2_requestByValue 77 = .ok (.goto (-68), 3) := dk_167 255 188 (dk_at dksX2_requestByValue_3 9 rfl rfl)
theorem dX2_requestByValue_80 : decode cX2_requestByValue 80 = .ok (.iconst (-1), 1) := dk_2 (dk_at dksX2_requestByValue_3 12 rfl rfl)
theorem dX2_requestByValue_81 : decode cX2_requestByValue 81 = .ok (.ireturn, 1) := dk_172 (dk_at dksX2_requestByValue_3 13 rfl rfl)
abbrev cX2_lambda_requestByValue_2 : ByteArray := prog_8_method_35_code
def yX2_lambda_requestByValue_2 : MethodName := ⟨RX2, "lambda$requestByValue$2", "(II)Z"⟩
def dkwX2_lambda_requestByValue_2_1 : List UInt8 := [160, 0, 12, 27, 28, 162, 0, 7, 4, 167, 0, 4, 3, 172]
abbrev dktX2_lambda_requestByValue_2_1 : List UInt8 := dkwX2_lambda_requestByValue_2_1 ++ []
def dkwX2_lambda_requestByValue_2_0 : List UInt8 := [42, 27, 182, 1, 2, 42, 28, 182, 1, 2, 163, 0, 21, 42, 27, 182, 1, 2, 42, 28, 182, 1, 2]
abbrev dktX2_lambda_requestByValue_2_0 : List UInt8 := dkwX2_lambda_requestByValue_2_0 ++ dktX2_lambda_requestByValue_2_1
theorem dksX2_lambda_requestByValue_2_0 : cX2_lambda_requestByValue_2.data.toList.drop 0 = dktX2_lambda_requestByValue_2_0 := by decide +kernel
theorem dksX2_lambda_requestByValue_2_1 : cX2_lambda_requestByValue_2.data.toList.drop 23 = dktX2_lambda_requestByValue_2_1 := dk_seg dksX2_lambda_requestByValue_2_0 23 rfl rfl
theorem dX2_lambda_requestByValue_2_0 : decode cX2_lambda_requestByValue_2 0 = .ok (.aload_n 0, 1) := dk_42 (dk_at dksX2_lambda_requestByValue_2_0 0 rfl rfl)
theorem dX2_lambda_requestByValue_2_1 : decode cX2_lambda_requestByValue_2 1 = .ok (.iload_n 1, 1) := dk_27 (dk_at dksX2_lambda_requestByValue_2_0 1 rfl rfl)
theorem dX2_lambda_requestByValue_2_2 : decode cX2_lambda_requestByValue_2 2 = .ok (.invokevirtual 258, 3) := dk_182 1 2 (dk_at dksX2_lambda_requestByValue_2_0 2 rfl rfl)
theorem dX2_lambda_requestByValue_2_5 : decode cX2_lambda_requestByValue_2 5 = .ok (.aload_n 0, 1) := dk_42 (dk_at dksX2_lambda_requestByValue_2_0 5 rfl rfl)
theorem dX2_lambda_requestByValue_2_6 : decode cX2_lambda_requestByValue_2 6 = .ok (.iload_n 2, 1) := dk_28 (dk_at dksX2_lambda_requestByValue_2_0 6 rfl rfl)
theorem dX2_lambda_requestByValue_2_7 : decode cX2_lambda_requestByValue_2 7 = .ok (.invokevirtual 258, 3) := dk_182 1 2 (dk_at dksX2_lambda_requestByValue_2_0 7 rfl rfl)
theorem dX2_lambda_requestByValue_2_10 : decode cX2_lambda_requestByValue_2 10 = .ok (.if_icmp .gt 21, 3) := dk_163 0 21 (dk_at dksX2_lambda_requestByValue_2_0 10 rfl rfl)
theorem dX2_lambda_requestByValue_2_13 : decode cX2_lambda_requestByValue_2 13 = .ok (.aload_n 0, 1) := dk_42 (dk_at dksX2_lambda_requestByValue_2_0 13 rfl rfl)
theorem dX2_lambda_requestByValue_2_14 : decode cX2_lambda_requestByValue_2 14 = .ok (.iload_n 1, 1) := dk_27 (dk_at dksX2_lambda_requestByValue_2_0 14 rfl rfl)
theorem dX2_lambda_requestByValue_2_15 : decode cX2_lambda_requestByValue_2 15 = .ok (.invokevirtual 258, 3) := dk_182 1 2 (dk_at dksX2_lambda_requestByValue_2_0 15 rfl rfl)
theorem dX2_lambda_requestByValue_2_18 : decode cX2_lambda_requestByValue_2 18 = .ok (.aload_n 0, 1) := dk_42 (dk_at dksX2_lambda_requestByValue_2_0 18 rfl rfl)
theorem dX2_lambda_requestByValue_2_19 : decode cX2_lambda_requestByValue_2 19 = .ok (.iload_n 2, 1) := dk_28 (dk_at dksX2_lambda_requestByValue_2_0 19 rfl rfl)
theorem dX2_lambda_requestByValue_2_20 : decode cX2_lambda_requestByValue_2 20 = .ok (.invokevirtual 258, 3) := dk_182 1 2 (dk_at dksX2_lambda_requestByValue_2_0 20 rfl rfl)
theorem dX2_lambda_requestByValue_2_23 : decode cX2_lambda_requestByValue_2 23 = .ok (.if_icmp .ne 12, 3) := dk_160 0 12 (dk_at dksX2_lambda_requestByValue_2_1 0 rfl rfl)
theorem dX2_lambda_requestByValue_2_26 : decode cX2_lambda_requestByValue_2 26 = .ok (.iload_n 1, 1) := dk_27 (dk_at dksX2_lambda_requestByValue_2_1 3 rfl rfl)
theorem dX2_lambda_requestByValue_2_27 : decode cX2_lambda_requestByValue_2 27 = .ok (.iload_n 2, 1) := dk_28 (dk_at dksX2_lambda_requestByValue_2_1 4 rfl rfl)
theorem dX2_lambda_requestByValue_2_28 : decode cX2_lambda_requestByValue_2 28 = .ok (.if_icmp .ge 7, 3) := dk_162 0 7 (dk_at dksX2_lambda_requestByValue_2_1 5 rfl rfl)
theorem dX2_lambda_requestByValue_2_31 : decode cX2_lambda_requestByValue_2 31 = .ok (.iconst 1, 1) := dk_4 (dk_at dksX2_lambda_requestByValue_2_1 8 rfl rfl)
theorem dX2_lambda_requestByValue_2_32 : decode cX2_lambda_requestByValue_2 32 = .ok (.goto 4, 3) := dk_167 0 4 (dk_at dksX2_lambda_requestByValue_2_1 9 rfl rfl)
theorem dX2_lambda_requestByValue_2_35 : decode cX2_lambda_requestByValue_2 35 = .ok (.iconst 0, 1) := dk_3 (dk_at dksX2_lambda_requestByValue_2_1 12 rfl rfl)
theorem dX2_lambda_requestByValue_2_36 : decode cX2_lambda_requestByValue_2 36 = .ok (.ireturn, 1) := dk_172 (dk_at dksX2_lambda_requestByValue_2_1 13 rfl rfl)
abbrev cX2_valueOf : ByteArray := prog_8_method_24_code
def yX2_valueOf : MethodName := ⟨RX2, "valueOf", "(I)I"⟩
def dkwX2_valueOf_0 : List UInt8 := [42, 180, 0, 24, 27, 182, 0, 96, 192, 0, 61, 180, 0, 178, 172]
abbrev dktX2_valueOf_0 : List UInt8 := dkwX2_valueOf_0 ++ []
theorem dksX2_valueOf_0 : cX2_valueOf.data.toList.drop 0 = dktX2_valueOf_0 := by decide +kernel
theorem dX2_valueOf_0 : decode cX2_valueOf 0 = .ok (.aload_n 0, 1) := dk_42 (dk_at dksX2_valueOf_0 0 rfl rfl)
theorem dX2_valueOf_1 : decode cX2_valueOf 1 = .ok (.getfield 24, 3) := dk_180 0 24 (dk_at dksX2_valueOf_0 1 rfl rfl)
theorem dX2_valueOf_4 : decode cX2_valueOf 4 = .ok (.iload_n 1, 1) := dk_27 (dk_at dksX2_valueOf_0 4 rfl rfl)
theorem dX2_valueOf_5 : decode cX2_valueOf 5 = .ok (.invokevirtual 96, 3) := dk_182 0 96 (dk_at dksX2_valueOf_0 5 rfl rfl)
theorem dX2_valueOf_8 : decode cX2_valueOf 8 = .ok (.checkcast 61, 3) := dk_192 0 61 (dk_at dksX2_valueOf_0 8 rfl rfl)
theorem dX2_valueOf_11 : decode cX2_valueOf 11 = .ok (.getfield 178, 3) := dk_180 0 178 (dk_at dksX2_valueOf_0 11 rfl rfl)
theorem dX2_valueOf_14 : decode cX2_valueOf 14 = .ok (.ireturn, 1) := dk_172 (dk_at dksX2_valueOf_0 14 rfl rfl)
abbrev cX2_setWidth : ByteArray := prog_8_method_26_code
def yX2_setWidth : MethodName := ⟨RX2, "setWidth", "(I)I"⟩
def dkwX2_setWidth_0 : List UInt8 := [27, 16, 8, 16, 60, 184, 0, 80, 184, 0, 100, 42, 180, 0, 28, 61, 42, 27, 181, 0, 28, 28, 172]
abbrev dktX2_setWidth_0 : List UInt8 := dkwX2_setWidth_0 ++ []
theorem dksX2_setWidth_0 : cX2_setWidth.data.toList.drop 0 = dktX2_setWidth_0 := by decide +kernel
theorem dX2_setWidth_0 : decode cX2_setWidth 0 = .ok (.iload_n 1, 1) := dk_27 (dk_at dksX2_setWidth_0 0 rfl rfl)
theorem dX2_setWidth_1 : decode cX2_setWidth 1 = .ok (.bipush 8, 2) := dk_16 8 (dk_at dksX2_setWidth_0 1 rfl rfl)
theorem dX2_setWidth_3 : decode cX2_setWidth 3 = .ok (.bipush 60, 2) := dk_16 60 (dk_at dksX2_setWidth_0 3 rfl rfl)
theorem dX2_setWidth_5 : decode cX2_setWidth 5 = .ok (.invokestatic 80, 3) := dk_184 0 80 (dk_at dksX2_setWidth_0 5 rfl rfl)
theorem dX2_setWidth_8 : decode cX2_setWidth 8 = .ok (.invokestatic 100, 3) := dk_184 0 100 (dk_at dksX2_setWidth_0 8 rfl rfl)
theorem dX2_setWidth_11 : decode cX2_setWidth 11 = .ok (.aload_n 0, 1) := dk_42 (dk_at dksX2_setWidth_0 11 rfl rfl)
theorem dX2_setWidth_12 : decode cX2_setWidth 12 = .ok (.getfield 28, 3) := dk_180 0 28 (dk_at dksX2_setWidth_0 12 rfl rfl)
theorem dX2_setWidth_15 : decode cX2_setWidth 15 = .ok (.istore_n 2, 1) := dk_61 (dk_at dksX2_setWidth_0 15 rfl rfl)
theorem dX2_setWidth_16 : decode cX2_setWidth 16 = .ok (.aload_n 0, 1) := dk_42 (dk_at dksX2_setWidth_0 16 rfl rfl)
theorem dX2_setWidth_17 : decode cX2_setWidth 17 = .ok (.iload_n 1, 1) := dk_27 (dk_at dksX2_setWidth_0 17 rfl rfl)
theorem dX2_setWidth_18 : decode cX2_setWidth 18 = .ok (.putfield 28, 3) := dk_181 0 28 (dk_at dksX2_setWidth_0 18 rfl rfl)
theorem dX2_setWidth_21 : decode cX2_setWidth 21 = .ok (.iload_n 2, 1) := dk_28 (dk_at dksX2_setWidth_0 21 rfl rfl)
theorem dX2_setWidth_22 : decode cX2_setWidth 22 = .ok (.ireturn, 1) := dk_172 (dk_at dksX2_setWidth_0 22 rfl rfl)
abbrev cX2_checkedPage : ByteArray := prog_8_method_28_code
def yX2_checkedPage : MethodName := ⟨RX2, "checkedPage", "()LRoyalCourt$Page;"⟩
def dkwX2_checkedPage_2 : List UInt8 := [167, 255, 217, 42, 182, 0, 197, 176]
abbrev dktX2_checkedPage_2 : List UInt8 := dkwX2_checkedPage_2 ++ []
def dkwX2_checkedPage_1 : List UInt8 := [192, 0, 61, 77, 44, 180, 0, 188, 190, 42, 180, 0, 28, 163, 0, 7, 4, 167, 0, 4, 3, 184, 0, 117]
abbrev dktX2_checkedPage_1 : List UInt8 := dkwX2_checkedPage_1 ++ dktX2_checkedPage_2
def dkwX2_checkedPage_0 : List UInt8 := [42, 180, 0, 24, 182, 0, 47, 76, 43, 185, 0, 51, 1, 0, 153, 0, 36, 43, 185, 0, 57, 1, 0]
abbrev dktX2_checkedPage_0 : List UInt8 := dkwX2_checkedPage_0 ++ dktX2_checkedPage_1
theorem dksX2_checkedPage_0 : cX2_checkedPage.data.toList.drop 0 = dktX2_checkedPage_0 := by decide +kernel
theorem dksX2_checkedPage_1 : cX2_checkedPage.data.toList.drop 23 = dktX2_checkedPage_1 := dk_seg dksX2_checkedPage_0 23 rfl rfl
theorem dksX2_checkedPage_2 : cX2_checkedPage.data.toList.drop 47 = dktX2_checkedPage_2 := dk_seg dksX2_checkedPage_1 24 rfl rfl
theorem dX2_checkedPage_0 : decode cX2_checkedPage 0 = .ok (.aload_n 0, 1) := dk_42 (dk_at dksX2_checkedPage_0 0 rfl rfl)
theorem dX2_checkedPage_1 : decode cX2_checkedPage 1 = .ok (.getfield 24, 3) := dk_180 0 24 (dk_at dksX2_checkedPage_0 1 rfl rfl)
theorem dX2_checkedPage_4 : decode cX2_checkedPage 4 = .ok (.invokevirtual 47, 3) := dk_182 0 47 (dk_at dksX2_checkedPage_0 4 rfl rfl)
theorem dX2_checkedPage_7 : decode cX2_checkedPage 7 = .ok (.astore_n 1, 1) := dk_76 (dk_at dksX2_checkedPage_0 7 rfl rfl)
theorem dX2_checkedPage_8 : decode cX2_checkedPage 8 = .ok (.aload_n 1, 1) := dk_43 (dk_at dksX2_checkedPage_0 8 rfl rfl)
theorem dX2_checkedPage_9 : decode cX2_checkedPage 9 = .ok (.invokeinterface 51 1, 5) := by decide +kernel
theorem dX2_checkedPage_14 : decode cX2_checkedPage 14 = .ok (.ifCond .eq 36, 3) := dk_153 0 36 (dk_at dksX2_checkedPage_0 14 rfl rfl)
theorem dX2_checkedPage_17 : decode cX2_checkedPage 17 = .ok (.aload_n 1, 1) := dk_43 (dk_at dksX2_checkedPage_0 17 rfl rfl)
theorem dX2_checkedPage_18 : decode cX2_checkedPage 18 = .ok (.invokeinterface 57 1, 5) := by decide +kernel
theorem dX2_checkedPage_23 : decode cX2_checkedPage 23 = .ok (.checkcast 61, 3) := dk_192 0 61 (dk_at dksX2_checkedPage_1 0 rfl rfl)
theorem dX2_checkedPage_26 : decode cX2_checkedPage 26 = .ok (.astore_n 2, 1) := dk_77 (dk_at dksX2_checkedPage_1 3 rfl rfl)
theorem dX2_checkedPage_27 : decode cX2_checkedPage 27 = .ok (.aload_n 2, 1) := dk_44 (dk_at dksX2_checkedPage_1 4 rfl rfl)
theorem dX2_checkedPage_28 : decode cX2_checkedPage 28 = .ok (.getfield 188, 3) := dk_180 0 188 (dk_at dksX2_checkedPage_1 5 rfl rfl)
theorem dX2_checkedPage_31 : decode cX2_checkedPage 31 = .ok (.arraylength, 1) := dk_190 (dk_at dksX2_checkedPage_1 8 rfl rfl)
theorem dX2_checkedPage_32 : decode cX2_checkedPage 32 = .ok (.aload_n 0, 1) := dk_42 (dk_at dksX2_checkedPage_1 9 rfl rfl)
theorem dX2_checkedPage_33 : decode cX2_checkedPage 33 = .ok (.getfield 28, 3) := dk_180 0 28 (dk_at dksX2_checkedPage_1 10 rfl rfl)
theorem dX2_checkedPage_36 : decode cX2_checkedPage 36 = .ok (.if_icmp .gt 7, 3) := dk_163 0 7 (dk_at dksX2_checkedPage_1 13 rfl rfl)
theorem dX2_checkedPage_39 : decode cX2_checkedPage 39 = .ok (.iconst 1, 1) := dk_4 (dk_at dksX2_checkedPage_1 16 rfl rfl)
theorem dX2_checkedPage_40 : decode cX2_checkedPage 40 = .ok (.goto 4, 3) := dk_167 0 4 (dk_at dksX2_checkedPage_1 17 rfl rfl)
theorem dX2_checkedPage_43 : decode cX2_checkedPage 43 = .ok (.iconst 0, 1) := dk_3 (dk_at dksX2_checkedPage_1 20 rfl rfl)
theorem dX2_checkedPage_44 : decode cX2_checkedPage 44 = .ok (.invokestatic 117, 3) := dk_184 0 117 (dk_at dksX2_checkedPage_1 21 rfl rfl)
theorem dX2_checkedPage_47 : decode cX2_checkedPage 47 = .ok (.goto (-39), 3) := dk_167 255 217 (dk_at dksX2_checkedPage_2 0 rfl rfl)
theorem dX2_checkedPage_50 : decode cX2_checkedPage 50 = .ok (.aload_n 0, 1) := dk_42 (dk_at dksX2_checkedPage_2 3 rfl rfl)
theorem dX2_checkedPage_51 : decode cX2_checkedPage 51 = .ok (.invokevirtual 197, 3) := dk_182 0 197 (dk_at dksX2_checkedPage_2 4 rfl rfl)
theorem dX2_checkedPage_54 : decode cX2_checkedPage 54 = .ok (.areturn, 1) := dk_176 (dk_at dksX2_checkedPage_2 7 rfl rfl)
abbrev cX2_lineCount : ByteArray := prog_8_method_29_code
def yX2_lineCount : MethodName := ⟨RX2, "lineCount", "()I"⟩
def dkwX2_lineCount_1 : List UInt8 := [96, 172]
abbrev dktX2_lineCount_1 : List UInt8 := dkwX2_lineCount_1 ++ []
def dkwX2_lineCount_0 : List UInt8 := [42, 182, 0, 201, 182, 0, 204, 76, 43, 190, 154, 0, 7, 3, 167, 0, 11, 43, 43, 190, 4, 100, 46, 4]
abbrev dktX2_lineCount_0 : List UInt8 := dkwX2_lineCount_0 ++ dktX2_lineCount_1
theorem dksX2_lineCount_0 : cX2_lineCount.data.toList.drop 0 = dktX2_lineCount_0 := by decide +kernel
theorem dksX2_lineCount_1 : cX2_lineCount.data.toList.drop 24 = dktX2_lineCount_1 := dk_seg dksX2_lineCount_0 24 rfl rfl
theorem dX2_lineCount_0 : decode cX2_lineCount 0 = .ok (.aload_n 0, 1) := dk_42 (dk_at dksX2_lineCount_0 0 rfl rfl)
theorem dX2_lineCount_1 : decode cX2_lineCount 1 = .ok (.invokevirtual 201, 3) := dk_182 0 201 (dk_at dksX2_lineCount_0 1 rfl rfl)
theorem dX2_lineCount_4 : decode cX2_lineCount 4 = .ok (.invokevirtual 204, 3) := dk_182 0 204 (dk_at dksX2_lineCount_0 4 rfl rfl)
theorem dX2_lineCount_7 : decode cX2_lineCount 7 = .ok (.astore_n 1, 1) := dk_76 (dk_at dksX2_lineCount_0 7 rfl rfl)
theorem dX2_lineCount_8 : decode cX2_lineCount 8 = .ok (.aload_n 1, 1) := dk_43 (dk_at dksX2_lineCount_0 8 rfl rfl)
theorem dX2_lineCount_9 : decode cX2_lineCount 9 = .ok (.arraylength, 1) := dk_190 (dk_at dksX2_lineCount_0 9 rfl rfl)
theorem dX2_lineCount_10 : decode cX2_lineCount 10 = .ok (.ifCond .ne 7, 3) := dk_154 0 7 (dk_at dksX2_lineCount_0 10 rfl rfl)
theorem dX2_lineCount_13 : decode cX2_lineCount 13 = .ok (.iconst 0, 1) := dk_3 (dk_at dksX2_lineCount_0 13 rfl rfl)
theorem dX2_lineCount_14 : decode cX2_lineCount 14 = .ok (.goto 11, 3) := dk_167 0 11 (dk_at dksX2_lineCount_0 14 rfl rfl)
theorem dX2_lineCount_17 : decode cX2_lineCount 17 = .ok (.aload_n 1, 1) := dk_43 (dk_at dksX2_lineCount_0 17 rfl rfl)
theorem dX2_lineCount_18 : decode cX2_lineCount 18 = .ok (.aload_n 1, 1) := dk_43 (dk_at dksX2_lineCount_0 18 rfl rfl)
theorem dX2_lineCount_19 : decode cX2_lineCount 19 = .ok (.arraylength, 1) := dk_190 (dk_at dksX2_lineCount_0 19 rfl rfl)
theorem dX2_lineCount_20 : decode cX2_lineCount 20 = .ok (.iconst 1, 1) := dk_4 (dk_at dksX2_lineCount_0 20 rfl rfl)
theorem dX2_lineCount_21 : decode cX2_lineCount 21 = .ok (.isub, 1) := dk_100 (dk_at dksX2_lineCount_0 21 rfl rfl)
theorem dX2_lineCount_22 : decode cX2_lineCount 22 = .ok (.iaload, 1) := dk_46 (dk_at dksX2_lineCount_0 22 rfl rfl)
theorem dX2_lineCount_23 : decode cX2_lineCount 23 = .ok (.iconst 1, 1) := dk_4 (dk_at dksX2_lineCount_0 23 rfl rfl)
theorem dX2_lineCount_24 : decode cX2_lineCount 24 = .ok (.iadd, 1) := dk_96 (dk_at dksX2_lineCount_1 0 rfl rfl)
theorem dX2_lineCount_25 : decode cX2_lineCount 25 = .ok (.ireturn, 1) := dk_172 (dk_at dksX2_lineCount_1 1 rfl rfl)
abbrev cX2_sumOfValues : ByteArray := prog_8_method_25_code
def yX2_sumOfValues : MethodName := ⟨RX2, "sumOfValues", "()I"⟩
def dkwX2_sumOfValues_1 : List UInt8 := [185, 0, 57, 1, 0, 192, 0, 61, 78, 27, 45, 180, 0, 178, 96, 60, 167, 255, 230, 27, 172]
abbrev dktX2_sumOfValues_1 : List UInt8 := dkwX2_sumOfValues_1 ++ []
def dkwX2_sumOfValues_0 : List UInt8 := [3, 60, 42, 180, 0, 24, 182, 0, 47, 77, 44, 185, 0, 51, 1, 0, 153, 0, 23, 44]
abbrev dktX2_sumOfValues_0 : List UInt8 := dkwX2_sumOfValues_0 ++ dktX2_sumOfValues_1
theorem dksX2_sumOfValues_0 : cX2_sumOfValues.data.toList.drop 0 = dktX2_sumOfValues_0 := by decide +kernel
theorem dksX2_sumOfValues_1 : cX2_sumOfValues.data.toList.drop 20 = dktX2_sumOfValues_1 := dk_seg dksX2_sumOfValues_0 20 rfl rfl
theorem dX2_sumOfValues_0 : decode cX2_sumOfValues 0 = .ok (.iconst 0, 1) := dk_3 (dk_at dksX2_sumOfValues_0 0 rfl rfl)
theorem dX2_sumOfValues_1 : decode cX2_sumOfValues 1 = .ok (.istore_n 1, 1) := dk_60 (dk_at dksX2_sumOfValues_0 1 rfl rfl)
theorem dX2_sumOfValues_2 : decode cX2_sumOfValues 2 = .ok (.aload_n 0, 1) := dk_42 (dk_at dksX2_sumOfValues_0 2 rfl rfl)
theorem dX2_sumOfValues_3 : decode cX2_sumOfValues 3 = .ok (.getfield 24, 3) := dk_180 0 24 (dk_at dksX2_sumOfValues_0 3 rfl rfl)
theorem dX2_sumOfValues_6 : decode cX2_sumOfValues 6 = .ok (.invokevirtual 47, 3) := dk_182 0 47 (dk_at dksX2_sumOfValues_0 6 rfl rfl)
theorem dX2_sumOfValues_9 : decode cX2_sumOfValues 9 = .ok (.astore_n 2, 1) := dk_77 (dk_at dksX2_sumOfValues_0 9 rfl rfl)
theorem dX2_sumOfValues_10 : decode cX2_sumOfValues 10 = .ok (.aload_n 2, 1) := dk_44 (dk_at dksX2_sumOfValues_0 10 rfl rfl)
theorem dX2_sumOfValues_11 : decode cX2_sumOfValues 11 = .ok (.invokeinterface 51 1, 5) := by decide +kernel
theorem dX2_sumOfValues_16 : decode cX2_sumOfValues 16 = .ok (.ifCond .eq 23, 3) := dk_153 0 23 (dk_at dksX2_sumOfValues_0 16 rfl rfl)
theorem dX2_sumOfValues_19 : decode cX2_sumOfValues 19 = .ok (.aload_n 2, 1) := dk_44 (dk_at dksX2_sumOfValues_0 19 rfl rfl)
theorem dX2_sumOfValues_20 : decode cX2_sumOfValues 20 = .ok (.invokeinterface 57 1, 5) := by decide +kernel
theorem dX2_sumOfValues_25 : decode cX2_sumOfValues 25 = .ok (.checkcast 61, 3) := dk_192 0 61 (dk_at dksX2_sumOfValues_1 5 rfl rfl)
theorem dX2_sumOfValues_28 : decode cX2_sumOfValues 28 = .ok (.astore_n 3, 1) := dk_78 (dk_at dksX2_sumOfValues_1 8 rfl rfl)
theorem dX2_sumOfValues_29 : decode cX2_sumOfValues 29 = .ok (.iload_n 1, 1) := dk_27 (dk_at dksX2_sumOfValues_1 9 rfl rfl)
theorem dX2_sumOfValues_30 : decode cX2_sumOfValues 30 = .ok (.aload_n 3, 1) := dk_45 (dk_at dksX2_sumOfValues_1 10 rfl rfl)
theorem dX2_sumOfValues_31 : decode cX2_sumOfValues 31 = .ok (.getfield 178, 3) := dk_180 0 178 (dk_at dksX2_sumOfValues_1 11 rfl rfl)
theorem dX2_sumOfValues_34 : decode cX2_sumOfValues 34 = .ok (.iadd, 1) := dk_96 (dk_at dksX2_sumOfValues_1 14 rfl rfl)
theorem dX2_sumOfValues_35 : decode cX2_sumOfValues 35 = .ok (.istore_n 1, 1) := dk_60 (dk_at dksX2_sumOfValues_1 15 rfl rfl)
theorem dX2_sumOfValues_36 : decode cX2_sumOfValues 36 = .ok (.goto (-26), 3) := dk_167 255 230 (dk_at dksX2_sumOfValues_1 16 rfl rfl)
theorem dX2_sumOfValues_39 : decode cX2_sumOfValues 39 = .ok (.iload_n 1, 1) := dk_27 (dk_at dksX2_sumOfValues_1 19 rfl rfl)
theorem dX2_sumOfValues_40 : decode cX2_sumOfValues 40 = .ok (.ireturn, 1) := dk_172 (dk_at dksX2_sumOfValues_1 20 rfl rfl)
abbrev cX2_writeLine : ByteArray := prog_8_method_30_code
def yX2_writeLine : MethodName := ⟨RX2, "writeLine", "(Ljava/lang/StringBuilder;I)V"⟩
def dkwX2_writeLine_2 : List UInt8 := [180, 0, 24, 21, 4, 182, 0, 96, 192, 0, 61, 43, 182, 0, 220, 132, 4, 1, 167, 255, 203, 177]
abbrev dktX2_writeLine_2 : List UInt8 := dkwX2_writeLine_2 ++ []
def dkwX2_writeLine_1 : List UInt8 := [160, 0, 38, 43, 43, 182, 0, 207, 154, 0, 8, 18, 212, 167, 0, 5, 18, 214, 182, 0, 216, 87, 42]
abbrev dktX2_writeLine_1 : List UInt8 := dkwX2_writeLine_1 ++ dktX2_writeLine_2
def dkwX2_writeLine_0 : List UInt8 := [42, 182, 0, 197, 182, 0, 204, 78, 3, 54, 4, 21, 4, 45, 190, 162, 0, 52, 45, 21, 4, 46, 28]
abbrev dktX2_writeLine_0 : List UInt8 := dkwX2_writeLine_0 ++ dktX2_writeLine_1
theorem dksX2_writeLine_0 : cX2_writeLine.data.toList.drop 0 = dktX2_writeLine_0 := by decide +kernel
theorem dksX2_writeLine_1 : cX2_writeLine.data.toList.drop 23 = dktX2_writeLine_1 := dk_seg dksX2_writeLine_0 23 rfl rfl
theorem dksX2_writeLine_2 : cX2_writeLine.data.toList.drop 46 = dktX2_writeLine_2 := dk_seg dksX2_writeLine_1 23 rfl rfl
theorem dX2_writeLine_0 : decode cX2_writeLine 0 = .ok (.aload_n 0, 1) := dk_42 (dk_at dksX2_writeLine_0 0 rfl rfl)
theorem dX2_writeLine_1 : decode cX2_writeLine 1 = .ok (.invokevirtual 197, 3) := dk_182 0 197 (dk_at dksX2_writeLine_0 1 rfl rfl)
theorem dX2_writeLine_4 : decode cX2_writeLine 4 = .ok (.invokevirtual 204, 3) := dk_182 0 204 (dk_at dksX2_writeLine_0 4 rfl rfl)
theorem dX2_writeLine_7 : decode cX2_writeLine 7 = .ok (.astore_n 3, 1) := dk_78 (dk_at dksX2_writeLine_0 7 rfl rfl)
theorem dX2_writeLine_8 : decode cX2_writeLine 8 = .ok (.iconst 0, 1) := dk_3 (dk_at dksX2_writeLine_0 8 rfl rfl)
theorem dX2_writeLine_9 : decode cX2_writeLine 9 = .ok (.istore 4, 2) := dk_54 4 (dk_at dksX2_writeLine_0 9 rfl rfl)
theorem dX2_writeLine_11 : decode cX2_writeLine 11 = .ok (.iload 4, 2) := dk_21 4 (dk_at dksX2_writeLine_0 11 rfl rfl)
theorem dX2_writeLine_13 : decode cX2_writeLine 13 = .ok (.aload_n 3, 1) := dk_45 (dk_at dksX2_writeLine_0 13 rfl rfl)
theorem dX2_writeLine_14 : decode cX2_writeLine 14 = .ok (.arraylength, 1) := dk_190 (dk_at dksX2_writeLine_0 14 rfl rfl)
theorem dX2_writeLine_15 : decode cX2_writeLine 15 = .ok (.if_icmp .ge 52, 3) := dk_162 0 52 (dk_at dksX2_writeLine_0 15 rfl rfl)
theorem dX2_writeLine_18 : decode cX2_writeLine 18 = .ok (.aload_n 3, 1) := dk_45 (dk_at dksX2_writeLine_0 18 rfl rfl)
theorem dX2_writeLine_19 : decode cX2_writeLine 19 = .ok (.iload 4, 2) := dk_21 4 (dk_at dksX2_writeLine_0 19 rfl rfl)
theorem dX2_writeLine_21 : decode cX2_writeLine 21 = .ok (.iaload, 1) := dk_46 (dk_at dksX2_writeLine_0 21 rfl rfl)
theorem dX2_writeLine_22 : decode cX2_writeLine 22 = .ok (.iload_n 2, 1) := dk_28 (dk_at dksX2_writeLine_0 22 rfl rfl)
theorem dX2_writeLine_23 : decode cX2_writeLine 23 = .ok (.if_icmp .ne 38, 3) := dk_160 0 38 (dk_at dksX2_writeLine_1 0 rfl rfl)
theorem dX2_writeLine_26 : decode cX2_writeLine 26 = .ok (.aload_n 1, 1) := dk_43 (dk_at dksX2_writeLine_1 3 rfl rfl)
theorem dX2_writeLine_27 : decode cX2_writeLine 27 = .ok (.aload_n 1, 1) := dk_43 (dk_at dksX2_writeLine_1 4 rfl rfl)
theorem dX2_writeLine_28 : decode cX2_writeLine 28 = .ok (.invokevirtual 207, 3) := dk_182 0 207 (dk_at dksX2_writeLine_1 5 rfl rfl)
theorem dX2_writeLine_31 : decode cX2_writeLine 31 = .ok (.ifCond .ne 8, 3) := dk_154 0 8 (dk_at dksX2_writeLine_1 8 rfl rfl)
theorem dX2_writeLine_34 : decode cX2_writeLine 34 = .ok (.ldc 212, 2) := dk_18 212 (dk_at dksX2_writeLine_1 11 rfl rfl)
theorem dX2_writeLine_36 : decode cX2_writeLine 36 = .ok (.goto 5, 3) := dk_167 0 5 (dk_at dksX2_writeLine_1 13 rfl rfl)
theorem dX2_writeLine_39 : decode cX2_writeLine 39 = .ok (.ldc 214, 2) := dk_18 214 (dk_at dksX2_writeLine_1 16 rfl rfl)
theorem dX2_writeLine_41 : decode cX2_writeLine 41 = .ok (.invokevirtual 216, 3) := dk_182 0 216 (dk_at dksX2_writeLine_1 18 rfl rfl)
theorem dX2_writeLine_44 : decode cX2_writeLine 44 = .ok (.pop, 1) := dk_87 (dk_at dksX2_writeLine_1 21 rfl rfl)
theorem dX2_writeLine_45 : decode cX2_writeLine 45 = .ok (.aload_n 0, 1) := dk_42 (dk_at dksX2_writeLine_1 22 rfl rfl)
theorem dX2_writeLine_46 : decode cX2_writeLine 46 = .ok (.getfield 24, 3) := dk_180 0 24 (dk_at dksX2_writeLine_2 0 rfl rfl)
theorem dX2_writeLine_49 : decode cX2_writeLine 49 = .ok (.iload 4, 2) := dk_21 4 (dk_at dksX2_writeLine_2 3 rfl rfl)
theorem dX2_writeLine_51 : decode cX2_writeLine 51 = .ok (.invokevirtual 96, 3) := dk_182 0 96 (dk_at dksX2_writeLine_2 5 rfl rfl)
theorem dX2_writeLine_54 : decode cX2_writeLine 54 = .ok (.checkcast 61, 3) := dk_192 0 61 (dk_at dksX2_writeLine_2 8 rfl rfl)
theorem dX2_writeLine_57 : decode cX2_writeLine 57 = .ok (.aload_n 1, 1) := dk_43 (dk_at dksX2_writeLine_2 11 rfl rfl)
theorem dX2_writeLine_58 : decode cX2_writeLine 58 = .ok (.invokevirtual 220, 3) := dk_182 0 220 (dk_at dksX2_writeLine_2 12 rfl rfl)
theorem dX2_writeLine_61 : decode cX2_writeLine 61 = .ok (.iinc 4 1, 3) := dk_132 4 1 (dk_at dksX2_writeLine_2 15 rfl rfl)
theorem dX2_writeLine_64 : decode cX2_writeLine 64 = .ok (.goto (-53), 3) := dk_167 255 203 (dk_at dksX2_writeLine_2 18 rfl rfl)
theorem dX2_writeLine_67 : decode cX2_writeLine 67 = .ok (.return_, 1) := dk_177 (dk_at dksX2_writeLine_2 21 rfl rfl)
theorem q68 : (Jvm.Cond.initialized "RoyalCourt$State") ∈ lw_all := lw_g (lw_at lw_m1 2 rfl) rfl
theorem q114 : (Jvm.Cond.instantiable "RoyalCourt$State" (11 : Nat)) ∈ lw_all := lw_g (lw_at lw_m1 48 rfl) rfl
theorem q116 : (Jvm.Cond.instanceMethod ({ cls := "RoyalCourt$State", name := "<init>", desc := "()V" } : Jvm.MethodName)) ∈ lw_all := lw_g (lw_at lw_m1 50 rfl) rfl
theorem q117 : (Jvm.Cond.code ({ cls := "RoyalCourt$State", name := "<init>", desc := "()V" } : Jvm.MethodName) prog_8_method_1_code (1 : Nat) (Option.none : Option Jvm.ClassFile.FieldType)) ∈ lw_all := lw_g (lw_at lw_m1 51 rfl) rfl
theorem q118 : (Jvm.Cond.methodLink "RoyalCourt$State" (3 : Nat) ({ cls := "java/lang/Object", name := "<init>", desc := "()V" } : Jvm.MethodName)) ∈ lw_all := lw_g (lw_at lw_m1 52 rfl) rfl
theorem q119 : (Jvm.Cond.classLink "RoyalCourt$State" (21 : Nat) "java/util/ArrayList") ∈ lw_all := lw_g (lw_at lw_m1 53 rfl) rfl
theorem q121 : (Jvm.Cond.methodLink "RoyalCourt$State" (23 : Nat) ({ cls := "java/util/ArrayList", name := "<init>", desc := "()V" } : Jvm.MethodName)) ∈ lw_all := lw_g (lw_at lw_m1 55 rfl) rfl
theorem q149 : (Jvm.Cond.fieldLink "RoyalCourt$State" (32 : Nat) "RoyalCourt$State" "courtiers" "I") ∈ lw_all := lw_g (lw_at lw_m1 83 rfl) rfl
theorem q151 : (Jvm.Cond.fieldLink "RoyalCourt$State" (9 : Nat) "RoyalCourt$State" "dignities" "[I") ∈ lw_all := lw_g (lw_at lw_m1 85 rfl) rfl
theorem q153 : (Jvm.Cond.fieldLink "RoyalCourt$State" (15 : Nat) "RoyalCourt$State" "favors" "[I") ∈ lw_all := lw_g (lw_at lw_m1 87 rfl) rfl
theorem q155 : (Jvm.Cond.fieldLink "RoyalCourt$State" (18 : Nat) "RoyalCourt$State" "later" "[I") ∈ lw_all := lw_g (lw_at lw_m1 89 rfl) rfl
theorem q156 : (Jvm.Cond.fieldLink "RoyalCourt$State" (41 : Nat) "RoyalCourt$State" "rules" "I") ∈ lw_all := lw_g (lw_at lw_m1 90 rfl) rfl
theorem q158 : (Jvm.Cond.fieldLink "RoyalCourt$State" (24 : Nat) "RoyalCourt$State" "requests" "Ljava/util/ArrayList;") ∈ lw_all := lw_g (lw_at lw_m1 92 rfl) rfl
theorem q160 : (Jvm.Cond.fieldLink "RoyalCourt$State" (28 : Nat) "RoyalCourt$State" "width" "I") ∈ lw_all := lw_g (lw_at lw_m1 94 rfl) rfl
theorem q162 : (Jvm.Cond.fieldLink "RoyalCourt$State" (67 : Nat) "RoyalCourt$State" "granted" "I") ∈ lw_all := lw_g (lw_at lw_m1 96 rfl) rfl
theorem q164 : (Jvm.Cond.fieldLink "RoyalCourt$State" (70 : Nat) "RoyalCourt$State" "spent" "J") ∈ lw_all := lw_g (lw_at lw_m1 98 rfl) rfl
theorem q166 : (Jvm.Cond.fieldLink "RoyalCourt$State" (74 : Nat) "RoyalCourt$State" "gained" "I") ∈ lw_all := lw_g (lw_at lw_m1 100 rfl) rfl
theorem q168 : (Jvm.Cond.fieldLink "RoyalCourt$State" (77 : Nat) "RoyalCourt$State" "lost" "I") ∈ lw_all := lw_g (lw_at lw_m1 102 rfl) rfl
theorem q170 : (Jvm.Cond.lays "RoyalCourt$State" "RoyalCourt$State" "courtiers" "I") ∈ lw_all := lw_g (lw_at lw_m1 104 rfl) rfl
theorem q171 : (Jvm.Cond.soleField "RoyalCourt$State" "courtiers") ∈ lw_all := lw_g (lw_at lw_m1 105 rfl) rfl
theorem q172 : (Jvm.Cond.laysFinal "RoyalCourt$State" "RoyalCourt$State" "dignities" "[I") ∈ lw_all := lw_g (lw_at lw_m1 106 rfl) rfl
theorem q173 : (Jvm.Cond.soleField "RoyalCourt$State" "dignities") ∈ lw_all := lw_g (lw_at lw_m1 107 rfl) rfl
theorem q174 : (Jvm.Cond.laysFinal "RoyalCourt$State" "RoyalCourt$State" "favors" "[I") ∈ lw_all := lw_g (lw_at lw_m1 108 rfl) rfl
theorem q175 : (Jvm.Cond.soleField "RoyalCourt$State" "favors") ∈ lw_all := lw_g (lw_at lw_m1 109 rfl) rfl
theorem q176 : (Jvm.Cond.laysFinal "RoyalCourt$State" "RoyalCourt$State" "later" "[I") ∈ lw_all := lw_g (lw_at lw_m1 110 rfl) rfl
theorem q177 : (Jvm.Cond.soleField "RoyalCourt$State" "later") ∈ lw_all := lw_g (lw_at lw_m1 111 rfl) rfl
theorem q178 : (Jvm.Cond.lays "RoyalCourt$State" "RoyalCourt$State" "rules" "I") ∈ lw_all := lw_g (lw_at lw_m1 112 rfl) rfl
theorem q179 : (Jvm.Cond.soleField "RoyalCourt$State" "rules") ∈ lw_all := lw_g (lw_at lw_m1 113 rfl) rfl
theorem q180 : (Jvm.Cond.laysFinal "RoyalCourt$State" "RoyalCourt$State" "requests" "Ljava/util/ArrayList;") ∈ lw_all := lw_g (lw_at lw_m1 114 rfl) rfl
theorem q181 : (Jvm.Cond.soleField "RoyalCourt$State" "requests") ∈ lw_all := lw_g (lw_at lw_m1 115 rfl) rfl
theorem q182 : (Jvm.Cond.lays "RoyalCourt$State" "RoyalCourt$State" "width" "I") ∈ lw_all := lw_g (lw_at lw_m1 116 rfl) rfl
theorem q183 : (Jvm.Cond.soleField "RoyalCourt$State" "width") ∈ lw_all := lw_g (lw_at lw_m1 117 rfl) rfl
theorem q184 : (Jvm.Cond.lays "RoyalCourt$State" "RoyalCourt$State" "granted" "I") ∈ lw_all := lw_g (lw_at lw_m1 118 rfl) rfl
theorem q185 : (Jvm.Cond.soleField "RoyalCourt$State" "granted") ∈ lw_all := lw_g (lw_at lw_m1 119 rfl) rfl
theorem q186 : (Jvm.Cond.lays "RoyalCourt$State" "RoyalCourt$State" "spent" "J") ∈ lw_all := lw_g (lw_at lw_m1 120 rfl) rfl
theorem q187 : (Jvm.Cond.soleField "RoyalCourt$State" "spent") ∈ lw_all := lw_g (lw_at lw_m1 121 rfl) rfl
theorem q188 : (Jvm.Cond.lays "RoyalCourt$State" "RoyalCourt$State" "gained" "I") ∈ lw_all := lw_g (lw_at lw_m1 122 rfl) rfl
theorem q189 : (Jvm.Cond.soleField "RoyalCourt$State" "gained") ∈ lw_all := lw_g (lw_at lw_m1 123 rfl) rfl
theorem q190 : (Jvm.Cond.lays "RoyalCourt$State" "RoyalCourt$State" "lost" "I") ∈ lw_all := lw_g (lw_at lw_m1 124 rfl) rfl
theorem q191 : (Jvm.Cond.soleField "RoyalCourt$State" "lost") ∈ lw_all := lw_g (lw_at lw_m1 125 rfl) rfl
theorem q192 : (Jvm.Cond.superclass "RoyalCourt$State" "java/lang/Object") ∈ lw_all := lw_g (lw_at lw_m1 126 rfl) rfl
theorem q346 : (Jvm.Cond.selects "RoyalCourt$State" ({ cls := "java/lang/Object", name := "getClass", desc := "()Ljava/lang/Class;" } : Jvm.MethodName) ({ cls := "java/lang/Object", name := "getClass", desc := "()Ljava/lang/Class;" } : Jvm.MethodName)) ∈ lw_all := lw_g (lw_at lw_m2 40 rfl) rfl
theorem q416 : (Jvm.Cond.instanceMethod ({ cls := "RoyalCourt$State", name := "processions", desc := "()J" } : Jvm.MethodName)) ∈ lw_all := lw_g (lw_at lw_m2 110 rfl) rfl
theorem q417 : (Jvm.Cond.selects "RoyalCourt$State" ({ cls := "RoyalCourt$State", name := "processions", desc := "()J" } : Jvm.MethodName) ({ cls := "RoyalCourt$State", name := "processions", desc := "()J" } : Jvm.MethodName)) ∈ lw_all := lw_g (lw_at lw_m2 111 rfl) rfl
theorem q418 : (Jvm.Cond.code ({ cls := "RoyalCourt$State", name := "processions", desc := "()J" } : Jvm.MethodName) prog_8_method_13_code (5 : Nat) (Option.some Jvm.ClassFile.FieldType.long)) ∈ lw_all := lw_g (lw_at lw_m2 112 rfl) rfl
theorem q419 : (Jvm.Cond.methodLink "RoyalCourt$State" (120 : Nat) ({ cls := "RoyalCourt$State", name := "earlier", desc := "()[I" } : Jvm.MethodName)) ∈ lw_all := lw_g (lw_at lw_m2 113 rfl) rfl
theorem q420 : (Jvm.Cond.privateMethod ({ cls := "RoyalCourt$State", name := "earlier", desc := "()[I" } : Jvm.MethodName)) ∈ lw_tbl := lw_at lw_m2 114 rfl
theorem q421 : (Jvm.Cond.instanceMethod ({ cls := "RoyalCourt$State", name := "earlier", desc := "()[I" } : Jvm.MethodName)) ∈ lw_all := lw_g (lw_at lw_m2 115 rfl) rfl
theorem q422 : (Jvm.Cond.code ({ cls := "RoyalCourt$State", name := "earlier", desc := "()[I" } : Jvm.MethodName) prog_8_method_11_code (4 : Nat) (Option.some (Jvm.ClassFile.FieldType.array Jvm.ClassFile.FieldType.int))) ∈ lw_all := lw_g (lw_at lw_m2 116 rfl) rfl
theorem q423 : (Jvm.Cond.methodLinkNest "RoyalCourt$State" (106 : Nat) ({ cls := "RoyalCourt", name := "isIn", desc := "(II)Z" } : Jvm.MethodName) "RoyalCourt") ∈ lw_tbl := lw_at lw_m2 117 rfl
theorem q426 : (Jvm.Cond.methodLink "RoyalCourt$State" (124 : Nat) ({ cls := "RoyalCourt$State", name := "canFollow", desc := "([III)Z" } : Jvm.MethodName)) ∈ lw_all := lw_g (lw_at lw_m2 120 rfl) rfl
theorem q427 : (Jvm.Cond.static ({ cls := "RoyalCourt$State", name := "canFollow", desc := "([III)Z" } : Jvm.MethodName)) ∈ lw_all := lw_g (lw_at lw_m2 121 rfl) rfl
theorem q428 : (Jvm.Cond.code ({ cls := "RoyalCourt$State", name := "canFollow", desc := "([III)Z" } : Jvm.MethodName) prog_8_method_12_code (3 : Nat) (Option.some Jvm.ClassFile.FieldType.boolean)) ∈ lw_all := lw_g (lw_at lw_m2 122 rfl) rfl
theorem q435 : (Jvm.Cond.instanceMethod ({ cls := "RoyalCourt$State", name := "processionsByTrying", desc := "()J" } : Jvm.MethodName)) ∈ lw_all := lw_g (lw_at lw_m2 129 rfl) rfl
theorem q436 : (Jvm.Cond.selects "RoyalCourt$State" ({ cls := "RoyalCourt$State", name := "processionsByTrying", desc := "()J" } : Jvm.MethodName) ({ cls := "RoyalCourt$State", name := "processionsByTrying", desc := "()J" } : Jvm.MethodName)) ∈ lw_all := lw_g (lw_at lw_m2 130 rfl) rfl
theorem q437 : (Jvm.Cond.code ({ cls := "RoyalCourt$State", name := "processionsByTrying", desc := "()J" } : Jvm.MethodName) prog_8_method_15_code (1 : Nat) (Option.some Jvm.ClassFile.FieldType.long)) ∈ lw_all := lw_g (lw_at lw_m2 131 rfl) rfl
theorem q438 : (Jvm.Cond.methodLink "RoyalCourt$State" (128 : Nat) ({ cls := "RoyalCourt$State", name := "processionsBehind", desc := "([II)J" } : Jvm.MethodName)) ∈ lw_all := lw_g (lw_at lw_m2 132 rfl) rfl
theorem q439 : (Jvm.Cond.privateMethod ({ cls := "RoyalCourt$State", name := "processionsBehind", desc := "([II)J" } : Jvm.MethodName)) ∈ lw_tbl := lw_at lw_m2 133 rfl
theorem q440 : (Jvm.Cond.instanceMethod ({ cls := "RoyalCourt$State", name := "processionsBehind", desc := "([II)J" } : Jvm.MethodName)) ∈ lw_all := lw_g (lw_at lw_m2 134 rfl) rfl
theorem q441 : (Jvm.Cond.code ({ cls := "RoyalCourt$State", name := "processionsBehind", desc := "([II)J" } : Jvm.MethodName) prog_8_method_14_code (6 : Nat) (Option.some Jvm.ClassFile.FieldType.long)) ∈ lw_all := lw_g (lw_at lw_m2 135 rfl) rfl
theorem q754 : (Jvm.Cond.fieldLinkNest "RoyalCourt$State" (162 : Nat) "RoyalCourt$Reader" "insults" "I" "RoyalCourt") ∈ lw_tbl := lw_at lw_m3 208 rfl
theorem q905 : (Jvm.Cond.instanceMethod ({ cls := "RoyalCourt$State", name := "writeProcession", desc := "(Ljava/lang/StringBuilder;)V" } : Jvm.MethodName)) ∈ lw_all := lw_g (lw_at lw_m4 119 rfl) rfl
theorem q906 : (Jvm.Cond.selects "RoyalCourt$State" ({ cls := "RoyalCourt$State", name := "writeProcession", desc := "(Ljava/lang/StringBuilder;)V" } : Jvm.MethodName) ({ cls := "RoyalCourt$State", name := "writeProcession", desc := "(Ljava/lang/StringBuilder;)V" } : Jvm.MethodName)) ∈ lw_all := lw_g (lw_at lw_m4 120 rfl) rfl
theorem q907 : (Jvm.Cond.code ({ cls := "RoyalCourt$State", name := "writeProcession", desc := "(Ljava/lang/StringBuilder;)V" } : Jvm.MethodName) prog_8_method_34_code (4 : Nat) (Option.none : Option Jvm.ClassFile.FieldType)) ∈ lw_all := lw_g (lw_at lw_m4 121 rfl) rfl
theorem q908 : (Jvm.Cond.methodLink "RoyalCourt$State" (249 : Nat) ({ cls := "RoyalCourt$State", name := "grandProcession", desc := "()[I" } : Jvm.MethodName)) ∈ lw_all := lw_g (lw_at lw_m4 122 rfl) rfl
theorem q909 : (Jvm.Cond.instanceMethod ({ cls := "RoyalCourt$State", name := "grandProcession", desc := "()[I" } : Jvm.MethodName)) ∈ lw_all := lw_g (lw_at lw_m4 123 rfl) rfl
theorem q910 : (Jvm.Cond.selects "RoyalCourt$State" ({ cls := "RoyalCourt$State", name := "grandProcession", desc := "()[I" } : Jvm.MethodName) ({ cls := "RoyalCourt$State", name := "grandProcession", desc := "()[I" } : Jvm.MethodName)) ∈ lw_all := lw_g (lw_at lw_m4 124 rfl) rfl
theorem q911 : (Jvm.Cond.code ({ cls := "RoyalCourt$State", name := "grandProcession", desc := "()[I" } : Jvm.MethodName) prog_8_method_18_code (1 : Nat) (Option.some (Jvm.ClassFile.FieldType.array Jvm.ClassFile.FieldType.int))) ∈ lw_all := lw_g (lw_at lw_m4 125 rfl) rfl
theorem q912 : (Jvm.Cond.privateMethod ({ cls := "RoyalCourt$State", name := "lambda$grandProcession$1", desc := "(II)Z" } : Jvm.MethodName)) ∈ lw_tbl := lw_at lw_m4 126 rfl
theorem q913 : (Jvm.Cond.instanceMethod ({ cls := "RoyalCourt$State", name := "lambda$grandProcession$1", desc := "(II)Z" } : Jvm.MethodName)) ∈ lw_all := lw_g (lw_at lw_m4 127 rfl) rfl
theorem q914 : (Jvm.Cond.code ({ cls := "RoyalCourt$State", name := "lambda$grandProcession$1", desc := "(II)Z" } : Jvm.MethodName) prog_8_method_36_code (3 : Nat) (Option.some Jvm.ClassFile.FieldType.boolean)) ∈ lw_all := lw_g (lw_at lw_m4 128 rfl) rfl
theorem q915 : (Jvm.Cond.methodLink "RoyalCourt$State" (140 : Nat) ({ cls := "RoyalCourt$State", name := "procession", desc := "(LRoyalCourt$Order;)[I" } : Jvm.MethodName)) ∈ lw_all := lw_g (lw_at lw_m4 129 rfl) rfl
theorem q916 : (Jvm.Cond.privateMethod ({ cls := "RoyalCourt$State", name := "procession", desc := "(LRoyalCourt$Order;)[I" } : Jvm.MethodName)) ∈ lw_tbl := lw_at lw_m4 130 rfl
theorem q917 : (Jvm.Cond.instanceMethod ({ cls := "RoyalCourt$State", name := "procession", desc := "(LRoyalCourt$Order;)[I" } : Jvm.MethodName)) ∈ lw_all := lw_g (lw_at lw_m4 131 rfl) rfl
theorem q918 : (Jvm.Cond.code ({ cls := "RoyalCourt$State", name := "procession", desc := "(LRoyalCourt$Order;)[I" } : Jvm.MethodName) prog_8_method_16_code (8 : Nat) (Option.some (Jvm.ClassFile.FieldType.array Jvm.ClassFile.FieldType.int))) ∈ lw_all := lw_g (lw_at lw_m4 132 rfl) rfl
theorem q919 : (Jvm.Cond.interfaceEntry "RoyalCourt$State" (132 : Nat)) ∈ lw_tbl := lw_at lw_m4 133 rfl
theorem q920 : (Jvm.Cond.methodLink "RoyalCourt$State" (132 : Nat) ({ cls := "RoyalCourt$Order", name := "isBefore", desc := "(II)Z" } : Jvm.MethodName)) ∈ lw_all := lw_g (lw_at lw_m4 134 rfl) rfl
theorem q923 : (Jvm.Cond.methodLink "RoyalCourt$State" (110 : Nat) ({ cls := "RoyalCourt$State", name := "precedes", desc := "(II)Z" } : Jvm.MethodName)) ∈ lw_all := lw_g (lw_at lw_m4 137 rfl) rfl
theorem q924 : (Jvm.Cond.instanceMethod ({ cls := "RoyalCourt$State", name := "precedes", desc := "(II)Z" } : Jvm.MethodName)) ∈ lw_all := lw_g (lw_at lw_m4 138 rfl) rfl
theorem q925 : (Jvm.Cond.selects "RoyalCourt$State" ({ cls := "RoyalCourt$State", name := "precedes", desc := "(II)Z" } : Jvm.MethodName) ({ cls := "RoyalCourt$State", name := "precedes", desc := "(II)Z" } : Jvm.MethodName)) ∈ lw_all := lw_g (lw_at lw_m4 139 rfl) rfl
theorem q926 : (Jvm.Cond.code ({ cls := "RoyalCourt$State", name := "precedes", desc := "(II)Z" } : Jvm.MethodName) prog_8_method_7_code (4 : Nat) (Option.some Jvm.ClassFile.FieldType.boolean)) ∈ lw_all := lw_g (lw_at lw_m4 140 rfl) rfl
theorem q927 : (Jvm.Cond.methodLink "RoyalCourt$State" (252 : Nat) ({ cls := "java/lang/StringBuilder", name := "append", desc := "(C)Ljava/lang/StringBuilder;" } : Jvm.MethodName)) ∈ lw_all := lw_g (lw_at lw_m4 141 rfl) rfl
theorem q928 : (Jvm.Cond.methodLink "RoyalCourt$State" (255 : Nat) ({ cls := "java/lang/StringBuilder", name := "append", desc := "(I)Ljava/lang/StringBuilder;" } : Jvm.MethodName)) ∈ lw_all := lw_g (lw_at lw_m4 142 rfl) rfl
theorem q934 : (Jvm.Cond.instanceMethod ({ cls := "RoyalCourt$State", name := "isConsistent", desc := "()Z" } : Jvm.MethodName)) ∈ lw_all := lw_g (lw_at lw_m4 148 rfl) rfl
theorem q935 : (Jvm.Cond.selects "RoyalCourt$State" ({ cls := "RoyalCourt$State", name := "isConsistent", desc := "()Z" } : Jvm.MethodName) ({ cls := "RoyalCourt$State", name := "isConsistent", desc := "()Z" } : Jvm.MethodName)) ∈ lw_all := lw_g (lw_at lw_m4 149 rfl) rfl
theorem q936 : (Jvm.Cond.code ({ cls := "RoyalCourt$State", name := "isConsistent", desc := "()Z" } : Jvm.MethodName) prog_8_method_33_code (2 : Nat) (Option.some Jvm.ClassFile.FieldType.boolean)) ∈ lw_all := lw_g (lw_at lw_m4 150 rfl) rfl
theorem q937 : (Jvm.Cond.methodLink "RoyalCourt$State" (232 : Nat) ({ cls := "RoyalCourt$State", name := "sumOfFavors", desc := "()I" } : Jvm.MethodName)) ∈ lw_all := lw_g (lw_at lw_m4 151 rfl) rfl
theorem q938 : (Jvm.Cond.instanceMethod ({ cls := "RoyalCourt$State", name := "sumOfFavors", desc := "()I" } : Jvm.MethodName)) ∈ lw_all := lw_g (lw_at lw_m4 152 rfl) rfl
theorem q939 : (Jvm.Cond.selects "RoyalCourt$State" ({ cls := "RoyalCourt$State", name := "sumOfFavors", desc := "()I" } : Jvm.MethodName) ({ cls := "RoyalCourt$State", name := "sumOfFavors", desc := "()I" } : Jvm.MethodName)) ∈ lw_all := lw_g (lw_at lw_m4 153 rfl) rfl
theorem q940 : (Jvm.Cond.code ({ cls := "RoyalCourt$State", name := "sumOfFavors", desc := "()I" } : Jvm.MethodName) prog_8_method_31_code (3 : Nat) (Option.some Jvm.ClassFile.FieldType.int)) ∈ lw_all := lw_g (lw_at lw_m4 154 rfl) rfl
theorem q941 : (Jvm.Cond.methodLinkNest "RoyalCourt$State" (235 : Nat) ({ cls := "RoyalCourt", name := "sum", desc := "([I)I" } : Jvm.MethodName) "RoyalCourt") ∈ lw_tbl := lw_at lw_m4 155 rfl
theorem q944 : (Jvm.Cond.methodLink "RoyalCourt$State" (239 : Nat) ({ cls := "RoyalCourt$State", name := "processions", desc := "()J" } : Jvm.MethodName)) ∈ lw_all := lw_g (lw_at lw_m4 158 rfl) rfl
theorem q945 : (Jvm.Cond.methodLink "RoyalCourt$State" (243 : Nat) ({ cls := "RoyalCourt$State", name := "processionsByTrying", desc := "()J" } : Jvm.MethodName)) ∈ lw_all := lw_g (lw_at lw_m4 159 rfl) rfl
theorem q946 : (Jvm.Cond.methodLink "RoyalCourt$State" (246 : Nat) ({ cls := "RoyalCourt$State", name := "areRequestsConsistent", desc := "()Z" } : Jvm.MethodName)) ∈ lw_all := lw_g (lw_at lw_m4 160 rfl) rfl
theorem q947 : (Jvm.Cond.privateMethod ({ cls := "RoyalCourt$State", name := "areRequestsConsistent", desc := "()Z" } : Jvm.MethodName)) ∈ lw_tbl := lw_at lw_m4 161 rfl
theorem q948 : (Jvm.Cond.instanceMethod ({ cls := "RoyalCourt$State", name := "areRequestsConsistent", desc := "()Z" } : Jvm.MethodName)) ∈ lw_all := lw_g (lw_at lw_m4 162 rfl) rfl
theorem q949 : (Jvm.Cond.code ({ cls := "RoyalCourt$State", name := "areRequestsConsistent", desc := "()Z" } : Jvm.MethodName) prog_8_method_32_code (5 : Nat) (Option.some Jvm.ClassFile.FieldType.boolean)) ∈ lw_all := lw_g (lw_at lw_m4 163 rfl) rfl
theorem q950 : (Jvm.Cond.methodLink "RoyalCourt$State" (47 : Nat) ({ cls := "java/util/ArrayList", name := "iterator", desc := "()Ljava/util/Iterator;" } : Jvm.MethodName)) ∈ lw_all := lw_g (lw_at lw_m4 164 rfl) rfl
theorem q973 : (Jvm.Cond.interfaceEntry "RoyalCourt$State" (51 : Nat)) ∈ lw_tbl := lw_at lw_m4 187 rfl
theorem q974 : (Jvm.Cond.methodLink "RoyalCourt$State" (51 : Nat) ({ cls := "java/util/Iterator", name := "hasNext", desc := "()Z" } : Jvm.MethodName)) ∈ lw_all := lw_g (lw_at lw_m4 188 rfl) rfl
theorem q983 : (Jvm.Cond.interfaceEntry "RoyalCourt$State" (57 : Nat)) ∈ lw_tbl := lw_at lw_m4 197 rfl
theorem q984 : (Jvm.Cond.methodLink "RoyalCourt$State" (57 : Nat) ({ cls := "java/util/Iterator", name := "next", desc := "()Ljava/lang/Object;" } : Jvm.MethodName)) ∈ lw_all := lw_g (lw_at lw_m4 198 rfl) rfl
theorem q1011 : (Jvm.Cond.classLink "RoyalCourt$State" (61 : Nat) "RoyalCourt$Request") ∈ lw_all := lw_g (lw_at lw_m4 225 rfl) rfl
theorem q1012 : (Jvm.Cond.methodLink "RoyalCourt$State" (223 : Nat) ({ cls := "RoyalCourt$Request", name := "readsAlike", desc := "()Z" } : Jvm.MethodName)) ∈ lw_all := lw_g (lw_at lw_m4 226 rfl) rfl
theorem q1026 : (Jvm.Cond.methodLink "RoyalCourt$State" (197 : Nat) ({ cls := "RoyalCourt$State", name := "page", desc := "()LRoyalCourt$Page;" } : Jvm.MethodName)) ∈ lw_all := lw_g (lw_at lw_m5 0 rfl) rfl
theorem q1027 : (Jvm.Cond.instanceMethod ({ cls := "RoyalCourt$State", name := "page", desc := "()LRoyalCourt$Page;" } : Jvm.MethodName)) ∈ lw_all := lw_g (lw_at lw_m5 1 rfl) rfl
theorem q1028 : (Jvm.Cond.selects "RoyalCourt$State" ({ cls := "RoyalCourt$State", name := "page", desc := "()LRoyalCourt$Page;" } : Jvm.MethodName) ({ cls := "RoyalCourt$State", name := "page", desc := "()LRoyalCourt$Page;" } : Jvm.MethodName)) ∈ lw_all := lw_g (lw_at lw_m5 2 rfl) rfl
theorem q1029 : (Jvm.Cond.code ({ cls := "RoyalCourt$State", name := "page", desc := "()LRoyalCourt$Page;" } : Jvm.MethodName) prog_8_method_27_code (3 : Nat) (Option.some (Jvm.ClassFile.FieldType.object "RoyalCourt$Page"))) ∈ lw_all := lw_g (lw_at lw_m5 3 rfl) rfl
theorem q1030 : (Jvm.Cond.methodLink "RoyalCourt$State" (92 : Nat) ({ cls := "java/util/ArrayList", name := "size", desc := "()I" } : Jvm.MethodName)) ∈ lw_all := lw_g (lw_at lw_m5 4 rfl) rfl
theorem q1031 : (Jvm.Cond.methodLink "RoyalCourt$State" (96 : Nat) ({ cls := "java/util/ArrayList", name := "get", desc := "(I)Ljava/lang/Object;" } : Jvm.MethodName)) ∈ lw_all := lw_g (lw_at lw_m5 5 rfl) rfl
theorem q1043 : (Jvm.Cond.classLink "RoyalCourt$State" (192 : Nat) "RoyalCourt$Page") ∈ lw_all := lw_g (lw_at lw_m5 17 rfl) rfl
theorem q1045 : (Jvm.Cond.methodLink "RoyalCourt$State" (194 : Nat) ({ cls := "RoyalCourt$Page", name := "<init>", desc := "(I[I)V" } : Jvm.MethodName)) ∈ lw_all := lw_g (lw_at lw_m5 19 rfl) rfl
theorem q1069 : (Jvm.Cond.methodLink "RoyalCourt$State" (226 : Nat) ({ cls := "RoyalCourt$Page", name := "raggedness", desc := "()I" } : Jvm.MethodName)) ∈ lw_all := lw_g (lw_at lw_m5 43 rfl) rfl
theorem q1073 : (Jvm.Cond.methodLink "RoyalCourt$State" (229 : Nat) ({ cls := "RoyalCourt$Page", name := "raggednessByTrying", desc := "()I" } : Jvm.MethodName)) ∈ lw_all := lw_g (lw_at lw_m5 47 rfl) rfl
theorem q1098 : (Jvm.Cond.instanceMethod ({ cls := "RoyalCourt$State", name := "copyFrom", desc := "(LRoyalCourt$State;)V" } : Jvm.MethodName)) ∈ lw_all := lw_g (lw_at lw_m5 72 rfl) rfl
theorem q1099 : (Jvm.Cond.selects "RoyalCourt$State" ({ cls := "RoyalCourt$State", name := "copyFrom", desc := "(LRoyalCourt$State;)V" } : Jvm.MethodName) ({ cls := "RoyalCourt$State", name := "copyFrom", desc := "(LRoyalCourt$State;)V" } : Jvm.MethodName)) ∈ lw_all := lw_g (lw_at lw_m5 73 rfl) rfl
theorem q1100 : (Jvm.Cond.code ({ cls := "RoyalCourt$State", name := "copyFrom", desc := "(LRoyalCourt$State;)V" } : Jvm.MethodName) prog_8_method_2_code (4 : Nat) (Option.none : Option Jvm.ClassFile.FieldType)) ∈ lw_all := lw_g (lw_at lw_m5 74 rfl) rfl
theorem q1101 : (Jvm.Cond.methodLink "RoyalCourt$State" (35 : Nat) ({ cls := "java/lang/System", name := "arraycopy", desc := "(Ljava/lang/Object;ILjava/lang/Object;II)V" } : Jvm.MethodName)) ∈ lw_all := lw_g (lw_at lw_m5 75 rfl) rfl
theorem q1102 : (Jvm.Cond.methodLink "RoyalCourt$State" (44 : Nat) ({ cls := "java/util/ArrayList", name := "clear", desc := "()V" } : Jvm.MethodName)) ∈ lw_all := lw_g (lw_at lw_m5 76 rfl) rfl
theorem q1106 : (Jvm.Cond.methodLink "RoyalCourt$State" (63 : Nat) ({ cls := "java/util/ArrayList", name := "add", desc := "(Ljava/lang/Object;)Z" } : Jvm.MethodName)) ∈ lw_all := lw_g (lw_at lw_m5 80 rfl) rfl
theorem q1140 : (Jvm.Cond.instanceMethod ({ cls := "RoyalCourt$State", name := "addCourtier", desc := "(I)I" } : Jvm.MethodName)) ∈ lw_all := lw_g (lw_at lw_m5 114 rfl) rfl
theorem q1141 : (Jvm.Cond.selects "RoyalCourt$State" ({ cls := "RoyalCourt$State", name := "addCourtier", desc := "(I)I" } : Jvm.MethodName) ({ cls := "RoyalCourt$State", name := "addCourtier", desc := "(I)I" } : Jvm.MethodName)) ∈ lw_all := lw_g (lw_at lw_m5 115 rfl) rfl
theorem q1142 : (Jvm.Cond.code ({ cls := "RoyalCourt$State", name := "addCourtier", desc := "(I)I" } : Jvm.MethodName) prog_8_method_6_code (2 : Nat) (Option.some Jvm.ClassFile.FieldType.int)) ∈ lw_all := lw_g (lw_at lw_m5 116 rfl) rfl
theorem q1143 : (Jvm.Cond.methodLinkNest "RoyalCourt$State" (80 : Nat) ({ cls := "RoyalCourt", name := "inRange", desc := "(III)Z" } : Jvm.MethodName) "RoyalCourt") ∈ lw_tbl := lw_at lw_m5 117 rfl
theorem q1144 : (Jvm.Cond.methodLinkNest "RoyalCourt$State" (100 : Nat) ({ cls := "RoyalCourt", name := "checkArgument", desc := "(Z)V" } : Jvm.MethodName) "RoyalCourt") ∈ lw_tbl := lw_at lw_m5 118 rfl
theorem q1152 : (Jvm.Cond.methodLinkNest "RoyalCourt$State" (103 : Nat) ({ cls := "RoyalCourt", name := "checkState", desc := "(Z)V" } : Jvm.MethodName) "RoyalCourt") ∈ lw_tbl := lw_at lw_m5 126 rfl
theorem q1186 : (Jvm.Cond.instanceMethod ({ cls := "RoyalCourt$State", name := "addRule", desc := "(II)I" } : Jvm.MethodName)) ∈ lw_all := lw_g (lw_at lw_m5 160 rfl) rfl
theorem q1187 : (Jvm.Cond.selects "RoyalCourt$State" ({ cls := "RoyalCourt$State", name := "addRule", desc := "(II)I" } : Jvm.MethodName) ({ cls := "RoyalCourt$State", name := "addRule", desc := "(II)I" } : Jvm.MethodName)) ∈ lw_all := lw_g (lw_at lw_m5 161 rfl) rfl
theorem q1188 : (Jvm.Cond.code ({ cls := "RoyalCourt$State", name := "addRule", desc := "(II)I" } : Jvm.MethodName) prog_8_method_8_code (3 : Nat) (Option.some Jvm.ClassFile.FieldType.int)) ∈ lw_all := lw_g (lw_at lw_m5 162 rfl) rfl
theorem q1189 : (Jvm.Cond.methodLink "RoyalCourt$State" (113 : Nat) ({ cls := "RoyalCourt$State", name := "checkCourtiers", desc := "(II)V" } : Jvm.MethodName)) ∈ lw_all := lw_g (lw_at lw_m5 163 rfl) rfl
theorem q1190 : (Jvm.Cond.instanceMethod ({ cls := "RoyalCourt$State", name := "checkCourtiers", desc := "(II)V" } : Jvm.MethodName)) ∈ lw_all := lw_g (lw_at lw_m5 164 rfl) rfl
theorem q1191 : (Jvm.Cond.selects "RoyalCourt$State" ({ cls := "RoyalCourt$State", name := "checkCourtiers", desc := "(II)V" } : Jvm.MethodName) ({ cls := "RoyalCourt$State", name := "checkCourtiers", desc := "(II)V" } : Jvm.MethodName)) ∈ lw_all := lw_g (lw_at lw_m5 165 rfl) rfl
theorem q1192 : (Jvm.Cond.code ({ cls := "RoyalCourt$State", name := "checkCourtiers", desc := "(II)V" } : Jvm.MethodName) prog_8_method_4_code (3 : Nat) (Option.none : Option Jvm.ClassFile.FieldType)) ∈ lw_all := lw_g (lw_at lw_m5 166 rfl) rfl
theorem q1193 : (Jvm.Cond.methodLink "RoyalCourt$State" (88 : Nat) ({ cls := "RoyalCourt$State", name := "checkCourtier", desc := "(I)V" } : Jvm.MethodName)) ∈ lw_all := lw_g (lw_at lw_m5 167 rfl) rfl
theorem q1194 : (Jvm.Cond.instanceMethod ({ cls := "RoyalCourt$State", name := "checkCourtier", desc := "(I)V" } : Jvm.MethodName)) ∈ lw_all := lw_g (lw_at lw_m5 168 rfl) rfl
theorem q1195 : (Jvm.Cond.selects "RoyalCourt$State" ({ cls := "RoyalCourt$State", name := "checkCourtier", desc := "(I)V" } : Jvm.MethodName) ({ cls := "RoyalCourt$State", name := "checkCourtier", desc := "(I)V" } : Jvm.MethodName)) ∈ lw_all := lw_g (lw_at lw_m5 169 rfl) rfl
theorem q1196 : (Jvm.Cond.code ({ cls := "RoyalCourt$State", name := "checkCourtier", desc := "(I)V" } : Jvm.MethodName) prog_8_method_3_code (2 : Nat) (Option.none : Option Jvm.ClassFile.FieldType)) ∈ lw_all := lw_g (lw_at lw_m5 170 rfl) rfl
theorem q1197 : (Jvm.Cond.methodLinkNest "RoyalCourt$State" (84 : Nat) ({ cls := "RoyalCourt", name := "checkIndex", desc := "(Z)V" } : Jvm.MethodName) "RoyalCourt") ∈ lw_tbl := lw_at lw_m5 171 rfl
theorem q1224 : (Jvm.Cond.instanceMethod ({ cls := "RoyalCourt$State", name := "removeRule", desc := "(II)I" } : Jvm.MethodName)) ∈ lw_all := lw_g (lw_at lw_m5 198 rfl) rfl
theorem q1225 : (Jvm.Cond.selects "RoyalCourt$State" ({ cls := "RoyalCourt$State", name := "removeRule", desc := "(II)I" } : Jvm.MethodName) ({ cls := "RoyalCourt$State", name := "removeRule", desc := "(II)I" } : Jvm.MethodName)) ∈ lw_all := lw_g (lw_at lw_m5 199 rfl) rfl
theorem q1226 : (Jvm.Cond.code ({ cls := "RoyalCourt$State", name := "removeRule", desc := "(II)I" } : Jvm.MethodName) prog_8_method_9_code (3 : Nat) (Option.some Jvm.ClassFile.FieldType.int)) ∈ lw_all := lw_g (lw_at lw_m5 200 rfl) rfl
theorem q1227 : (Jvm.Cond.methodLinkNest "RoyalCourt$State" (117 : Nat) ({ cls := "RoyalCourt", name := "checkElement", desc := "(Z)V" } : Jvm.MethodName) "RoyalCourt") ∈ lw_tbl := lw_at lw_m5 201 rfl
theorem q1264 : (Jvm.Cond.instanceMethod ({ cls := "RoyalCourt$State", name := "courtierByDignity", desc := "(I)I" } : Jvm.MethodName)) ∈ lw_all := lw_g (lw_at lw_m5 238 rfl) rfl
theorem q1265 : (Jvm.Cond.selects "RoyalCourt$State" ({ cls := "RoyalCourt$State", name := "courtierByDignity", desc := "(I)I" } : Jvm.MethodName) ({ cls := "RoyalCourt$State", name := "courtierByDignity", desc := "(I)I" } : Jvm.MethodName)) ∈ lw_all := lw_g (lw_at lw_m5 239 rfl) rfl
theorem q1266 : (Jvm.Cond.code ({ cls := "RoyalCourt$State", name := "courtierByDignity", desc := "(I)I" } : Jvm.MethodName) prog_8_method_10_code (5 : Nat) (Option.some Jvm.ClassFile.FieldType.int)) ∈ lw_all := lw_g (lw_at lw_m6 0 rfl) rfl
theorem q1283 : (Jvm.Cond.instanceMethod ({ cls := "RoyalCourt$State", name := "firstProcession", desc := "()[I" } : Jvm.MethodName)) ∈ lw_all := lw_g (lw_at lw_m6 17 rfl) rfl
theorem q1284 : (Jvm.Cond.selects "RoyalCourt$State" ({ cls := "RoyalCourt$State", name := "firstProcession", desc := "()[I" } : Jvm.MethodName) ({ cls := "RoyalCourt$State", name := "firstProcession", desc := "()[I" } : Jvm.MethodName)) ∈ lw_all := lw_g (lw_at lw_m6 18 rfl) rfl
theorem q1285 : (Jvm.Cond.code ({ cls := "RoyalCourt$State", name := "firstProcession", desc := "()[I" } : Jvm.MethodName) prog_8_method_17_code (1 : Nat) (Option.some (Jvm.ClassFile.FieldType.array Jvm.ClassFile.FieldType.int))) ∈ lw_all := lw_g (lw_at lw_m6 19 rfl) rfl
theorem q1286 : (Jvm.Cond.static ({ cls := "RoyalCourt$State", name := "lambda$firstProcession$0", desc := "(II)Z" } : Jvm.MethodName)) ∈ lw_all := lw_g (lw_at lw_m6 20 rfl) rfl
theorem q1287 : (Jvm.Cond.code ({ cls := "RoyalCourt$State", name := "lambda$firstProcession$0", desc := "(II)Z" } : Jvm.MethodName) prog_8_method_37_code (2 : Nat) (Option.some Jvm.ClassFile.FieldType.boolean)) ∈ lw_all := lw_g (lw_at lw_m6 21 rfl) rfl
theorem q1304 : (Jvm.Cond.instanceMethod ({ cls := "RoyalCourt$State", name := "lowestPlaceOf", desc := "(I)I" } : Jvm.MethodName)) ∈ lw_all := lw_g (lw_at lw_m6 38 rfl) rfl
theorem q1305 : (Jvm.Cond.selects "RoyalCourt$State" ({ cls := "RoyalCourt$State", name := "lowestPlaceOf", desc := "(I)I" } : Jvm.MethodName) ({ cls := "RoyalCourt$State", name := "lowestPlaceOf", desc := "(I)I" } : Jvm.MethodName)) ∈ lw_all := lw_g (lw_at lw_m6 39 rfl) rfl
theorem q1306 : (Jvm.Cond.code ({ cls := "RoyalCourt$State", name := "lowestPlaceOf", desc := "(I)I" } : Jvm.MethodName) prog_8_method_19_code (4 : Nat) (Option.some Jvm.ClassFile.FieldType.int)) ∈ lw_all := lw_g (lw_at lw_m6 40 rfl) rfl
theorem q1415 : (Jvm.Cond.instanceMethod ({ cls := "RoyalCourt$State", name := "submit", desc := "(ILjava/lang/StringBuilder;)I" } : Jvm.MethodName)) ∈ lw_all := lw_g (lw_at lw_m6 149 rfl) rfl
theorem q1416 : (Jvm.Cond.selects "RoyalCourt$State" ({ cls := "RoyalCourt$State", name := "submit", desc := "(ILjava/lang/StringBuilder;)I" } : Jvm.MethodName) ({ cls := "RoyalCourt$State", name := "submit", desc := "(ILjava/lang/StringBuilder;)I" } : Jvm.MethodName)) ∈ lw_all := lw_g (lw_at lw_m6 150 rfl) rfl
theorem q1417 : (Jvm.Cond.code ({ cls := "RoyalCourt$State", name := "submit", desc := "(ILjava/lang/StringBuilder;)I" } : Jvm.MethodName) prog_8_method_20_code (8 : Nat) (Option.some Jvm.ClassFile.FieldType.int)) ∈ lw_all := lw_g (lw_at lw_m6 151 rfl) rfl
theorem q1418 : (Jvm.Cond.classLink "RoyalCourt$State" (147 : Nat) "RoyalCourt$Reader") ∈ lw_all := lw_g (lw_at lw_m6 152 rfl) rfl
theorem q1419 : (Jvm.Cond.methodLink "RoyalCourt$State" (149 : Nat) ({ cls := "RoyalCourt$Reader", name := "<init>", desc := "(Ljava/lang/StringBuilder;)V" } : Jvm.MethodName)) ∈ lw_all := lw_g (lw_at lw_m6 153 rfl) rfl
theorem q1420 : (Jvm.Cond.methodLink "RoyalCourt$State" (152 : Nat) ({ cls := "RoyalCourt$Reader", name := "read", desc := "()I" } : Jvm.MethodName)) ∈ lw_all := lw_g (lw_at lw_m6 154 rfl) rfl
theorem q1422 : (Jvm.Cond.methodLink "RoyalCourt$State" (155 : Nat) ({ cls := "RoyalCourt$Request", name := "<init>", desc := "(ILRoyalCourt$Reader;I)V" } : Jvm.MethodName)) ∈ lw_all := lw_g (lw_at lw_m6 156 rfl) rfl
theorem q1435 : (Jvm.Cond.fieldLinkNest "RoyalCourt$State" (175 : Nat) "RoyalCourt$Request" "courtier" "I" "RoyalCourt") ∈ lw_tbl := lw_at lw_m6 169 rfl
theorem q1438 : (Jvm.Cond.fieldLinkNest "RoyalCourt$State" (188 : Nat) "RoyalCourt$Request" "symbols" "[C" "RoyalCourt") ∈ lw_tbl := lw_at lw_m6 172 rfl
theorem q1441 : (Jvm.Cond.fieldLinkNest "RoyalCourt$State" (178 : Nat) "RoyalCourt$Request" "value" "I" "RoyalCourt") ∈ lw_tbl := lw_at lw_m6 175 rfl
theorem q1455 : (Jvm.Cond.methodLink "RoyalCourt$State" (158 : Nat) ({ cls := "RoyalCourt$Request", name := "count", desc := "(C)I" } : Jvm.MethodName)) ∈ lw_all := lw_g (lw_at lw_m6 189 rfl) rfl
theorem q1459 : (Jvm.Cond.methodLink "RoyalCourt$State" (165 : Nat) ({ cls := "java/lang/Math", name := "min", desc := "(II)I" } : Jvm.MethodName)) ∈ lw_all := lw_g (lw_at lw_m6 193 rfl) rfl
theorem q1469 : (Jvm.Cond.instanceMethod ({ cls := "RoyalCourt$State", name := "grant", desc := "(I)I" } : Jvm.MethodName)) ∈ lw_all := lw_g (lw_at lw_m6 203 rfl) rfl
theorem q1470 : (Jvm.Cond.selects "RoyalCourt$State" ({ cls := "RoyalCourt$State", name := "grant", desc := "(I)I" } : Jvm.MethodName) ({ cls := "RoyalCourt$State", name := "grant", desc := "(I)I" } : Jvm.MethodName)) ∈ lw_all := lw_g (lw_at lw_m6 204 rfl) rfl
theorem q1471 : (Jvm.Cond.code ({ cls := "RoyalCourt$State", name := "grant", desc := "(I)I" } : Jvm.MethodName) prog_8_method_21_code (3 : Nat) (Option.some Jvm.ClassFile.FieldType.int)) ∈ lw_all := lw_g (lw_at lw_m6 205 rfl) rfl
theorem q1472 : (Jvm.Cond.methodLink "RoyalCourt$State" (171 : Nat) ({ cls := "RoyalCourt$State", name := "checkedRequest", desc := "(I)LRoyalCourt$Request;" } : Jvm.MethodName)) ∈ lw_all := lw_g (lw_at lw_m6 206 rfl) rfl
theorem q1473 : (Jvm.Cond.instanceMethod ({ cls := "RoyalCourt$State", name := "checkedRequest", desc := "(I)LRoyalCourt$Request;" } : Jvm.MethodName)) ∈ lw_all := lw_g (lw_at lw_m6 207 rfl) rfl
theorem q1474 : (Jvm.Cond.selects "RoyalCourt$State" ({ cls := "RoyalCourt$State", name := "checkedRequest", desc := "(I)LRoyalCourt$Request;" } : Jvm.MethodName) ({ cls := "RoyalCourt$State", name := "checkedRequest", desc := "(I)LRoyalCourt$Request;" } : Jvm.MethodName)) ∈ lw_all := lw_g (lw_at lw_m6 208 rfl) rfl
theorem q1475 : (Jvm.Cond.code ({ cls := "RoyalCourt$State", name := "checkedRequest", desc := "(I)LRoyalCourt$Request;" } : Jvm.MethodName) prog_8_method_5_code (2 : Nat) (Option.some (Jvm.ClassFile.FieldType.object "RoyalCourt$Request"))) ∈ lw_all := lw_g (lw_at lw_m6 209 rfl) rfl
theorem q1476 : (Jvm.Cond.methodLinkNest "RoyalCourt$State" (181 : Nat) ({ cls := "RoyalCourt", name := "checkSupported", desc := "(Z)V" } : Jvm.MethodName) "RoyalCourt") ∈ lw_tbl := lw_at lw_m6 210 rfl
theorem q1494 : (Jvm.Cond.methodLink "RoyalCourt$State" (184 : Nat) ({ cls := "java/util/ArrayList", name := "remove", desc := "(I)Ljava/lang/Object;" } : Jvm.MethodName)) ∈ lw_all := lw_g (lw_at lw_m6 228 rfl) rfl
theorem q1511 : (Jvm.Cond.instanceMethod ({ cls := "RoyalCourt$State", name := "withdraw", desc := "(I)I" } : Jvm.MethodName)) ∈ lw_all := lw_g (lw_at lw_m7 5 rfl) rfl
theorem q1512 : (Jvm.Cond.selects "RoyalCourt$State" ({ cls := "RoyalCourt$State", name := "withdraw", desc := "(I)I" } : Jvm.MethodName) ({ cls := "RoyalCourt$State", name := "withdraw", desc := "(I)I" } : Jvm.MethodName)) ∈ lw_all := lw_g (lw_at lw_m7 6 rfl) rfl
theorem q1513 : (Jvm.Cond.code ({ cls := "RoyalCourt$State", name := "withdraw", desc := "(I)I" } : Jvm.MethodName) prog_8_method_22_code (2 : Nat) (Option.some Jvm.ClassFile.FieldType.int)) ∈ lw_all := lw_g (lw_at lw_m7 7 rfl) rfl
theorem q1585 : (Jvm.Cond.instanceMethod ({ cls := "RoyalCourt$State", name := "requestByValue", desc := "(I)I" } : Jvm.MethodName)) ∈ lw_all := lw_g (lw_at lw_m7 79 rfl) rfl
theorem q1586 : (Jvm.Cond.selects "RoyalCourt$State" ({ cls := "RoyalCourt$State", name := "requestByValue", desc := "(I)I" } : Jvm.MethodName) ({ cls := "RoyalCourt$State", name := "requestByValue", desc := "(I)I" } : Jvm.MethodName)) ∈ lw_all := lw_g (lw_at lw_m7 80 rfl) rfl
theorem q1587 : (Jvm.Cond.code ({ cls := "RoyalCourt$State", name := "requestByValue", desc := "(I)I" } : Jvm.MethodName) prog_8_method_23_code (6 : Nat) (Option.some Jvm.ClassFile.FieldType.int)) ∈ lw_all := lw_g (lw_at lw_m7 81 rfl) rfl
theorem q1588 : (Jvm.Cond.privateMethod ({ cls := "RoyalCourt$State", name := "lambda$requestByValue$2", desc := "(II)Z" } : Jvm.MethodName)) ∈ lw_tbl := lw_at lw_m7 82 rfl
theorem q1589 : (Jvm.Cond.instanceMethod ({ cls := "RoyalCourt$State", name := "lambda$requestByValue$2", desc := "(II)Z" } : Jvm.MethodName)) ∈ lw_all := lw_g (lw_at lw_m7 83 rfl) rfl
theorem q1590 : (Jvm.Cond.code ({ cls := "RoyalCourt$State", name := "lambda$requestByValue$2", desc := "(II)Z" } : Jvm.MethodName) prog_8_method_35_code (3 : Nat) (Option.some Jvm.ClassFile.FieldType.boolean)) ∈ lw_all := lw_g (lw_at lw_m7 84 rfl) rfl
theorem q1591 : (Jvm.Cond.methodLink "RoyalCourt$State" (258 : Nat) ({ cls := "RoyalCourt$State", name := "valueOf", desc := "(I)I" } : Jvm.MethodName)) ∈ lw_all := lw_g (lw_at lw_m7 85 rfl) rfl
theorem q1592 : (Jvm.Cond.privateMethod ({ cls := "RoyalCourt$State", name := "valueOf", desc := "(I)I" } : Jvm.MethodName)) ∈ lw_tbl := lw_at lw_m7 86 rfl
theorem q1593 : (Jvm.Cond.instanceMethod ({ cls := "RoyalCourt$State", name := "valueOf", desc := "(I)I" } : Jvm.MethodName)) ∈ lw_all := lw_g (lw_at lw_m7 87 rfl) rfl
theorem q1594 : (Jvm.Cond.code ({ cls := "RoyalCourt$State", name := "valueOf", desc := "(I)I" } : Jvm.MethodName) prog_8_method_24_code (2 : Nat) (Option.some Jvm.ClassFile.FieldType.int)) ∈ lw_all := lw_g (lw_at lw_m7 88 rfl) rfl
theorem q1603 : (Jvm.Cond.instanceMethod ({ cls := "RoyalCourt$State", name := "setWidth", desc := "(I)I" } : Jvm.MethodName)) ∈ lw_all := lw_g (lw_at lw_m7 97 rfl) rfl
theorem q1604 : (Jvm.Cond.selects "RoyalCourt$State" ({ cls := "RoyalCourt$State", name := "setWidth", desc := "(I)I" } : Jvm.MethodName) ({ cls := "RoyalCourt$State", name := "setWidth", desc := "(I)I" } : Jvm.MethodName)) ∈ lw_all := lw_g (lw_at lw_m7 98 rfl) rfl
theorem q1605 : (Jvm.Cond.code ({ cls := "RoyalCourt$State", name := "setWidth", desc := "(I)I" } : Jvm.MethodName) prog_8_method_26_code (3 : Nat) (Option.some Jvm.ClassFile.FieldType.int)) ∈ lw_all := lw_g (lw_at lw_m7 99 rfl) rfl
theorem q1614 : (Jvm.Cond.instanceMethod ({ cls := "RoyalCourt$State", name := "checkedPage", desc := "()LRoyalCourt$Page;" } : Jvm.MethodName)) ∈ lw_all := lw_g (lw_at lw_m7 108 rfl) rfl
theorem q1615 : (Jvm.Cond.selects "RoyalCourt$State" ({ cls := "RoyalCourt$State", name := "checkedPage", desc := "()LRoyalCourt$Page;" } : Jvm.MethodName) ({ cls := "RoyalCourt$State", name := "checkedPage", desc := "()LRoyalCourt$Page;" } : Jvm.MethodName)) ∈ lw_all := lw_g (lw_at lw_m7 109 rfl) rfl
theorem q1616 : (Jvm.Cond.code ({ cls := "RoyalCourt$State", name := "checkedPage", desc := "()LRoyalCourt$Page;" } : Jvm.MethodName) prog_8_method_28_code (3 : Nat) (Option.some (Jvm.ClassFile.FieldType.object "RoyalCourt$Page"))) ∈ lw_all := lw_g (lw_at lw_m7 110 rfl) rfl
theorem q1634 : (Jvm.Cond.instanceMethod ({ cls := "RoyalCourt$State", name := "lineCount", desc := "()I" } : Jvm.MethodName)) ∈ lw_all := lw_g (lw_at lw_m7 128 rfl) rfl
theorem q1635 : (Jvm.Cond.selects "RoyalCourt$State" ({ cls := "RoyalCourt$State", name := "lineCount", desc := "()I" } : Jvm.MethodName) ({ cls := "RoyalCourt$State", name := "lineCount", desc := "()I" } : Jvm.MethodName)) ∈ lw_all := lw_g (lw_at lw_m7 129 rfl) rfl
theorem q1636 : (Jvm.Cond.code ({ cls := "RoyalCourt$State", name := "lineCount", desc := "()I" } : Jvm.MethodName) prog_8_method_29_code (2 : Nat) (Option.some Jvm.ClassFile.FieldType.int)) ∈ lw_all := lw_g (lw_at lw_m7 130 rfl) rfl
theorem q1637 : (Jvm.Cond.methodLink "RoyalCourt$State" (201 : Nat) ({ cls := "RoyalCourt$State", name := "checkedPage", desc := "()LRoyalCourt$Page;" } : Jvm.MethodName)) ∈ lw_all := lw_g (lw_at lw_m7 131 rfl) rfl
theorem q1638 : (Jvm.Cond.methodLink "RoyalCourt$State" (204 : Nat) ({ cls := "RoyalCourt$Page", name := "lines", desc := "()[I" } : Jvm.MethodName)) ∈ lw_all := lw_g (lw_at lw_m7 132 rfl) rfl
theorem q1680 : (Jvm.Cond.instanceMethod ({ cls := "RoyalCourt$State", name := "sumOfValues", desc := "()I" } : Jvm.MethodName)) ∈ lw_all := lw_g (lw_at lw_m7 174 rfl) rfl
theorem q1681 : (Jvm.Cond.selects "RoyalCourt$State" ({ cls := "RoyalCourt$State", name := "sumOfValues", desc := "()I" } : Jvm.MethodName) ({ cls := "RoyalCourt$State", name := "sumOfValues", desc := "()I" } : Jvm.MethodName)) ∈ lw_all := lw_g (lw_at lw_m7 175 rfl) rfl
theorem q1682 : (Jvm.Cond.code ({ cls := "RoyalCourt$State", name := "sumOfValues", desc := "()I" } : Jvm.MethodName) prog_8_method_25_code (4 : Nat) (Option.some Jvm.ClassFile.FieldType.int)) ∈ lw_all := lw_g (lw_at lw_m7 176 rfl) rfl
theorem q1699 : (Jvm.Cond.instanceMethod ({ cls := "RoyalCourt$State", name := "writeLine", desc := "(Ljava/lang/StringBuilder;I)V" } : Jvm.MethodName)) ∈ lw_all := lw_g (lw_at lw_m7 193 rfl) rfl
theorem q1700 : (Jvm.Cond.selects "RoyalCourt$State" ({ cls := "RoyalCourt$State", name := "writeLine", desc := "(Ljava/lang/StringBuilder;I)V" } : Jvm.MethodName) ({ cls := "RoyalCourt$State", name := "writeLine", desc := "(Ljava/lang/StringBuilder;I)V" } : Jvm.MethodName)) ∈ lw_all := lw_g (lw_at lw_m7 194 rfl) rfl
theorem q1701 : (Jvm.Cond.code ({ cls := "RoyalCourt$State", name := "writeLine", desc := "(Ljava/lang/StringBuilder;I)V" } : Jvm.MethodName) prog_8_method_30_code (5 : Nat) (Option.none : Option Jvm.ClassFile.FieldType)) ∈ lw_all := lw_g (lw_at lw_m7 195 rfl) rfl
theorem q1702 : (Jvm.Cond.methodLink "RoyalCourt$State" (207 : Nat) ({ cls := "java/lang/StringBuilder", name := "length", desc := "()I" } : Jvm.MethodName)) ∈ lw_all := lw_g (lw_at lw_m7 196 rfl) rfl
theorem q1703 : (Jvm.Cond.stringRef "RoyalCourt$State" (212 : Nat) "") ∈ lw_tbl := lw_at lw_m7 197 rfl
theorem q1704 : (Jvm.Cond.stringRef "RoyalCourt$State" (214 : Nat) " ") ∈ lw_tbl := lw_at lw_m7 198 rfl
theorem q1705 : (Jvm.Cond.methodLink "RoyalCourt$State" (216 : Nat) ({ cls := "java/lang/StringBuilder", name := "append", desc := "(Ljava/lang/String;)Ljava/lang/StringBuilder;" } : Jvm.MethodName)) ∈ lw_all := lw_g (lw_at lw_m7 199 rfl) rfl
theorem q1706 : (Jvm.Cond.methodLink "RoyalCourt$State" (220 : Nat) ({ cls := "RoyalCourt$Request", name := "writeTo", desc := "(Ljava/lang/StringBuilder;)V" } : Jvm.MethodName)) ∈ lw_all := lw_g (lw_at lw_m7 200 rfl) rfl
theorem q2189 : (Jvm.Cond.castable "RoyalCourt$State" "java/lang/Object") ∈ lw_tbl := lw_at lw_m9 203 rfl
theorem in_X2 : ∀ w ∈ wsX20, w ∈ lw_all := lw_in wsX20 [170, 172, 174, 176, 178, 180, 182, 184, 186, 188, 190] (by decide +kernel) (by decide +kernel)
