/-! RoyalCourt$Reader -/
set_option maxRecDepth 100000
def RX4 : String := "RoyalCourt$Reader"
def TX4 : u_T := fun k => match k with
  | 0 => ("RoyalCourt$Reader", "text", "Ljava/lang/StringBuilder;", true)
  | 1 => ("RoyalCourt$Reader", "position", "I", false)
  | 2 => ("RoyalCourt$Reader", "open", "I", false)
  | 3 => ("RoyalCourt$Reader", "depth", "I", false)
  | 4 => ("RoyalCourt$Reader", "insults", "I", false)
  | _ => ("RoyalCourt$Reader", "polite", "Ljava/lang/StringBuilder;", true)
def tyX4 : Nat → FieldType := fun k => match k with
  | 0 => .object "java/lang/StringBuilder"
  | 1 => .int
  | 2 => .int
  | 3 => .int
  | 4 => .int
  | _ => .object "java/lang/StringBuilder"
abbrev wsX40 : List Cond := u_ws RX4 TX4 6
theorem nmX4 : ∀ a, a < 6 → ∀ b, b < 6 → a ≠ b → (TX4 a).2.1 ≠ (TX4 b).2.1 := by decide +kernel
theorem tyX4_ok : ∀ k, k < 6 → parseFieldDescriptor (TX4 k).2.2.1 = some (tyX4 k) := by decide +kernel
abbrev cX4_init : ByteArray := prog_5_method_1_code
def yX4_init : MethodName := ⟨RX4, "<init>", "(Ljava/lang/StringBuilder;)V"⟩
def dkwX4_init_0 : List UInt8 := [42, 183, 0, 3, 42, 187, 0, 9, 89, 183, 0, 11, 181, 0, 12, 42, 43, 181, 0, 18, 177]
abbrev dktX4_init_0 : List UInt8 := dkwX4_init_0 ++ []
theorem dksX4_init_0 : cX4_init.data.toList.drop 0 = dktX4_init_0 := by decide +kernel
theorem dX4_init_0 : decode cX4_init 0 = .ok (.aload_n 0, 1) := dk_42 (dk_at dksX4_init_0 0 rfl rfl)
theorem dX4_init_1 : decode cX4_init 1 = .ok (.invokespecial 3, 3) := dk_183 0 3 (dk_at dksX4_init_0 1 rfl rfl)
theorem dX4_init_4 : decode cX4_init 4 = .ok (.aload_n 0, 1) := dk_42 (dk_at dksX4_init_0 4 rfl rfl)
theorem dX4_init_5 : decode cX4_init 5 = .ok (.new 9, 3) := dk_187 0 9 (dk_at dksX4_init_0 5 rfl rfl)
theorem dX4_init_8 : decode cX4_init 8 = .ok (.dup, 1) := dk_89 (dk_at dksX4_init_0 8 rfl rfl)
theorem dX4_init_9 : decode cX4_init 9 = .ok (.invokespecial 11, 3) := dk_183 0 11 (dk_at dksX4_init_0 9 rfl rfl)
theorem dX4_init_12 : decode cX4_init 12 = .ok (.putfield 12, 3) := dk_181 0 12 (dk_at dksX4_init_0 12 rfl rfl)
theorem dX4_init_15 : decode cX4_init 15 = .ok (.aload_n 0, 1) := dk_42 (dk_at dksX4_init_0 15 rfl rfl)
theorem dX4_init_16 : decode cX4_init 16 = .ok (.aload_n 1, 1) := dk_43 (dk_at dksX4_init_0 16 rfl rfl)
theorem dX4_init_17 : decode cX4_init 17 = .ok (.putfield 18, 3) := dk_181 0 18 (dk_at dksX4_init_0 17 rfl rfl)
theorem dX4_init_20 : decode cX4_init 20 = .ok (.return_, 1) := dk_177 (dk_at dksX4_init_0 20 rfl rfl)
abbrev cX4_read : ByteArray := prog_5_method_5_code
def yX4_read : MethodName := ⟨RX4, "read", "()I"⟩
def dkwX4_read_1 : List UInt8 := [182, 0, 49, 27, 172]
abbrev dktX4_read_1 : List UInt8 := dkwX4_read_1 ++ []
def dkwX4_read_0 : List UInt8 := [42, 182, 0, 43, 42, 182, 0, 46, 60, 42, 42, 182, 0, 33, 2, 160, 0, 7, 4, 167, 0, 4, 3]
abbrev dktX4_read_0 : List UInt8 := dkwX4_read_0 ++ dktX4_read_1
theorem dksX4_read_0 : cX4_read.data.toList.drop 0 = dktX4_read_0 := by decide +kernel
theorem dksX4_read_1 : cX4_read.data.toList.drop 23 = dktX4_read_1 := dk_seg dksX4_read_0 23 rfl rfl
theorem dX4_read_0 : decode cX4_read 0 = .ok (.aload_n 0, 1) := dk_42 (dk_at dksX4_read_0 0 rfl rfl)
theorem dX4_read_1 : decode cX4_read 1 = .ok (.invokevirtual 43, 3) := dk_182 0 43 (dk_at dksX4_read_0 1 rfl rfl)
theorem dX4_read_4 : decode cX4_read 4 = .ok (.aload_n 0, 1) := dk_42 (dk_at dksX4_read_0 4 rfl rfl)
theorem dX4_read_5 : decode cX4_read 5 = .ok (.invokevirtual 46, 3) := dk_182 0 46 (dk_at dksX4_read_0 5 rfl rfl)
theorem dX4_read_8 : decode cX4_read 8 = .ok (.istore_n 1, 1) := dk_60 (dk_at dksX4_read_0 8 rfl rfl)
theorem dX4_read_9 : decode cX4_read 9 = .ok (.aload_n 0, 1) := dk_42 (dk_at dksX4_read_0 9 rfl rfl)
theorem dX4_read_10 : decode cX4_read 10 = .ok (.aload_n 0, 1) := dk_42 (dk_at dksX4_read_0 10 rfl rfl)
theorem dX4_read_11 : decode cX4_read 11 = .ok (.invokevirtual 33, 3) := dk_182 0 33 (dk_at dksX4_read_0 11 rfl rfl)
theorem dX4_read_14 : decode cX4_read 14 = .ok (.iconst (-1), 1) := dk_2 (dk_at dksX4_read_0 14 rfl rfl)
theorem dX4_read_15 : decode cX4_read 15 = .ok (.if_icmp .ne 7, 3) := dk_160 0 7 (dk_at dksX4_read_0 15 rfl rfl)
theorem dX4_read_18 : decode cX4_read 18 = .ok (.iconst 1, 1) := dk_4 (dk_at dksX4_read_0 18 rfl rfl)
theorem dX4_read_19 : decode cX4_read 19 = .ok (.goto 4, 3) := dk_167 0 4 (dk_at dksX4_read_0 19 rfl rfl)
theorem dX4_read_22 : decode cX4_read 22 = .ok (.iconst 0, 1) := dk_3 (dk_at dksX4_read_0 22 rfl rfl)
theorem dX4_read_23 : decode cX4_read 23 = .ok (.invokevirtual 49, 3) := dk_182 0 49 (dk_at dksX4_read_1 0 rfl rfl)
theorem dX4_read_26 : decode cX4_read 26 = .ok (.iload_n 1, 1) := dk_27 (dk_at dksX4_read_1 3 rfl rfl)
theorem dX4_read_27 : decode cX4_read 27 = .ok (.ireturn, 1) := dk_172 (dk_at dksX4_read_1 4 rfl rfl)
abbrev cX4_skipInsults : ByteArray := prog_5_method_3_code
def yX4_skipInsults : MethodName := ⟨RX4, "skipInsults", "()V"⟩
def dkwX4_skipInsults_1 : List UInt8 := [4, 96, 181, 0, 36, 167, 255, 227, 177]
abbrev dktX4_skipInsults_1 : List UInt8 := dkwX4_skipInsults_1 ++ []
def dkwX4_skipInsults_0 : List UInt8 := [42, 182, 0, 33, 16, 33, 160, 0, 26, 42, 89, 180, 0, 21, 4, 96, 181, 0, 21, 42, 89, 180, 0, 36]
abbrev dktX4_skipInsults_0 : List UInt8 := dkwX4_skipInsults_0 ++ dktX4_skipInsults_1
theorem dksX4_skipInsults_0 : cX4_skipInsults.data.toList.drop 0 = dktX4_skipInsults_0 := by decide +kernel
theorem dksX4_skipInsults_1 : cX4_skipInsults.data.toList.drop 24 = dktX4_skipInsults_1 := dk_seg dksX4_skipInsults_0 24 rfl rfl
theorem dX4_skipInsults_0 : decode cX4_skipInsults 0 = .ok (.aload_n 0, 1) := dk_42 (dk_at dksX4_skipInsults_0 0 rfl rfl)
theorem dX4_skipInsults_1 : decode cX4_skipInsults 1 = .ok (.invokevirtual 33, 3) := dk_182 0 33 (dk_at dksX4_skipInsults_0 1 rfl rfl)
theorem dX4_skipInsults_4 : decode cX4_skipInsults 4 = .ok (.bipush 33, 2) := dk_16 33 (dk_at dksX4_skipInsults_0 4 rfl rfl)
theorem dX4_skipInsults_6 : decode cX4_skipInsults 6 = .ok (.if_icmp .ne 26, 3) := dk_160 0 26 (dk_at dksX4_skipInsults_0 6 rfl rfl)
theorem dX4_skipInsults_9 : decode cX4_skipInsults 9 = .ok (.aload_n 0, 1) := dk_42 (dk_at dksX4_skipInsults_0 9 rfl rfl)
theorem dX4_skipInsults_10 : decode cX4_skipInsults 10 = .ok (.dup, 1) := dk_89 (dk_at dksX4_skipInsults_0 10 rfl rfl)
theorem dX4_skipInsults_11 : decode cX4_skipInsults 11 = .ok (.getfield 21, 3) := dk_180 0 21 (dk_at dksX4_skipInsults_0 11 rfl rfl)
theorem dX4_skipInsults_14 : decode cX4_skipInsults 14 = .ok (.iconst 1, 1) := dk_4 (dk_at dksX4_skipInsults_0 14 rfl rfl)
theorem dX4_skipInsults_15 : decode cX4_skipInsults 15 = .ok (.iadd, 1) := dk_96 (dk_at dksX4_skipInsults_0 15 rfl rfl)
theorem dX4_skipInsults_16 : decode cX4_skipInsults 16 = .ok (.putfield 21, 3) := dk_181 0 21 (dk_at dksX4_skipInsults_0 16 rfl rfl)
theorem dX4_skipInsults_19 : decode cX4_skipInsults 19 = .ok (.aload_n 0, 1) := dk_42 (dk_at dksX4_skipInsults_0 19 rfl rfl)
theorem dX4_skipInsults_20 : decode cX4_skipInsults 20 = .ok (.dup, 1) := dk_89 (dk_at dksX4_skipInsults_0 20 rfl rfl)
theorem dX4_skipInsults_21 : decode cX4_skipInsults 21 = .ok (.getfield 36, 3) := dk_180 0 36 (dk_at dksX4_skipInsults_0 21 rfl rfl)
theorem dX4_skipInsults_24 : decode cX4_skipInsults 24 = .ok (.iconst 1, 1) := dk_4 (dk_at dksX4_skipInsults_1 0 rfl rfl)
theorem dX4_skipInsults_25 : decode cX4_skipInsults 25 = .ok (.iadd, 1) := dk_96 (dk_at dksX4_skipInsults_1 1 rfl rfl)
theorem dX4_skipInsults_26 : decode cX4_skipInsults 26 = .ok (.putfield 36, 3) := dk_181 0 36 (dk_at dksX4_skipInsults_1 2 rfl rfl)
theorem dX4_skipInsults_29 : decode cX4_skipInsults 29 = .ok (.goto (-29), 3) := dk_167 255 227 (dk_at dksX4_skipInsults_1 5 rfl rfl)
theorem dX4_skipInsults_32 : decode cX4_skipInsults 32 = .ok (.return_, 1) := dk_177 (dk_at dksX4_skipInsults_1 8 rfl rfl)
abbrev cX4_current : ByteArray := prog_5_method_2_code
def yX4_current : MethodName := ⟨RX4, "current", "()I"⟩
def dkwX4_current_1 : List UInt8 := [182, 0, 29, 167, 0, 4, 2, 172]
abbrev dktX4_current_1 : List UInt8 := dkwX4_current_1 ++ []
def dkwX4_current_0 : List UInt8 := [42, 180, 0, 21, 42, 180, 0, 18, 182, 0, 25, 162, 0, 17, 42, 180, 0, 18, 42, 180, 0, 21]
abbrev dktX4_current_0 : List UInt8 := dkwX4_current_0 ++ dktX4_current_1
theorem dksX4_current_0 : cX4_current.data.toList.drop 0 = dktX4_current_0 := by decide +kernel
theorem dksX4_current_1 : cX4_current.data.toList.drop 22 = dktX4_current_1 := dk_seg dksX4_current_0 22 rfl rfl
theorem dX4_current_0 : decode cX4_current 0 = .ok (.aload_n 0, 1) := dk_42 (dk_at dksX4_current_0 0 rfl rfl)
theorem dX4_current_1 : decode cX4_current 1 = .ok (.getfield 21, 3) := dk_180 0 21 (dk_at dksX4_current_0 1 rfl rfl)
theorem dX4_current_4 : decode cX4_current 4 = .ok (.aload_n 0, 1) := dk_42 (dk_at dksX4_current_0 4 rfl rfl)
theorem dX4_current_5 : decode cX4_current 5 = .ok (.getfield 18, 3) := dk_180 0 18 (dk_at dksX4_current_0 5 rfl rfl)
theorem dX4_current_8 : decode cX4_current 8 = .ok (.invokevirtual 25, 3) := dk_182 0 25 (dk_at dksX4_current_0 8 rfl rfl)
theorem dX4_current_11 : decode cX4_current 11 = .ok (.if_icmp .ge 17, 3) := dk_162 0 17 (dk_at dksX4_current_0 11 rfl rfl)
theorem dX4_current_14 : decode cX4_current 14 = .ok (.aload_n 0, 1) := dk_42 (dk_at dksX4_current_0 14 rfl rfl)
theorem dX4_current_15 : decode cX4_current 15 = .ok (.getfield 18, 3) := dk_180 0 18 (dk_at dksX4_current_0 15 rfl rfl)
theorem dX4_current_18 : decode cX4_current 18 = .ok (.aload_n 0, 1) := dk_42 (dk_at dksX4_current_0 18 rfl rfl)
theorem dX4_current_19 : decode cX4_current 19 = .ok (.getfield 21, 3) := dk_180 0 21 (dk_at dksX4_current_0 19 rfl rfl)
theorem dX4_current_22 : decode cX4_current 22 = .ok (.invokevirtual 29, 3) := dk_182 0 29 (dk_at dksX4_current_1 0 rfl rfl)
theorem dX4_current_25 : decode cX4_current 25 = .ok (.goto 4, 3) := dk_167 0 4 (dk_at dksX4_current_1 3 rfl rfl)
theorem dX4_current_28 : decode cX4_current 28 = .ok (.iconst (-1), 1) := dk_2 (dk_at dksX4_current_1 6 rfl rfl)
theorem dX4_current_29 : decode cX4_current 29 = .ok (.ireturn, 1) := dk_172 (dk_at dksX4_current_1 7 rfl rfl)
abbrev cX4_request : ByteArray := prog_5_method_7_code
def yX4_request : MethodName := ⟨RX4, "request", "()I"⟩
def dkwX4_request_5 : List UInt8 := [16, 48, 100, 172]
abbrev dktX4_request_5 : List UInt8 := dkwX4_request_5 ++ []
def dkwX4_request_4 : List UInt8 := [42, 182, 0, 46, 5, 108, 172, 3, 42, 182, 0, 46, 4, 100, 184, 0, 65, 172, 42, 182, 0, 71, 172, 27]
abbrev dktX4_request_4 : List UInt8 := dkwX4_request_4 ++ dktX4_request_5
def dkwX4_request_3 : List UInt8 := [171, 0, 0, 0, 0, 0, 0, 59, 0, 0, 0, 3, 0, 0, 0, 40, 0, 0, 0, 54, 0, 0, 0, 98, 0, 0, 0, 43, 0, 0, 0, 112, 0, 0, 0, 36]
abbrev dktX4_request_3 : List UInt8 := dkwX4_request_3 ++ dktX4_request_4
def dkwX4_request_2 : List UInt8 := [182, 0, 62, 60, 27]
abbrev dktX4_request_2 : List UInt8 := dkwX4_request_2 ++ dktX4_request_3
def dkwX4_request_1 : List UInt8 := [16, 98, 159, 0, 12, 42, 182, 0, 33, 16, 40, 160, 0, 7, 4, 167, 0, 4, 3, 182, 0, 49, 42]
abbrev dktX4_request_1 : List UInt8 := dkwX4_request_1 ++ dktX4_request_2
def dkwX4_request_0 : List UInt8 := [42, 42, 182, 0, 33, 184, 0, 58, 154, 0, 30, 42, 182, 0, 33, 16, 112, 159, 0, 21, 42, 182, 0, 33]
abbrev dktX4_request_0 : List UInt8 := dkwX4_request_0 ++ dktX4_request_1
theorem dksX4_request_0 : cX4_request.data.toList.drop 0 = dktX4_request_0 := by decide +kernel
theorem dksX4_request_1 : cX4_request.data.toList.drop 24 = dktX4_request_1 := dk_seg dksX4_request_0 24 rfl rfl
theorem dksX4_request_2 : cX4_request.data.toList.drop 47 = dktX4_request_2 := dk_seg dksX4_request_1 23 rfl rfl
theorem dksX4_request_3 : cX4_request.data.toList.drop 52 = dktX4_request_3 := dk_seg dksX4_request_2 5 rfl rfl
theorem dksX4_request_4 : cX4_request.data.toList.drop 88 = dktX4_request_4 := dk_seg dksX4_request_3 36 rfl rfl
theorem dksX4_request_5 : cX4_request.data.toList.drop 112 = dktX4_request_5 := dk_seg dksX4_request_4 24 rfl rfl
theorem dX4_request_0 : decode cX4_request 0 = .ok (.aload_n 0, 1) := dk_42 (dk_at dksX4_request_0 0 rfl rfl)
theorem dX4_request_1 : decode cX4_request 1 = .ok (.aload_n 0, 1) := dk_42 (dk_at dksX4_request_0 1 rfl rfl)
theorem dX4_request_2 : decode cX4_request 2 = .ok (.invokevirtual 33, 3) := dk_182 0 33 (dk_at dksX4_request_0 2 rfl rfl)
theorem dX4_request_5 : decode cX4_request 5 = .ok (.invokestatic 58, 3) := dk_184 0 58 (dk_at dksX4_request_0 5 rfl rfl)
theorem dX4_request_8 : decode cX4_request 8 = .ok (.ifCond .ne 30, 3) := dk_154 0 30 (dk_at dksX4_request_0 8 rfl rfl)
theorem dX4_request_11 : decode cX4_request 11 = .ok (.aload_n 0, 1) := dk_42 (dk_at dksX4_request_0 11 rfl rfl)
theorem dX4_request_12 : decode cX4_request 12 = .ok (.invokevirtual 33, 3) := dk_182 0 33 (dk_at dksX4_request_0 12 rfl rfl)
theorem dX4_request_15 : decode cX4_request 15 = .ok (.bipush 112, 2) := dk_16 112 (dk_at dksX4_request_0 15 rfl rfl)
theorem dX4_request_17 : decode cX4_request 17 = .ok (.if_icmp .eq 21, 3) := dk_159 0 21 (dk_at dksX4_request_0 17 rfl rfl)
theorem dX4_request_20 : decode cX4_request 20 = .ok (.aload_n 0, 1) := dk_42 (dk_at dksX4_request_0 20 rfl rfl)
theorem dX4_request_21 : decode cX4_request 21 = .ok (.invokevirtual 33, 3) := dk_182 0 33 (dk_at dksX4_request_0 21 rfl rfl)
theorem dX4_request_24 : decode cX4_request 24 = .ok (.bipush 98, 2) := dk_16 98 (dk_at dksX4_request_1 0 rfl rfl)
theorem dX4_request_26 : decode cX4_request 26 = .ok (.if_icmp .eq 12, 3) := dk_159 0 12 (dk_at dksX4_request_1 2 rfl rfl)
theorem dX4_request_29 : decode cX4_request 29 = .ok (.aload_n 0, 1) := dk_42 (dk_at dksX4_request_1 5 rfl rfl)
theorem dX4_request_30 : decode cX4_request 30 = .ok (.invokevirtual 33, 3) := dk_182 0 33 (dk_at dksX4_request_1 6 rfl rfl)
theorem dX4_request_33 : decode cX4_request 33 = .ok (.bipush 40, 2) := dk_16 40 (dk_at dksX4_request_1 9 rfl rfl)
theorem dX4_request_35 : decode cX4_request 35 = .ok (.if_icmp .ne 7, 3) := dk_160 0 7 (dk_at dksX4_request_1 11 rfl rfl)
theorem dX4_request_38 : decode cX4_request 38 = .ok (.iconst 1, 1) := dk_4 (dk_at dksX4_request_1 14 rfl rfl)
theorem dX4_request_39 : decode cX4_request 39 = .ok (.goto 4, 3) := dk_167 0 4 (dk_at dksX4_request_1 15 rfl rfl)
theorem dX4_request_42 : decode cX4_request 42 = .ok (.iconst 0, 1) := dk_3 (dk_at dksX4_request_1 18 rfl rfl)
theorem dX4_request_43 : decode cX4_request 43 = .ok (.invokevirtual 49, 3) := dk_182 0 49 (dk_at dksX4_request_1 19 rfl rfl)
theorem dX4_request_46 : decode cX4_request 46 = .ok (.aload_n 0, 1) := dk_42 (dk_at dksX4_request_1 22 rfl rfl)
theorem dX4_request_47 : decode cX4_request 47 = .ok (.invokevirtual 62, 3) := dk_182 0 62 (dk_at dksX4_request_2 0 rfl rfl)
theorem dX4_request_50 : decode cX4_request 50 = .ok (.istore_n 1, 1) := dk_60 (dk_at dksX4_request_2 3 rfl rfl)
theorem dX4_request_51 : decode cX4_request 51 = .ok (.iload_n 1, 1) := dk_27 (dk_at dksX4_request_2 4 rfl rfl)
theorem dX4_request_52 : decode cX4_request 52 = .ok (.lookupswitch 59 #[(40, 54), (98, 43), (112, 36)], 36) := by decide +kernel
theorem dX4_request_88 : decode cX4_request 88 = .ok (.aload_n 0, 1) := dk_42 (dk_at dksX4_request_4 0 rfl rfl)
theorem dX4_request_89 : decode cX4_request 89 = .ok (.invokevirtual 46, 3) := dk_182 0 46 (dk_at dksX4_request_4 1 rfl rfl)
theorem dX4_request_92 : decode cX4_request 92 = .ok (.iconst 2, 1) := dk_5 (dk_at dksX4_request_4 4 rfl rfl)
theorem dX4_request_93 : decode cX4_request 93 = .ok (.idiv, 1) := dk_108 (dk_at dksX4_request_4 5 rfl rfl)
theorem dX4_request_94 : decode cX4_request 94 = .ok (.ireturn, 1) := dk_172 (dk_at dksX4_request_4 6 rfl rfl)
theorem dX4_request_95 : decode cX4_request 95 = .ok (.iconst 0, 1) := dk_3 (dk_at dksX4_request_4 7 rfl rfl)
theorem dX4_request_96 : decode cX4_request 96 = .ok (.aload_n 0, 1) := dk_42 (dk_at dksX4_request_4 8 rfl rfl)
theorem dX4_request_97 : decode cX4_request 97 = .ok (.invokevirtual 46, 3) := dk_182 0 46 (dk_at dksX4_request_4 9 rfl rfl)
theorem dX4_request_100 : decode cX4_request 100 = .ok (.iconst 1, 1) := dk_4 (dk_at dksX4_request_4 12 rfl rfl)
theorem dX4_request_101 : decode cX4_request 101 = .ok (.isub, 1) := dk_100 (dk_at dksX4_request_4 13 rfl rfl)
theorem dX4_request_102 : decode cX4_request 102 = .ok (.invokestatic 65, 3) := dk_184 0 65 (dk_at dksX4_request_4 14 rfl rfl)
theorem dX4_request_105 : decode cX4_request 105 = .ok (.ireturn, 1) := dk_172 (dk_at dksX4_request_4 17 rfl rfl)
theorem dX4_request_106 : decode cX4_request 106 = .ok (.aload_n 0, 1) := dk_42 (dk_at dksX4_request_4 18 rfl rfl)
theorem dX4_request_107 : decode cX4_request 107 = .ok (.invokevirtual 71, 3) := dk_182 0 71 (dk_at dksX4_request_4 19 rfl rfl)
theorem dX4_request_110 : decode cX4_request 110 = .ok (.ireturn, 1) := dk_172 (dk_at dksX4_request_4 22 rfl rfl)
theorem dX4_request_111 : decode cX4_request 111 = .ok (.iload_n 1, 1) := dk_27 (dk_at dksX4_request_4 23 rfl rfl)
theorem dX4_request_112 : decode cX4_request 112 = .ok (.bipush 48, 2) := dk_16 48 (dk_at dksX4_request_5 0 rfl rfl)
theorem dX4_request_114 : decode cX4_request 114 = .ok (.isub, 1) := dk_100 (dk_at dksX4_request_5 2 rfl rfl)
theorem dX4_request_115 : decode cX4_request 115 = .ok (.ireturn, 1) := dk_172 (dk_at dksX4_request_5 3 rfl rfl)
abbrev cX4_expect : ByteArray := prog_5_method_6_code
def yX4_expect : MethodName := ⟨RX4, "expect", "(Z)V"⟩
def dkwX4_expect_0 : List UInt8 := [27, 154, 0, 15, 187, 0, 53, 89, 42, 180, 0, 21, 183, 0, 55, 191, 177]
abbrev dktX4_expect_0 : List UInt8 := dkwX4_expect_0 ++ []
theorem dksX4_expect_0 : cX4_expect.data.toList.drop 0 = dktX4_expect_0 := by decide +kernel
theorem dX4_expect_0 : decode cX4_expect 0 = .ok (.iload_n 1, 1) := dk_27 (dk_at dksX4_expect_0 0 rfl rfl)
theorem dX4_expect_1 : decode cX4_expect 1 = .ok (.ifCond .ne 15, 3) := dk_154 0 15 (dk_at dksX4_expect_0 1 rfl rfl)
theorem dX4_expect_4 : decode cX4_expect 4 = .ok (.new 53, 3) := dk_187 0 53 (dk_at dksX4_expect_0 4 rfl rfl)
theorem dX4_expect_7 : decode cX4_expect 7 = .ok (.dup, 1) := dk_89 (dk_at dksX4_expect_0 7 rfl rfl)
theorem dX4_expect_8 : decode cX4_expect 8 = .ok (.aload_n 0, 1) := dk_42 (dk_at dksX4_expect_0 8 rfl rfl)
theorem dX4_expect_9 : decode cX4_expect 9 = .ok (.getfield 21, 3) := dk_180 0 21 (dk_at dksX4_expect_0 9 rfl rfl)
theorem dX4_expect_12 : decode cX4_expect 12 = .ok (.invokespecial 55, 3) := dk_183 0 55 (dk_at dksX4_expect_0 12 rfl rfl)
theorem dX4_expect_15 : decode cX4_expect 15 = .ok (.athrow, 1) := dk_191 (dk_at dksX4_expect_0 15 rfl rfl)
theorem dX4_expect_16 : decode cX4_expect 16 = .ok (.return_, 1) := dk_177 (dk_at dksX4_expect_0 16 rfl rfl)
abbrev cX4_take : ByteArray := prog_5_method_4_code
def yX4_take : MethodName := ⟨RX4, "take", "()I"⟩
def dkwX4_take_1 : List UInt8 := [181, 0, 21, 42, 182, 0, 43, 27, 172]
abbrev dktX4_take_1 : List UInt8 := dkwX4_take_1 ++ []
def dkwX4_take_0 : List UInt8 := [42, 182, 0, 33, 60, 42, 180, 0, 12, 27, 146, 182, 0, 39, 87, 42, 89, 180, 0, 21, 4, 96]
abbrev dktX4_take_0 : List UInt8 := dkwX4_take_0 ++ dktX4_take_1
theorem dksX4_take_0 : cX4_take.data.toList.drop 0 = dktX4_take_0 := by decide +kernel
theorem dksX4_take_1 : cX4_take.data.toList.drop 22 = dktX4_take_1 := dk_seg dksX4_take_0 22 rfl rfl
theorem dX4_take_0 : decode cX4_take 0 = .ok (.aload_n 0, 1) := dk_42 (dk_at dksX4_take_0 0 rfl rfl)
theorem dX4_take_1 : decode cX4_take 1 = .ok (.invokevirtual 33, 3) := dk_182 0 33 (dk_at dksX4_take_0 1 rfl rfl)
theorem dX4_take_4 : decode cX4_take 4 = .ok (.istore_n 1, 1) := dk_60 (dk_at dksX4_take_0 4 rfl rfl)
theorem dX4_take_5 : decode cX4_take 5 = .ok (.aload_n 0, 1) := dk_42 (dk_at dksX4_take_0 5 rfl rfl)
theorem dX4_take_6 : decode cX4_take 6 = .ok (.getfield 12, 3) := dk_180 0 12 (dk_at dksX4_take_0 6 rfl rfl)
theorem dX4_take_9 : decode cX4_take 9 = .ok (.iload_n 1, 1) := dk_27 (dk_at dksX4_take_0 9 rfl rfl)
theorem dX4_take_10 : decode cX4_take 10 = .ok (.i2c, 1) := dk_146 (dk_at dksX4_take_0 10 rfl rfl)
theorem dX4_take_11 : decode cX4_take 11 = .ok (.invokevirtual 39, 3) := dk_182 0 39 (dk_at dksX4_take_0 11 rfl rfl)
theorem dX4_take_14 : decode cX4_take 14 = .ok (.pop, 1) := dk_87 (dk_at dksX4_take_0 14 rfl rfl)
theorem dX4_take_15 : decode cX4_take 15 = .ok (.aload_n 0, 1) := dk_42 (dk_at dksX4_take_0 15 rfl rfl)
theorem dX4_take_16 : decode cX4_take 16 = .ok (.dup, 1) := dk_89 (dk_at dksX4_take_0 16 rfl rfl)
theorem dX4_take_17 : decode cX4_take 17 = .ok (.getfield 21, 3) := dk_180 0 21 (dk_at dksX4_take_0 17 rfl rfl)
theorem dX4_take_20 : decode cX4_take 20 = .ok (.iconst 1, 1) := dk_4 (dk_at dksX4_take_0 20 rfl rfl)
theorem dX4_take_21 : decode cX4_take 21 = .ok (.iadd, 1) := dk_96 (dk_at dksX4_take_0 21 rfl rfl)
theorem dX4_take_22 : decode cX4_take 22 = .ok (.putfield 21, 3) := dk_181 0 21 (dk_at dksX4_take_1 0 rfl rfl)
theorem dX4_take_25 : decode cX4_take 25 = .ok (.aload_n 0, 1) := dk_42 (dk_at dksX4_take_1 3 rfl rfl)
theorem dX4_take_26 : decode cX4_take 26 = .ok (.invokevirtual 43, 3) := dk_182 0 43 (dk_at dksX4_take_1 4 rfl rfl)
theorem dX4_take_29 : decode cX4_take 29 = .ok (.iload_n 1, 1) := dk_27 (dk_at dksX4_take_1 7 rfl rfl)
theorem dX4_take_30 : decode cX4_take 30 = .ok (.ireturn, 1) := dk_172 (dk_at dksX4_take_1 8 rfl rfl)
abbrev cX4_several : ByteArray := prog_5_method_8_code
def yX4_several : MethodName := ⟨RX4, "several", "()I"⟩
def dkwX4_several_3 : List UInt8 := [182, 0, 49, 42, 182, 0, 62, 87, 42, 89, 180, 0, 74, 4, 100, 181, 0, 74, 27, 172]
abbrev dktX4_several_3 : List UInt8 := dkwX4_several_3 ++ []
def dkwX4_several_2 : List UInt8 := [182, 0, 46, 96, 60, 167, 255, 235, 42, 42, 182, 0, 33, 16, 41, 160, 0, 7, 4, 167, 0, 4, 3]
abbrev dktX4_several_2 : List UInt8 := dkwX4_several_2 ++ dktX4_several_3
def dkwX4_several_1 : List UInt8 := [181, 0, 77, 42, 182, 0, 46, 60, 42, 182, 0, 33, 16, 44, 160, 0, 18, 42, 182, 0, 62, 87, 27, 42]
abbrev dktX4_several_1 : List UInt8 := dkwX4_several_1 ++ dktX4_several_2
def dkwX4_several_0 : List UInt8 := [42, 89, 180, 0, 74, 4, 96, 181, 0, 74, 42, 42, 180, 0, 77, 42, 180, 0, 74, 184, 0, 65]
abbrev dktX4_several_0 : List UInt8 := dkwX4_several_0 ++ dktX4_several_1
theorem dksX4_several_0 : cX4_several.data.toList.drop 0 = dktX4_several_0 := by decide +kernel
theorem dksX4_several_1 : cX4_several.data.toList.drop 22 = dktX4_several_1 := dk_seg dksX4_several_0 22 rfl rfl
theorem dksX4_several_2 : cX4_several.data.toList.drop 46 = dktX4_several_2 := dk_seg dksX4_several_1 24 rfl rfl
theorem dksX4_several_3 : cX4_several.data.toList.drop 69 = dktX4_several_3 := dk_seg dksX4_several_2 23 rfl rfl
theorem dX4_several_0 : decode cX4_several 0 = .ok (.aload_n 0, 1) := dk_42 (dk_at dksX4_several_0 0 rfl rfl)
theorem dX4_several_1 : decode cX4_several 1 = .ok (.dup, 1) := dk_89 (dk_at dksX4_several_0 1 rfl rfl)
theorem dX4_several_2 : decode cX4_several 2 = .ok (.getfield 74, 3) := dk_180 0 74 (dk_at dksX4_several_0 2 rfl rfl)
theorem dX4_several_5 : decode cX4_several 5 = .ok (.iconst 1, 1) := dk_4 (dk_at dksX4_several_0 5 rfl rfl)
theorem dX4_several_6 : decode cX4_several 6 = .ok (.iadd, 1) := dk_96 (dk_at dksX4_several_0 6 rfl rfl)
theorem dX4_several_7 : decode cX4_several 7 = .ok (.putfield 74, 3) := dk_181 0 74 (dk_at dksX4_several_0 7 rfl rfl)
theorem dX4_several_10 : decode cX4_several 10 = .ok (.aload_n 0, 1) := dk_42 (dk_at dksX4_several_0 10 rfl rfl)
theorem dX4_several_11 : decode cX4_several 11 = .ok (.aload_n 0, 1) := dk_42 (dk_at dksX4_several_0 11 rfl rfl)
theorem dX4_several_12 : decode cX4_several 12 = .ok (.getfield 77, 3) := dk_180 0 77 (dk_at dksX4_several_0 12 rfl rfl)
theorem dX4_several_15 : decode cX4_several 15 = .ok (.aload_n 0, 1) := dk_42 (dk_at dksX4_several_0 15 rfl rfl)
theorem dX4_several_16 : decode cX4_several 16 = .ok (.getfield 74, 3) := dk_180 0 74 (dk_at dksX4_several_0 16 rfl rfl)
theorem dX4_several_19 : decode cX4_several 19 = .ok (.invokestatic 65, 3) := dk_184 0 65 (dk_at dksX4_several_0 19 rfl rfl)
theorem dX4_several_22 : decode cX4_several 22 = .ok (.putfield 77, 3) := dk_181 0 77 (dk_at dksX4_several_1 0 rfl rfl)
theorem dX4_several_25 : decode cX4_several 25 = .ok (.aload_n 0, 1) := dk_42 (dk_at dksX4_several_1 3 rfl rfl)
theorem dX4_several_26 : decode cX4_several 26 = .ok (.invokevirtual 46, 3) := dk_182 0 46 (dk_at dksX4_several_1 4 rfl rfl)
theorem dX4_several_29 : decode cX4_several 29 = .ok (.istore_n 1, 1) := dk_60 (dk_at dksX4_several_1 7 rfl rfl)
theorem dX4_several_30 : decode cX4_several 30 = .ok (.aload_n 0, 1) := dk_42 (dk_at dksX4_several_1 8 rfl rfl)
theorem dX4_several_31 : decode cX4_several 31 = .ok (.invokevirtual 33, 3) := dk_182 0 33 (dk_at dksX4_several_1 9 rfl rfl)
theorem dX4_several_34 : decode cX4_several 34 = .ok (.bipush 44, 2) := dk_16 44 (dk_at dksX4_several_1 12 rfl rfl)
theorem dX4_several_36 : decode cX4_several 36 = .ok (.if_icmp .ne 18, 3) := dk_160 0 18 (dk_at dksX4_several_1 14 rfl rfl)
theorem dX4_several_39 : decode cX4_several 39 = .ok (.aload_n 0, 1) := dk_42 (dk_at dksX4_several_1 17 rfl rfl)
theorem dX4_several_40 : decode cX4_several 40 = .ok (.invokevirtual 62, 3) := dk_182 0 62 (dk_at dksX4_several_1 18 rfl rfl)
theorem dX4_several_43 : decode cX4_several 43 = .ok (.pop, 1) := dk_87 (dk_at dksX4_several_1 21 rfl rfl)
theorem dX4_several_44 : decode cX4_several 44 = .ok (.iload_n 1, 1) := dk_27 (dk_at dksX4_several_1 22 rfl rfl)
theorem dX4_several_45 : decode cX4_several 45 = .ok (.aload_n 0, 1) := dk_42 (dk_at dksX4_several_1 23 rfl rfl)
theorem dX4_several_46 : decode cX4_several 46 = .ok (.invokevirtual 46, 3) := dk_182 0 46 (dk_at dksX4_several_2 0 rfl rfl)
theorem dX4_several_49 : decode cX4_several 49 = .ok (.iadd, 1) := dk_96 (dk_at dksX4_several_2 3 rfl rfl)
theorem dX4_several_50 : decode cX4_several 50 = .ok (.istore_n 1, 1) := dk_60 (dk_at dksX4_several_2 4 rfl rfl)
theorem dX4_several_51 : decode cX4_several 51 = .ok (.goto (-21), 3) := dk_167 255 235 (dk_at dksX4_several_2 5 rfl rfl)
theorem dX4_several_54 : decode cX4_several 54 = .ok (.aload_n 0, 1) := dk_42 (dk_at dksX4_several_2 8 rfl rfl)
theorem dX4_several_55 : decode cX4_several 55 = .ok (.aload_n 0, 1) := dk_42 (dk_at dksX4_several_2 9 rfl rfl)
theorem dX4_several_56 : decode cX4_several 56 = .ok (.invokevirtual 33, 3) := dk_182 0 33 (dk_at dksX4_several_2 10 rfl rfl)
theorem dX4_several_59 : decode cX4_several 59 = .ok (.bipush 41, 2) := dk_16 41 (dk_at dksX4_several_2 13 rfl rfl)
theorem dX4_several_61 : decode cX4_several 61 = .ok (.if_icmp .ne 7, 3) := dk_160 0 7 (dk_at dksX4_several_2 15 rfl rfl)
theorem dX4_several_64 : decode cX4_several 64 = .ok (.iconst 1, 1) := dk_4 (dk_at dksX4_several_2 18 rfl rfl)
theorem dX4_several_65 : decode cX4_several 65 = .ok (.goto 4, 3) := dk_167 0 4 (dk_at dksX4_several_2 19 rfl rfl)
theorem dX4_several_68 : decode cX4_several 68 = .ok (.iconst 0, 1) := dk_3 (dk_at dksX4_several_2 22 rfl rfl)
theorem dX4_several_69 : decode cX4_several 69 = .ok (.invokevirtual 49, 3) := dk_182 0 49 (dk_at dksX4_several_3 0 rfl rfl)
theorem dX4_several_72 : decode cX4_several 72 = .ok (.aload_n 0, 1) := dk_42 (dk_at dksX4_several_3 3 rfl rfl)
theorem dX4_several_73 : decode cX4_several 73 = .ok (.invokevirtual 62, 3) := dk_182 0 62 (dk_at dksX4_several_3 4 rfl rfl)
theorem dX4_several_76 : decode cX4_several 76 = .ok (.pop, 1) := dk_87 (dk_at dksX4_several_3 7 rfl rfl)
theorem dX4_several_77 : decode cX4_several 77 = .ok (.aload_n 0, 1) := dk_42 (dk_at dksX4_several_3 8 rfl rfl)
theorem dX4_several_78 : decode cX4_several 78 = .ok (.dup, 1) := dk_89 (dk_at dksX4_several_3 9 rfl rfl)
theorem dX4_several_79 : decode cX4_several 79 = .ok (.getfield 74, 3) := dk_180 0 74 (dk_at dksX4_several_3 10 rfl rfl)
theorem dX4_several_82 : decode cX4_several 82 = .ok (.iconst 1, 1) := dk_4 (dk_at dksX4_several_3 13 rfl rfl)
theorem dX4_several_83 : decode cX4_several 83 = .ok (.isub, 1) := dk_100 (dk_at dksX4_several_3 14 rfl rfl)
theorem dX4_several_84 : decode cX4_several 84 = .ok (.putfield 74, 3) := dk_181 0 74 (dk_at dksX4_several_3 15 rfl rfl)
theorem dX4_several_87 : decode cX4_several 87 = .ok (.iload_n 1, 1) := dk_27 (dk_at dksX4_several_3 18 rfl rfl)
theorem dX4_several_88 : decode cX4_several 88 = .ok (.ireturn, 1) := dk_172 (dk_at dksX4_several_3 19 rfl rfl)
theorem q96 : (Jvm.Cond.initialized "RoyalCourt$Reader") ∈ lw_all := lw_g (lw_at lw_m1 30 rfl) rfl
theorem q343 : (Jvm.Cond.selects "RoyalCourt$Reader" ({ cls := "java/lang/Object", name := "getClass", desc := "()Ljava/lang/Class;" } : Jvm.MethodName) ({ cls := "java/lang/Object", name := "getClass", desc := "()Ljava/lang/Class;" } : Jvm.MethodName)) ∈ lw_all := lw_g (lw_at lw_m2 37 rfl) rfl
theorem q741 : (Jvm.Cond.instantiable "RoyalCourt$Reader" (6 : Nat)) ∈ lw_all := lw_g (lw_at lw_m3 195 rfl) rfl
theorem q743 : (Jvm.Cond.instanceMethod ({ cls := "RoyalCourt$Reader", name := "<init>", desc := "(Ljava/lang/StringBuilder;)V" } : Jvm.MethodName)) ∈ lw_all := lw_g (lw_at lw_m3 197 rfl) rfl
theorem q744 : (Jvm.Cond.code ({ cls := "RoyalCourt$Reader", name := "<init>", desc := "(Ljava/lang/StringBuilder;)V" } : Jvm.MethodName) prog_5_method_1_code (2 : Nat) (Option.none : Option Jvm.ClassFile.FieldType)) ∈ lw_all := lw_g (lw_at lw_m3 198 rfl) rfl
theorem q745 : (Jvm.Cond.methodLink "RoyalCourt$Reader" (3 : Nat) ({ cls := "java/lang/Object", name := "<init>", desc := "()V" } : Jvm.MethodName)) ∈ lw_all := lw_g (lw_at lw_m3 199 rfl) rfl
theorem q746 : (Jvm.Cond.classLink "RoyalCourt$Reader" (9 : Nat) "java/lang/StringBuilder") ∈ lw_all := lw_g (lw_at lw_m3 200 rfl) rfl
theorem q747 : (Jvm.Cond.methodLink "RoyalCourt$Reader" (11 : Nat) ({ cls := "java/lang/StringBuilder", name := "<init>", desc := "()V" } : Jvm.MethodName)) ∈ lw_all := lw_g (lw_at lw_m3 201 rfl) rfl
theorem q748 : (Jvm.Cond.fieldLink "RoyalCourt$Reader" (18 : Nat) "RoyalCourt$Reader" "text" "Ljava/lang/StringBuilder;") ∈ lw_all := lw_g (lw_at lw_m3 202 rfl) rfl
theorem q749 : (Jvm.Cond.fieldLink "RoyalCourt$Reader" (21 : Nat) "RoyalCourt$Reader" "position" "I") ∈ lw_all := lw_g (lw_at lw_m3 203 rfl) rfl
theorem q750 : (Jvm.Cond.fieldLink "RoyalCourt$Reader" (74 : Nat) "RoyalCourt$Reader" "open" "I") ∈ lw_all := lw_g (lw_at lw_m3 204 rfl) rfl
theorem q752 : (Jvm.Cond.fieldLink "RoyalCourt$Reader" (77 : Nat) "RoyalCourt$Reader" "depth" "I") ∈ lw_all := lw_g (lw_at lw_m3 206 rfl) rfl
theorem q753 : (Jvm.Cond.fieldLink "RoyalCourt$Reader" (36 : Nat) "RoyalCourt$Reader" "insults" "I") ∈ lw_all := lw_g (lw_at lw_m3 207 rfl) rfl
theorem q756 : (Jvm.Cond.fieldLink "RoyalCourt$Reader" (12 : Nat) "RoyalCourt$Reader" "polite" "Ljava/lang/StringBuilder;") ∈ lw_all := lw_g (lw_at lw_m3 210 rfl) rfl
theorem q757 : (Jvm.Cond.laysFinal "RoyalCourt$Reader" "RoyalCourt$Reader" "text" "Ljava/lang/StringBuilder;") ∈ lw_all := lw_g (lw_at lw_m3 211 rfl) rfl
theorem q758 : (Jvm.Cond.soleField "RoyalCourt$Reader" "text") ∈ lw_all := lw_g (lw_at lw_m3 212 rfl) rfl
theorem q759 : (Jvm.Cond.lays "RoyalCourt$Reader" "RoyalCourt$Reader" "position" "I") ∈ lw_all := lw_g (lw_at lw_m3 213 rfl) rfl
theorem q760 : (Jvm.Cond.soleField "RoyalCourt$Reader" "position") ∈ lw_all := lw_g (lw_at lw_m3 214 rfl) rfl
theorem q761 : (Jvm.Cond.lays "RoyalCourt$Reader" "RoyalCourt$Reader" "open" "I") ∈ lw_all := lw_g (lw_at lw_m3 215 rfl) rfl
theorem q762 : (Jvm.Cond.soleField "RoyalCourt$Reader" "open") ∈ lw_all := lw_g (lw_at lw_m3 216 rfl) rfl
theorem q763 : (Jvm.Cond.lays "RoyalCourt$Reader" "RoyalCourt$Reader" "depth" "I") ∈ lw_all := lw_g (lw_at lw_m3 217 rfl) rfl
theorem q764 : (Jvm.Cond.soleField "RoyalCourt$Reader" "depth") ∈ lw_all := lw_g (lw_at lw_m3 218 rfl) rfl
theorem q765 : (Jvm.Cond.lays "RoyalCourt$Reader" "RoyalCourt$Reader" "insults" "I") ∈ lw_all := lw_g (lw_at lw_m3 219 rfl) rfl
theorem q766 : (Jvm.Cond.soleField "RoyalCourt$Reader" "insults") ∈ lw_all := lw_g (lw_at lw_m3 220 rfl) rfl
theorem q767 : (Jvm.Cond.laysFinal "RoyalCourt$Reader" "RoyalCourt$Reader" "polite" "Ljava/lang/StringBuilder;") ∈ lw_all := lw_g (lw_at lw_m3 221 rfl) rfl
theorem q768 : (Jvm.Cond.soleField "RoyalCourt$Reader" "polite") ∈ lw_all := lw_g (lw_at lw_m3 222 rfl) rfl
theorem q769 : (Jvm.Cond.superclass "RoyalCourt$Reader" "java/lang/Object") ∈ lw_all := lw_g (lw_at lw_m3 223 rfl) rfl
theorem q771 : (Jvm.Cond.instanceMethod ({ cls := "RoyalCourt$Reader", name := "read", desc := "()I" } : Jvm.MethodName)) ∈ lw_all := lw_g (lw_at lw_m3 225 rfl) rfl
theorem q772 : (Jvm.Cond.selects "RoyalCourt$Reader" ({ cls := "RoyalCourt$Reader", name := "read", desc := "()I" } : Jvm.MethodName) ({ cls := "RoyalCourt$Reader", name := "read", desc := "()I" } : Jvm.MethodName)) ∈ lw_all := lw_g (lw_at lw_m3 226 rfl) rfl
theorem q773 : (Jvm.Cond.code ({ cls := "RoyalCourt$Reader", name := "read", desc := "()I" } : Jvm.MethodName) prog_5_method_5_code (2 : Nat) (Option.some Jvm.ClassFile.FieldType.int)) ∈ lw_all := lw_g (lw_at lw_m3 227 rfl) rfl
theorem q774 : (Jvm.Cond.methodLink "RoyalCourt$Reader" (43 : Nat) ({ cls := "RoyalCourt$Reader", name := "skipInsults", desc := "()V" } : Jvm.MethodName)) ∈ lw_all := lw_g (lw_at lw_m3 228 rfl) rfl
theorem q775 : (Jvm.Cond.privateMethod ({ cls := "RoyalCourt$Reader", name := "skipInsults", desc := "()V" } : Jvm.MethodName)) ∈ lw_tbl := lw_at lw_m3 229 rfl
theorem q776 : (Jvm.Cond.instanceMethod ({ cls := "RoyalCourt$Reader", name := "skipInsults", desc := "()V" } : Jvm.MethodName)) ∈ lw_all := lw_g (lw_at lw_m3 230 rfl) rfl
theorem q777 : (Jvm.Cond.code ({ cls := "RoyalCourt$Reader", name := "skipInsults", desc := "()V" } : Jvm.MethodName) prog_5_method_3_code (1 : Nat) (Option.none : Option Jvm.ClassFile.FieldType)) ∈ lw_all := lw_g (lw_at lw_m3 231 rfl) rfl
theorem q778 : (Jvm.Cond.methodLink "RoyalCourt$Reader" (33 : Nat) ({ cls := "RoyalCourt$Reader", name := "current", desc := "()I" } : Jvm.MethodName)) ∈ lw_all := lw_g (lw_at lw_m3 232 rfl) rfl
theorem q779 : (Jvm.Cond.privateMethod ({ cls := "RoyalCourt$Reader", name := "current", desc := "()I" } : Jvm.MethodName)) ∈ lw_tbl := lw_at lw_m3 233 rfl
theorem q780 : (Jvm.Cond.instanceMethod ({ cls := "RoyalCourt$Reader", name := "current", desc := "()I" } : Jvm.MethodName)) ∈ lw_all := lw_g (lw_at lw_m3 234 rfl) rfl
theorem q781 : (Jvm.Cond.code ({ cls := "RoyalCourt$Reader", name := "current", desc := "()I" } : Jvm.MethodName) prog_5_method_2_code (1 : Nat) (Option.some Jvm.ClassFile.FieldType.int)) ∈ lw_all := lw_g (lw_at lw_m3 235 rfl) rfl
theorem q782 : (Jvm.Cond.methodLink "RoyalCourt$Reader" (25 : Nat) ({ cls := "java/lang/StringBuilder", name := "length", desc := "()I" } : Jvm.MethodName)) ∈ lw_all := lw_g (lw_at lw_m3 236 rfl) rfl
theorem q783 : (Jvm.Cond.methodLink "RoyalCourt$Reader" (29 : Nat) ({ cls := "java/lang/StringBuilder", name := "charAt", desc := "(I)C" } : Jvm.MethodName)) ∈ lw_all := lw_g (lw_at lw_m3 237 rfl) rfl
theorem q798 : (Jvm.Cond.methodLink "RoyalCourt$Reader" (46 : Nat) ({ cls := "RoyalCourt$Reader", name := "request", desc := "()I" } : Jvm.MethodName)) ∈ lw_all := lw_g (lw_at lw_m4 12 rfl) rfl
theorem q799 : (Jvm.Cond.privateMethod ({ cls := "RoyalCourt$Reader", name := "request", desc := "()I" } : Jvm.MethodName)) ∈ lw_tbl := lw_at lw_m4 13 rfl
theorem q800 : (Jvm.Cond.instanceMethod ({ cls := "RoyalCourt$Reader", name := "request", desc := "()I" } : Jvm.MethodName)) ∈ lw_all := lw_g (lw_at lw_m4 14 rfl) rfl
theorem q801 : (Jvm.Cond.code ({ cls := "RoyalCourt$Reader", name := "request", desc := "()I" } : Jvm.MethodName) prog_5_method_7_code (2 : Nat) (Option.some Jvm.ClassFile.FieldType.int)) ∈ lw_all := lw_g (lw_at lw_m4 15 rfl) rfl
theorem q802 : (Jvm.Cond.methodLinkNest "RoyalCourt$Reader" (58 : Nat) ({ cls := "RoyalCourt", name := "isDigit", desc := "(I)Z" } : Jvm.MethodName) "RoyalCourt") ∈ lw_tbl := lw_at lw_m4 16 rfl
theorem q808 : (Jvm.Cond.methodLink "RoyalCourt$Reader" (49 : Nat) ({ cls := "RoyalCourt$Reader", name := "expect", desc := "(Z)V" } : Jvm.MethodName)) ∈ lw_all := lw_g (lw_at lw_m4 22 rfl) rfl
theorem q809 : (Jvm.Cond.privateMethod ({ cls := "RoyalCourt$Reader", name := "expect", desc := "(Z)V" } : Jvm.MethodName)) ∈ lw_tbl := lw_at lw_m4 23 rfl
theorem q810 : (Jvm.Cond.instanceMethod ({ cls := "RoyalCourt$Reader", name := "expect", desc := "(Z)V" } : Jvm.MethodName)) ∈ lw_all := lw_g (lw_at lw_m4 24 rfl) rfl
theorem q811 : (Jvm.Cond.code ({ cls := "RoyalCourt$Reader", name := "expect", desc := "(Z)V" } : Jvm.MethodName) prog_5_method_6_code (2 : Nat) (Option.none : Option Jvm.ClassFile.FieldType)) ∈ lw_all := lw_g (lw_at lw_m4 25 rfl) rfl
theorem q812 : (Jvm.Cond.classLink "RoyalCourt$Reader" (53 : Nat) "RoyalCourt$SyntaxError") ∈ lw_all := lw_g (lw_at lw_m4 26 rfl) rfl
theorem q821 : (Jvm.Cond.methodLink "RoyalCourt$Reader" (55 : Nat) ({ cls := "RoyalCourt$SyntaxError", name := "<init>", desc := "(I)V" } : Jvm.MethodName)) ∈ lw_all := lw_g (lw_at lw_m4 35 rfl) rfl
theorem q837 : (Jvm.Cond.methodLink "RoyalCourt$Reader" (62 : Nat) ({ cls := "RoyalCourt$Reader", name := "take", desc := "()I" } : Jvm.MethodName)) ∈ lw_all := lw_g (lw_at lw_m4 51 rfl) rfl
theorem q838 : (Jvm.Cond.privateMethod ({ cls := "RoyalCourt$Reader", name := "take", desc := "()I" } : Jvm.MethodName)) ∈ lw_tbl := lw_at lw_m4 52 rfl
theorem q839 : (Jvm.Cond.instanceMethod ({ cls := "RoyalCourt$Reader", name := "take", desc := "()I" } : Jvm.MethodName)) ∈ lw_all := lw_g (lw_at lw_m4 53 rfl) rfl
theorem q840 : (Jvm.Cond.code ({ cls := "RoyalCourt$Reader", name := "take", desc := "()I" } : Jvm.MethodName) prog_5_method_4_code (2 : Nat) (Option.some Jvm.ClassFile.FieldType.int)) ∈ lw_all := lw_g (lw_at lw_m4 54 rfl) rfl
theorem q841 : (Jvm.Cond.methodLink "RoyalCourt$Reader" (39 : Nat) ({ cls := "java/lang/StringBuilder", name := "append", desc := "(C)Ljava/lang/StringBuilder;" } : Jvm.MethodName)) ∈ lw_all := lw_g (lw_at lw_m4 55 rfl) rfl
theorem q858 : (Jvm.Cond.methodLink "RoyalCourt$Reader" (65 : Nat) ({ cls := "java/lang/Math", name := "max", desc := "(II)I" } : Jvm.MethodName)) ∈ lw_all := lw_g (lw_at lw_m4 72 rfl) rfl
theorem q859 : (Jvm.Cond.methodLink "RoyalCourt$Reader" (71 : Nat) ({ cls := "RoyalCourt$Reader", name := "several", desc := "()I" } : Jvm.MethodName)) ∈ lw_all := lw_g (lw_at lw_m4 73 rfl) rfl
theorem q860 : (Jvm.Cond.privateMethod ({ cls := "RoyalCourt$Reader", name := "several", desc := "()I" } : Jvm.MethodName)) ∈ lw_tbl := lw_at lw_m4 74 rfl
theorem q861 : (Jvm.Cond.instanceMethod ({ cls := "RoyalCourt$Reader", name := "several", desc := "()I" } : Jvm.MethodName)) ∈ lw_all := lw_g (lw_at lw_m4 75 rfl) rfl
theorem q862 : (Jvm.Cond.code ({ cls := "RoyalCourt$Reader", name := "several", desc := "()I" } : Jvm.MethodName) prog_5_method_8_code (2 : Nat) (Option.some Jvm.ClassFile.FieldType.int)) ∈ lw_all := lw_g (lw_at lw_m4 76 rfl) rfl
theorem q2202 : (Jvm.Cond.castable "RoyalCourt$Reader" "java/lang/Object") ∈ lw_tbl := lw_at lw_m9 216 rfl
theorem in_X4 : ∀ w ∈ wsX40, w ∈ lw_all := lw_in wsX40 [757, 759, 761, 763, 765, 767] (by decide +kernel) (by decide +kernel)
/-! RoyalCourt$SyntaxError -/
set_option maxRecDepth 100000
def RX5 : String := "RoyalCourt$SyntaxError"
def TX5 : u_T := fun k => match k with
  | 0 => ("java/lang/Throwable", "cause", "Ljava/lang/Throwable;", false)
  | 1 => ("java/lang/Throwable", "stackTrace", "[Ljava/lang/StackTraceElement;", false)
  | 2 => ("java/lang/Throwable", "suppressedExceptions", "Ljava/util/List;", false)
  | 3 => ("java/lang/Throwable", "detailMessage", "Ljava/lang/String;", false)
  | 4 => ("java/lang/Throwable", "backtrace", "Ljava/lang/Object;", false)
  | 5 => ("java/lang/Throwable", "depth", "I", false)
  | _ => ("RoyalCourt$SyntaxError", "position", "I", true)
def tyX5 : Nat → FieldType := fun k => match k with
  | 0 => .object "java/lang/Throwable"
  | 1 => .array (.object "java/lang/StackTraceElement")
  | 2 => .object "java/util/List"
  | 3 => .object "java/lang/String"
  | 4 => .object "java/lang/Object"
  | 5 => .int
  | _ => .int
abbrev wsX50 : List Cond := u_ws RX5 TX5 7
theorem nmX5 : ∀ a, a < 7 → ∀ b, b < 7 → a ≠ b → (TX5 a).2.1 ≠ (TX5 b).2.1 := by decide +kernel
theorem tyX5_ok : ∀ k, k < 7 → parseFieldDescriptor (TX5 k).2.2.1 = some (tyX5 k) := by decide +kernel
abbrev cX5_init : ByteArray := prog_9_method_1_code
def yX5_init : MethodName := ⟨RX5, "<init>", "(I)V"⟩
def dkwX5_init_0 : List UInt8 := [42, 183, 0, 1, 42, 27, 181, 0, 7, 177]
abbrev dktX5_init_0 : List UInt8 := dkwX5_init_0 ++ []
theorem dksX5_init_0 : cX5_init.data.toList.drop 0 = dktX5_init_0 := by decide +kernel
theorem dX5_init_0 : decode cX5_init 0 = .ok (.aload_n 0, 1) := dk_42 (dk_at dksX5_init_0 0 rfl rfl)
theorem dX5_init_1 : decode cX5_init 1 = .ok (.invokespecial 1, 3) := dk_183 0 1 (dk_at dksX5_init_0 1 rfl rfl)
theorem dX5_init_4 : decode cX5_init 4 = .ok (.aload_n 0, 1) := dk_42 (dk_at dksX5_init_0 4 rfl rfl)
theorem dX5_init_5 : decode cX5_init 5 = .ok (.iload_n 1, 1) := dk_27 (dk_at dksX5_init_0 5 rfl rfl)
theorem dX5_init_6 : decode cX5_init 6 = .ok (.putfield 7, 3) := dk_181 0 7 (dk_at dksX5_init_0 6 rfl rfl)
theorem dX5_init_9 : decode cX5_init 9 = .ok (.return_, 1) := dk_177 (dk_at dksX5_init_0 9 rfl rfl)
theorem q97 : (Jvm.Cond.initialized "RoyalCourt$SyntaxError") ∈ lw_all := lw_g (lw_at lw_m1 31 rfl) rfl
theorem q293 : (Jvm.Cond.selects "RoyalCourt$SyntaxError" ({ cls := "java/lang/Throwable", name := "fillInStackTrace", desc := "()Ljava/lang/Throwable;" } : Jvm.MethodName) ({ cls := "java/lang/Throwable", name := "fillInStackTrace", desc := "()Ljava/lang/Throwable;" } : Jvm.MethodName)) ∈ lw_all := lw_g (lw_at lw_m1 227 rfl) rfl
theorem q347 : (Jvm.Cond.selects "RoyalCourt$SyntaxError" ({ cls := "java/lang/Object", name := "getClass", desc := "()Ljava/lang/Class;" } : Jvm.MethodName) ({ cls := "java/lang/Object", name := "getClass", desc := "()Ljava/lang/Class;" } : Jvm.MethodName)) ∈ lw_all := lw_g (lw_at lw_m2 41 rfl) rfl
theorem q813 : (Jvm.Cond.instantiable "RoyalCourt$SyntaxError" (7 : Nat)) ∈ lw_all := lw_g (lw_at lw_m4 27 rfl) rfl
theorem q814 : (Jvm.Cond.castable "RoyalCourt$SyntaxError" "RoyalCourt$SyntaxError") ∈ lw_tbl := lw_at lw_m4 28 rfl
theorem q815 : (Jvm.Cond.selects "RoyalCourt$SyntaxError" ({ cls := "java/lang/Throwable", name := "fillInStackTrace", desc := "(I)Ljava/lang/Throwable;" } : Jvm.MethodName) ({ cls := "java/lang/Throwable", name := "fillInStackTrace", desc := "(I)Ljava/lang/Throwable;" } : Jvm.MethodName)) ∈ lw_all := lw_g (lw_at lw_m4 29 rfl) rfl
theorem q816 : (Jvm.Cond.lays "RoyalCourt$SyntaxError" "java/lang/Throwable" "cause" "Ljava/lang/Throwable;") ∈ lw_all := lw_g (lw_at lw_m4 30 rfl) rfl
theorem q817 : (Jvm.Cond.lays "RoyalCourt$SyntaxError" "java/lang/Throwable" "stackTrace" "[Ljava/lang/StackTraceElement;") ∈ lw_all := lw_g (lw_at lw_m4 31 rfl) rfl
theorem q818 : (Jvm.Cond.lays "RoyalCourt$SyntaxError" "java/lang/Throwable" "suppressedExceptions" "Ljava/util/List;") ∈ lw_all := lw_g (lw_at lw_m4 32 rfl) rfl
theorem q819 : (Jvm.Cond.lays "RoyalCourt$SyntaxError" "java/lang/Throwable" "detailMessage" "Ljava/lang/String;") ∈ lw_all := lw_g (lw_at lw_m4 33 rfl) rfl
theorem q820 : (Jvm.Cond.lays "RoyalCourt$SyntaxError" "java/lang/Throwable" "backtrace" "Ljava/lang/Object;") ∈ lw_all := lw_g (lw_at lw_m4 34 rfl) rfl
theorem q822 : (Jvm.Cond.instanceMethod ({ cls := "RoyalCourt$SyntaxError", name := "<init>", desc := "(I)V" } : Jvm.MethodName)) ∈ lw_all := lw_g (lw_at lw_m4 36 rfl) rfl
theorem q823 : (Jvm.Cond.code ({ cls := "RoyalCourt$SyntaxError", name := "<init>", desc := "(I)V" } : Jvm.MethodName) prog_9_method_1_code (2 : Nat) (Option.none : Option Jvm.ClassFile.FieldType)) ∈ lw_all := lw_g (lw_at lw_m4 37 rfl) rfl
theorem q824 : (Jvm.Cond.methodLink "RoyalCourt$SyntaxError" (1 : Nat) ({ cls := "java/lang/RuntimeException", name := "<init>", desc := "()V" } : Jvm.MethodName)) ∈ lw_all := lw_g (lw_at lw_m4 38 rfl) rfl
theorem q831 : (Jvm.Cond.fieldLink "RoyalCourt$SyntaxError" (7 : Nat) "RoyalCourt$SyntaxError" "position" "I") ∈ lw_all := lw_g (lw_at lw_m4 45 rfl) rfl
theorem q833 : (Jvm.Cond.laysFinal "RoyalCourt$SyntaxError" "RoyalCourt$SyntaxError" "position" "I") ∈ lw_all := lw_g (lw_at lw_m4 47 rfl) rfl
theorem q834 : (Jvm.Cond.soleField "RoyalCourt$SyntaxError" "position") ∈ lw_all := lw_g (lw_at lw_m4 48 rfl) rfl
theorem q835 : (Jvm.Cond.lays "RoyalCourt$SyntaxError" "java/lang/Throwable" "depth" "I") ∈ lw_all := lw_g (lw_at lw_m4 49 rfl) rfl
theorem q836 : (Jvm.Cond.superclass "RoyalCourt$SyntaxError" "java/lang/RuntimeException") ∈ lw_all := lw_g (lw_at lw_m4 50 rfl) rfl
theorem q2203 : (Jvm.Cond.castable "RoyalCourt$SyntaxError" "java/lang/Object") ∈ lw_tbl := lw_at lw_m9 217 rfl
theorem in_X5 : ∀ w ∈ wsX50, w ∈ lw_all := lw_in wsX50 [816, 817, 818, 819, 820, 835, 833] (by decide +kernel) (by decide +kernel)
/-! RoyalCourt$Scan -/
set_option maxRecDepth 100000
def RX6 : String := "RoyalCourt$Scan"
def TX6 : u_T := fun k => match k with
  | 0 => ("RoyalCourt$Scan", "ahead", "[I", false)
  | _ => ("RoyalCourt$Scan", "behind", "[I", false)
def tyX6 : Nat → FieldType := fun k => match k with
  | 0 => .array .int
  | _ => .array .int
abbrev wsX60 : List Cond := u_ws RX6 TX6 2
theorem nmX6 : ∀ a, a < 2 → ∀ b, b < 2 → a ≠ b → (TX6 a).2.1 ≠ (TX6 b).2.1 := by decide +kernel
theorem tyX6_ok : ∀ k, k < 2 → parseFieldDescriptor (TX6 k).2.2.1 = some (tyX6 k) := by decide +kernel
abbrev cX6_init : ByteArray := prog_7_method_1_code
def yX6_init : MethodName := ⟨RX6, "<init>", "(Ljava/lang/StringBuilder;)V"⟩
def dkwX6_init_3 : List UInt8 := [43, 28, 182, 0, 25, 182, 0, 29, 132, 2, 1, 167, 255, 236, 177]
abbrev dktX6_init_3 : List UInt8 := dkwX6_init_3 ++ []
def dkwX6_init_2 : List UInt8 := [180, 0, 15, 28, 18, 18, 79, 132, 2, 1, 167, 255, 220, 3, 61, 28, 43, 182, 0, 19, 162, 0, 18, 42]
abbrev dktX6_init_2 : List UInt8 := dkwX6_init_2 ++ dktX6_init_3
def dkwX6_init_1 : List UInt8 := [180, 0, 9, 190, 162, 0, 33, 42, 180, 0, 9, 28, 28, 154, 0, 7, 3, 167, 0, 5, 18, 18, 79, 42]
abbrev dktX6_init_1 : List UInt8 := dkwX6_init_1 ++ dktX6_init_2
def dkwX6_init_0 : List UInt8 := [42, 183, 0, 3, 42, 16, 26, 188, 10, 181, 0, 9, 42, 16, 26, 188, 10, 181, 0, 15, 3, 61, 28, 42]
abbrev dktX6_init_0 : List UInt8 := dkwX6_init_0 ++ dktX6_init_1
theorem dksX6_init_0 : cX6_init.data.toList.drop 0 = dktX6_init_0 := by decide +kernel
theorem dksX6_init_1 : cX6_init.data.toList.drop 24 = dktX6_init_1 := dk_seg dksX6_init_0 24 rfl rfl
theorem dksX6_init_2 : cX6_init.data.toList.drop 48 = dktX6_init_2 := dk_seg dksX6_init_1 24 rfl rfl
theorem dksX6_init_3 : cX6_init.data.toList.drop 72 = dktX6_init_3 := dk_seg dksX6_init_2 24 rfl rfl
theorem dX6_init_0 : decode cX6_init 0 = .ok (.aload_n 0, 1) := dk_42 (dk_at dksX6_init_0 0 rfl rfl)
theorem dX6_init_1 : decode cX6_init 1 = .ok (.invokespecial 3, 3) := dk_183 0 3 (dk_at dksX6_init_0 1 rfl rfl)
theorem dX6_init_4 : decode cX6_init 4 = .ok (.aload_n 0, 1) := dk_42 (dk_at dksX6_init_0 4 rfl rfl)
theorem dX6_init_5 : decode cX6_init 5 = .ok (.bipush 26, 2) := dk_16 26 (dk_at dksX6_init_0 5 rfl rfl)
theorem dX6_init_7 : decode cX6_init 7 = .ok (.newarray .int, 2) := dk_188_10 (dk_at dksX6_init_0 7 rfl rfl)
theorem dX6_init_9 : decode cX6_init 9 = .ok (.putfield 9, 3) := dk_181 0 9 (dk_at dksX6_init_0 9 rfl rfl)
theorem dX6_init_12 : decode cX6_init 12 = .ok (.aload_n 0, 1) := dk_42 (dk_at dksX6_init_0 12 rfl rfl)
theorem dX6_init_13 : decode cX6_init 13 = .ok (.bipush 26, 2) := dk_16 26 (dk_at dksX6_init_0 13 rfl rfl)
theorem dX6_init_15 : decode cX6_init 15 = .ok (.newarray .int, 2) := dk_188_10 (dk_at dksX6_init_0 15 rfl rfl)
theorem dX6_init_17 : decode cX6_init 17 = .ok (.putfield 15, 3) := dk_181 0 15 (dk_at dksX6_init_0 17 rfl rfl)
theorem dX6_init_20 : decode cX6_init 20 = .ok (.iconst 0, 1) := dk_3 (dk_at dksX6_init_0 20 rfl rfl)
theorem dX6_init_21 : decode cX6_init 21 = .ok (.istore_n 2, 1) := dk_61 (dk_at dksX6_init_0 21 rfl rfl)
theorem dX6_init_22 : decode cX6_init 22 = .ok (.iload_n 2, 1) := dk_28 (dk_at dksX6_init_0 22 rfl rfl)
theorem dX6_init_23 : decode cX6_init 23 = .ok (.aload_n 0, 1) := dk_42 (dk_at dksX6_init_0 23 rfl rfl)
theorem dX6_init_24 : decode cX6_init 24 = .ok (.getfield 9, 3) := dk_180 0 9 (dk_at dksX6_init_1 0 rfl rfl)
theorem dX6_init_27 : decode cX6_init 27 = .ok (.arraylength, 1) := dk_190 (dk_at dksX6_init_1 3 rfl rfl)
theorem dX6_init_28 : decode cX6_init 28 = .ok (.if_icmp .ge 33, 3) := dk_162 0 33 (dk_at dksX6_init_1 4 rfl rfl)
theorem dX6_init_31 : decode cX6_init 31 = .ok (.aload_n 0, 1) := dk_42 (dk_at dksX6_init_1 7 rfl rfl)
theorem dX6_init_32 : decode cX6_init 32 = .ok (.getfield 9, 3) := dk_180 0 9 (dk_at dksX6_init_1 8 rfl rfl)
theorem dX6_init_35 : decode cX6_init 35 = .ok (.iload_n 2, 1) := dk_28 (dk_at dksX6_init_1 11 rfl rfl)
theorem dX6_init_36 : decode cX6_init 36 = .ok (.iload_n 2, 1) := dk_28 (dk_at dksX6_init_1 12 rfl rfl)
theorem dX6_init_37 : decode cX6_init 37 = .ok (.ifCond .ne 7, 3) := dk_154 0 7 (dk_at dksX6_init_1 13 rfl rfl)
theorem dX6_init_40 : decode cX6_init 40 = .ok (.iconst 0, 1) := dk_3 (dk_at dksX6_init_1 16 rfl rfl)
theorem dX6_init_41 : decode cX6_init 41 = .ok (.goto 5, 3) := dk_167 0 5 (dk_at dksX6_init_1 17 rfl rfl)
theorem dX6_init_44 : decode cX6_init 44 = .ok (.ldc 18, 2) := dk_18 18 (dk_at dksX6_init_1 20 rfl rfl)
theorem dX6_init_46 : decode cX6_init 46 = .ok (.iastore, 1) := dk_79 (dk_at dksX6_init_1 22 rfl rfl)
theorem dX6_init_47 : decode cX6_init 47 = .ok (.aload_n 0, 1) := dk_42 (dk_at dksX6_init_1 23 rfl rfl)
theorem dX6_init_48 : decode cX6_init 48 = .ok (.getfield 15, 3) := dk_180 0 15 (dk_at dksX6_init_2 0 rfl rfl)
theorem dX6_init_51 : decode cX6_init 51 = .ok (.iload_n 2, 1) := dk_28 (dk_at dksX6_init_2 3 rfl rfl)
theorem dX6_init_52 : decode cX6_init 52 = .ok (.ldc 18, 2) := dk_18 18 (dk_at dksX6_init_2 4 rfl rfl)
theorem dX6_init_54 : decode cX6_init 54 = .ok (.iastore, 1) := dk_79 (dk_at dksX6_init_2 6 rfl rfl)
theorem dX6_init_55 : decode cX6_init 55 = .ok (.iinc 2 1, 3) := dk_132 2 1 (dk_at dksX6_init_2 7 rfl rfl)
theorem dX6_init_58 : decode cX6_init 58 = .ok (.goto (-36), 3) := dk_167 255 220 (dk_at dksX6_init_2 10 rfl rfl)
theorem dX6_init_61 : decode cX6_init 61 = .ok (.iconst 0, 1) := dk_3 (dk_at dksX6_init_2 13 rfl rfl)
theorem dX6_init_62 : decode cX6_init 62 = .ok (.istore_n 2, 1) := dk_61 (dk_at dksX6_init_2 14 rfl rfl)
theorem dX6_init_63 : decode cX6_init 63 = .ok (.iload_n 2, 1) := dk_28 (dk_at dksX6_init_2 15 rfl rfl)
theorem dX6_init_64 : decode cX6_init 64 = .ok (.aload_n 1, 1) := dk_43 (dk_at dksX6_init_2 16 rfl rfl)
theorem dX6_init_65 : decode cX6_init 65 = .ok (.invokevirtual 19, 3) := dk_182 0 19 (dk_at dksX6_init_2 17 rfl rfl)
theorem dX6_init_68 : decode cX6_init 68 = .ok (.if_icmp .ge 18, 3) := dk_162 0 18 (dk_at dksX6_init_2 20 rfl rfl)
theorem dX6_init_71 : decode cX6_init 71 = .ok (.aload_n 0, 1) := dk_42 (dk_at dksX6_init_2 23 rfl rfl)
theorem dX6_init_72 : decode cX6_init 72 = .ok (.aload_n 1, 1) := dk_43 (dk_at dksX6_init_3 0 rfl rfl)
theorem dX6_init_73 : decode cX6_init 73 = .ok (.iload_n 2, 1) := dk_28 (dk_at dksX6_init_3 1 rfl rfl)
theorem dX6_init_74 : decode cX6_init 74 = .ok (.invokevirtual 25, 3) := dk_182 0 25 (dk_at dksX6_init_3 2 rfl rfl)
theorem dX6_init_77 : decode cX6_init 77 = .ok (.invokevirtual 29, 3) := dk_182 0 29 (dk_at dksX6_init_3 5 rfl rfl)
theorem dX6_init_80 : decode cX6_init 80 = .ok (.iinc 2 1, 3) := dk_132 2 1 (dk_at dksX6_init_3 8 rfl rfl)
theorem dX6_init_83 : decode cX6_init 83 = .ok (.goto (-20), 3) := dk_167 255 236 (dk_at dksX6_init_3 11 rfl rfl)
theorem dX6_init_86 : decode cX6_init 86 = .ok (.return_, 1) := dk_177 (dk_at dksX6_init_3 14 rfl rfl)
abbrev cX6_step : ByteArray := prog_7_method_2_code
def yX6_step : MethodName := ⟨RX6, "step", "(C)V"⟩
def dkwX6_step_3 : List UInt8 := [132, 4, 1, 167, 255, 197, 42, 44, 181, 0, 9, 42, 45, 181, 0, 15, 177]
abbrev dktX6_step_3 : List UInt8 := dkwX6_step_3 ++ []
def dkwX6_step_2 : List UInt8 := [21, 4, 42, 180, 0, 15, 21, 4, 46, 4, 96, 42, 27, 21, 4, 182, 0, 43, 184, 0, 37, 79]
abbrev dktX6_step_2 : List UInt8 := dkwX6_step_2 ++ dktX6_step_3
def dkwX6_step_1 : List UInt8 := [21, 4, 42, 180, 0, 9, 21, 4, 46, 4, 96, 42, 27, 21, 4, 182, 0, 33, 184, 0, 37, 79, 45]
abbrev dktX6_step_1 : List UInt8 := dkwX6_step_1 ++ dktX6_step_2
def dkwX6_step_0 : List UInt8 := [16, 26, 188, 10, 77, 16, 26, 188, 10, 78, 3, 54, 4, 21, 4, 42, 180, 0, 9, 190, 162, 0, 55, 44]
abbrev dktX6_step_0 : List UInt8 := dkwX6_step_0 ++ dktX6_step_1
theorem dksX6_step_0 : cX6_step.data.toList.drop 0 = dktX6_step_0 := by decide +kernel
theorem dksX6_step_1 : cX6_step.data.toList.drop 24 = dktX6_step_1 := dk_seg dksX6_step_0 24 rfl rfl
theorem dksX6_step_2 : cX6_step.data.toList.drop 47 = dktX6_step_2 := dk_seg dksX6_step_1 23 rfl rfl
theorem dksX6_step_3 : cX6_step.data.toList.drop 69 = dktX6_step_3 := dk_seg dksX6_step_2 22 rfl rfl
theorem dX6_step_0 : decode cX6_step 0 = .ok (.bipush 26, 2) := dk_16 26 (dk_at dksX6_step_0 0 rfl rfl)
theorem dX6_step_2 : decode cX6_step 2 = .ok (.newarray .int, 2) := dk_188_10 (dk_at dksX6_step_0 2 rfl rfl)
theorem dX6_step_4 : decode cX6_step 4 = .ok (.astore_n 2, 1) := dk_77 (dk_at dksX6_step_0 4 rfl rfl)
theorem dX6_step_5 : decode cX6_step 5 = .ok (.bipush 26, 2) := dk_16 26 (dk_at dksX6_step_0 5 rfl rfl)
theorem dX6_step_7 : decode cX6_step 7 = .ok (.newarray .int, 2) := dk_188_10 (dk_at dksX6_step_0 7 rfl rfl)
theorem dX6_step_9 : decode cX6_step 9 = .ok (.astore_n 3, 1) := dk_78 (dk_at dksX6_step_0 9 rfl rfl)
theorem dX6_step_10 : decode cX6_step 10 = .ok (.iconst 0, 1) := dk_3 (dk_at dksX6_step_0 10 rfl rfl)
theorem dX6_step_11 : decode cX6_step 11 = .ok (.istore 4, 2) := dk_54 4 (dk_at dksX6_step_0 11 rfl rfl)
theorem dX6_step_13 : decode cX6_step 13 = .ok (.iload 4, 2) := dk_21 4 (dk_at dksX6_step_0 13 rfl rfl)
theorem dX6_step_15 : decode cX6_step 15 = .ok (.aload_n 0, 1) := dk_42 (dk_at dksX6_step_0 15 rfl rfl)
theorem dX6_step_16 : decode cX6_step 16 = .ok (.getfield 9, 3) := dk_180 0 9 (dk_at dksX6_step_0 16 rfl rfl)
theorem dX6_step_19 : decode cX6_step 19 = .ok (.arraylength, 1) := dk_190 (dk_at dksX6_step_0 19 rfl rfl)
theorem dX6_step_20 : decode cX6_step 20 = .ok (.if_icmp .ge 55, 3) := dk_162 0 55 (dk_at dksX6_step_0 20 rfl rfl)
theorem dX6_step_23 : decode cX6_step 23 = .ok (.aload_n 2, 1) := dk_44 (dk_at dksX6_step_0 23 rfl rfl)
theorem dX6_step_24 : decode cX6_step 24 = .ok (.iload 4, 2) := dk_21 4 (dk_at dksX6_step_1 0 rfl rfl)
theorem dX6_step_26 : decode cX6_step 26 = .ok (.aload_n 0, 1) := dk_42 (dk_at dksX6_step_1 2 rfl rfl)
theorem dX6_step_27 : decode cX6_step 27 = .ok (.getfield 9, 3) := dk_180 0 9 (dk_at dksX6_step_1 3 rfl rfl)
theorem dX6_step_30 : decode cX6_step 30 = .ok (.iload 4, 2) := dk_21 4 (dk_at dksX6_step_1 6 rfl rfl)
theorem dX6_step_32 : decode cX6_step 32 = .ok (.iaload, 1) := dk_46 (dk_at dksX6_step_1 8 rfl rfl)
theorem dX6_step_33 : decode cX6_step 33 = .ok (.iconst 1, 1) := dk_4 (dk_at dksX6_step_1 9 rfl rfl)
theorem dX6_step_34 : decode cX6_step 34 = .ok (.iadd, 1) := dk_96 (dk_at dksX6_step_1 10 rfl rfl)
theorem dX6_step_35 : decode cX6_step 35 = .ok (.aload_n 0, 1) := dk_42 (dk_at dksX6_step_1 11 rfl rfl)
theorem dX6_step_36 : decode cX6_step 36 = .ok (.iload_n 1, 1) := dk_27 (dk_at dksX6_step_1 12 rfl rfl)
theorem dX6_step_37 : decode cX6_step 37 = .ok (.iload 4, 2) := dk_21 4 (dk_at dksX6_step_1 13 rfl rfl)
theorem dX6_step_39 : decode cX6_step 39 = .ok (.invokevirtual 33, 3) := dk_182 0 33 (dk_at dksX6_step_1 15 rfl rfl)
theorem dX6_step_42 : decode cX6_step 42 = .ok (.invokestatic 37, 3) := dk_184 0 37 (dk_at dksX6_step_1 18 rfl rfl)
theorem dX6_step_45 : decode cX6_step 45 = .ok (.iastore, 1) := dk_79 (dk_at dksX6_step_1 21 rfl rfl)
theorem dX6_step_46 : decode cX6_step 46 = .ok (.aload_n 3, 1) := dk_45 (dk_at dksX6_step_1 22 rfl rfl)
theorem dX6_step_47 : decode cX6_step 47 = .ok (.iload 4, 2) := dk_21 4 (dk_at dksX6_step_2 0 rfl rfl)
theorem dX6_step_49 : decode cX6_step 49 = .ok (.aload_n 0, 1) := dk_42 (dk_at dksX6_step_2 2 rfl rfl)
theorem dX6_step_50 : decode cX6_step 50 = .ok (.getfield 15, 3) := dk_180 0 15 (dk_at dksX6_step_2 3 rfl rfl)
theorem dX6_step_53 : decode cX6_step 53 = .ok (.iload 4, 2) := dk_21 4 (dk_at dksX6_step_2 6 rfl rfl)
theorem dX6_step_55 : decode cX6_step 55 = .ok (.iaload, 1) := dk_46 (dk_at dksX6_step_2 8 rfl rfl)
theorem dX6_step_56 : decode cX6_step 56 = .ok (.iconst 1, 1) := dk_4 (dk_at dksX6_step_2 9 rfl rfl)
theorem dX6_step_57 : decode cX6_step 57 = .ok (.iadd, 1) := dk_96 (dk_at dksX6_step_2 10 rfl rfl)
theorem dX6_step_58 : decode cX6_step 58 = .ok (.aload_n 0, 1) := dk_42 (dk_at dksX6_step_2 11 rfl rfl)
theorem dX6_step_59 : decode cX6_step 59 = .ok (.iload_n 1, 1) := dk_27 (dk_at dksX6_step_2 12 rfl rfl)
theorem dX6_step_60 : decode cX6_step 60 = .ok (.iload 4, 2) := dk_21 4 (dk_at dksX6_step_2 13 rfl rfl)
theorem dX6_step_62 : decode cX6_step 62 = .ok (.invokevirtual 43, 3) := dk_182 0 43 (dk_at dksX6_step_2 15 rfl rfl)
theorem dX6_step_65 : decode cX6_step 65 = .ok (.invokestatic 37, 3) := dk_184 0 37 (dk_at dksX6_step_2 18 rfl rfl)
theorem dX6_step_68 : decode cX6_step 68 = .ok (.iastore, 1) := dk_79 (dk_at dksX6_step_2 21 rfl rfl)
theorem dX6_step_69 : decode cX6_step 69 = .ok (.iinc 4 1, 3) := dk_132 4 1 (dk_at dksX6_step_3 0 rfl rfl)
theorem dX6_step_72 : decode cX6_step 72 = .ok (.goto (-59), 3) := dk_167 255 197 (dk_at dksX6_step_3 3 rfl rfl)
theorem dX6_step_75 : decode cX6_step 75 = .ok (.aload_n 0, 1) := dk_42 (dk_at dksX6_step_3 6 rfl rfl)
theorem dX6_step_76 : decode cX6_step 76 = .ok (.aload_n 2, 1) := dk_44 (dk_at dksX6_step_3 7 rfl rfl)
theorem dX6_step_77 : decode cX6_step 77 = .ok (.putfield 9, 3) := dk_181 0 9 (dk_at dksX6_step_3 8 rfl rfl)
theorem dX6_step_80 : decode cX6_step 80 = .ok (.aload_n 0, 1) := dk_42 (dk_at dksX6_step_3 11 rfl rfl)
theorem dX6_step_81 : decode cX6_step 81 = .ok (.aload_n 3, 1) := dk_45 (dk_at dksX6_step_3 12 rfl rfl)
theorem dX6_step_82 : decode cX6_step 82 = .ok (.putfield 15, 3) := dk_181 0 15 (dk_at dksX6_step_3 13 rfl rfl)
theorem dX6_step_85 : decode cX6_step 85 = .ok (.return_, 1) := dk_177 (dk_at dksX6_step_3 16 rfl rfl)
abbrev cX6_keptAhead : ByteArray := prog_7_method_3_code
def yX6_keptAhead : MethodName := ⟨RX6, "keptAhead", "(CI)I"⟩
def dkwX6_keptAhead_2 : List UInt8 := [160, 0, 16, 28, 158, 0, 12, 42, 180, 0, 15, 28, 46, 167, 0, 5, 18, 18, 172]
abbrev dktX6_keptAhead_2 : List UInt8 := dkwX6_keptAhead_2 ++ []
def dkwX6_keptAhead_1 : List UInt8 := [160, 0, 21, 28, 158, 0, 14, 42, 180, 0, 9, 28, 4, 100, 46, 167, 0, 5, 18, 18, 172, 27, 16, 44]
abbrev dktX6_keptAhead_1 : List UInt8 := dkwX6_keptAhead_1 ++ dktX6_keptAhead_2
def dkwX6_keptAhead_0 : List UInt8 := [27, 16, 112, 159, 0, 9, 27, 16, 98, 160, 0, 10, 42, 180, 0, 9, 28, 46, 172, 27, 16, 40]
abbrev dktX6_keptAhead_0 : List UInt8 := dkwX6_keptAhead_0 ++ dktX6_keptAhead_1
theorem dksX6_keptAhead_0 : cX6_keptAhead.data.toList.drop 0 = dktX6_keptAhead_0 := by decide +kernel
theorem dksX6_keptAhead_1 : cX6_keptAhead.data.toList.drop 22 = dktX6_keptAhead_1 := dk_seg dksX6_keptAhead_0 22 rfl rfl
theorem dksX6_keptAhead_2 : cX6_keptAhead.data.toList.drop 46 = dktX6_keptAhead_2 := dk_seg dksX6_keptAhead_1 24 rfl rfl
theorem dX6_keptAhead_0 : decode cX6_keptAhead 0 = .ok (.iload_n 1, 1) := dk_27 (dk_at dksX6_keptAhead_0 0 rfl rfl)
theorem dX6_keptAhead_1 : decode cX6_keptAhead 1 = .ok (.bipush 112, 2) := dk_16 112 (dk_at dksX6_keptAhead_0 1 rfl rfl)
theorem dX6_keptAhead_3 : decode cX6_keptAhead 3 = .ok (.if_icmp .eq 9, 3) := dk_159 0 9 (dk_at dksX6_keptAhead_0 3 rfl rfl)
theorem dX6_keptAhead_6 : decode cX6_keptAhead 6 = .ok (.iload_n 1, 1) := dk_27 (dk_at dksX6_keptAhead_0 6 rfl rfl)
theorem dX6_keptAhead_7 : decode cX6_keptAhead 7 = .ok (.bipush 98, 2) := dk_16 98 (dk_at dksX6_keptAhead_0 7 rfl rfl)
theorem dX6_keptAhead_9 : decode cX6_keptAhead 9 = .ok (.if_icmp .ne 10, 3) := dk_160 0 10 (dk_at dksX6_keptAhead_0 9 rfl rfl)
theorem dX6_keptAhead_12 : decode cX6_keptAhead 12 = .ok (.aload_n 0, 1) := dk_42 (dk_at dksX6_keptAhead_0 12 rfl rfl)
theorem dX6_keptAhead_13 : decode cX6_keptAhead 13 = .ok (.getfield 9, 3) := dk_180 0 9 (dk_at dksX6_keptAhead_0 13 rfl rfl)
theorem dX6_keptAhead_16 : decode cX6_keptAhead 16 = .ok (.iload_n 2, 1) := dk_28 (dk_at dksX6_keptAhead_0 16 rfl rfl)
theorem dX6_keptAhead_17 : decode cX6_keptAhead 17 = .ok (.iaload, 1) := dk_46 (dk_at dksX6_keptAhead_0 17 rfl rfl)
theorem dX6_keptAhead_18 : decode cX6_keptAhead 18 = .ok (.ireturn, 1) := dk_172 (dk_at dksX6_keptAhead_0 18 rfl rfl)
theorem dX6_keptAhead_19 : decode cX6_keptAhead 19 = .ok (.iload_n 1, 1) := dk_27 (dk_at dksX6_keptAhead_0 19 rfl rfl)
theorem dX6_keptAhead_20 : decode cX6_keptAhead 20 = .ok (.bipush 40, 2) := dk_16 40 (dk_at dksX6_keptAhead_0 20 rfl rfl)
theorem dX6_keptAhead_22 : decode cX6_keptAhead 22 = .ok (.if_icmp .ne 21, 3) := dk_160 0 21 (dk_at dksX6_keptAhead_1 0 rfl rfl)
theorem dX6_keptAhead_25 : decode cX6_keptAhead 25 = .ok (.iload_n 2, 1) := dk_28 (dk_at dksX6_keptAhead_1 3 rfl rfl)
theorem dX6_keptAhead_26 : decode cX6_keptAhead 26 = .ok (.ifCond .le 14, 3) := dk_158 0 14 (dk_at dksX6_keptAhead_1 4 rfl rfl)
theorem dX6_keptAhead_29 : decode cX6_keptAhead 29 = .ok (.aload_n 0, 1) := dk_42 (dk_at dksX6_keptAhead_1 7 rfl rfl)
theorem dX6_keptAhead_30 : decode cX6_keptAhead 30 = .ok (.getfield 9, 3) := dk_180 0 9 (dk_at dksX6_keptAhead_1 8 rfl rfl)
theorem dX6_keptAhead_33 : decode cX6_keptAhead 33 = .ok (.iload_n 2, 1) := dk_28 (dk_at dksX6_keptAhead_1 11 rfl rfl)
theorem dX6_keptAhead_34 : decode cX6_keptAhead 34 = .ok (.iconst 1, 1) := dk_4 (dk_at dksX6_keptAhead_1 12 rfl rfl)
theorem dX6_keptAhead_35 : decode cX6_keptAhead 35 = .ok (.isub, 1) := dk_100 (dk_at dksX6_keptAhead_1 13 rfl rfl)
theorem dX6_keptAhead_36 : decode cX6_keptAhead 36 = .ok (.iaload, 1) := dk_46 (dk_at dksX6_keptAhead_1 14 rfl rfl)
theorem dX6_keptAhead_37 : decode cX6_keptAhead 37 = .ok (.goto 5, 3) := dk_167 0 5 (dk_at dksX6_keptAhead_1 15 rfl rfl)
theorem dX6_keptAhead_40 : decode cX6_keptAhead 40 = .ok (.ldc 18, 2) := dk_18 18 (dk_at dksX6_keptAhead_1 18 rfl rfl)
theorem dX6_keptAhead_42 : decode cX6_keptAhead 42 = .ok (.ireturn, 1) := dk_172 (dk_at dksX6_keptAhead_1 20 rfl rfl)
theorem dX6_keptAhead_43 : decode cX6_keptAhead 43 = .ok (.iload_n 1, 1) := dk_27 (dk_at dksX6_keptAhead_1 21 rfl rfl)
theorem dX6_keptAhead_44 : decode cX6_keptAhead 44 = .ok (.bipush 44, 2) := dk_16 44 (dk_at dksX6_keptAhead_1 22 rfl rfl)
theorem dX6_keptAhead_46 : decode cX6_keptAhead 46 = .ok (.if_icmp .ne 16, 3) := dk_160 0 16 (dk_at dksX6_keptAhead_2 0 rfl rfl)
theorem dX6_keptAhead_49 : decode cX6_keptAhead 49 = .ok (.iload_n 2, 1) := dk_28 (dk_at dksX6_keptAhead_2 3 rfl rfl)
theorem dX6_keptAhead_50 : decode cX6_keptAhead 50 = .ok (.ifCond .le 12, 3) := dk_158 0 12 (dk_at dksX6_keptAhead_2 4 rfl rfl)
theorem dX6_keptAhead_53 : decode cX6_keptAhead 53 = .ok (.aload_n 0, 1) := dk_42 (dk_at dksX6_keptAhead_2 7 rfl rfl)
theorem dX6_keptAhead_54 : decode cX6_keptAhead 54 = .ok (.getfield 15, 3) := dk_180 0 15 (dk_at dksX6_keptAhead_2 8 rfl rfl)
theorem dX6_keptAhead_57 : decode cX6_keptAhead 57 = .ok (.iload_n 2, 1) := dk_28 (dk_at dksX6_keptAhead_2 11 rfl rfl)
theorem dX6_keptAhead_58 : decode cX6_keptAhead 58 = .ok (.iaload, 1) := dk_46 (dk_at dksX6_keptAhead_2 12 rfl rfl)
theorem dX6_keptAhead_59 : decode cX6_keptAhead 59 = .ok (.goto 5, 3) := dk_167 0 5 (dk_at dksX6_keptAhead_2 13 rfl rfl)
theorem dX6_keptAhead_62 : decode cX6_keptAhead 62 = .ok (.ldc 18, 2) := dk_18 18 (dk_at dksX6_keptAhead_2 16 rfl rfl)
theorem dX6_keptAhead_64 : decode cX6_keptAhead 64 = .ok (.ireturn, 1) := dk_172 (dk_at dksX6_keptAhead_2 18 rfl rfl)
abbrev cX6_keptBehind : ByteArray := prog_7_method_4_code
def yX6_keptBehind : MethodName := ⟨RX6, "keptBehind", "(CI)I"⟩
def dkwX6_keptBehind_1 : List UInt8 := [180, 0, 15, 190, 162, 0, 14, 42, 180, 0, 15, 28, 4, 96, 46, 167, 0, 5, 18, 18, 172]
abbrev dktX6_keptBehind_1 : List UInt8 := dkwX6_keptBehind_1 ++ []
def dkwX6_keptBehind_0 : List UInt8 := [27, 184, 0, 46, 153, 0, 10, 42, 180, 0, 9, 28, 46, 172, 27, 16, 41, 160, 0, 25, 28, 4, 96, 42]
abbrev dktX6_keptBehind_0 : List UInt8 := dkwX6_keptBehind_0 ++ dktX6_keptBehind_1
theorem dksX6_keptBehind_0 : cX6_keptBehind.data.toList.drop 0 = dktX6_keptBehind_0 := by decide +kernel
theorem dksX6_keptBehind_1 : cX6_keptBehind.data.toList.drop 24 = dktX6_keptBehind_1 := dk_seg dksX6_keptBehind_0 24 rfl rfl
theorem dX6_keptBehind_0 : decode cX6_keptBehind 0 = .ok (.iload_n 1, 1) := dk_27 (dk_at dksX6_keptBehind_0 0 rfl rfl)
theorem dX6_keptBehind_1 : decode cX6_keptBehind 1 = .ok (.invokestatic 46, 3) := dk_184 0 46 (dk_at dksX6_keptBehind_0 1 rfl rfl)
theorem dX6_keptBehind_4 : decode cX6_keptBehind 4 = .ok (.ifCond .eq 10, 3) := dk_153 0 10 (dk_at dksX6_keptBehind_0 4 rfl rfl)
theorem dX6_keptBehind_7 : decode cX6_keptBehind 7 = .ok (.aload_n 0, 1) := dk_42 (dk_at dksX6_keptBehind_0 7 rfl rfl)
theorem dX6_keptBehind_8 : decode cX6_keptBehind 8 = .ok (.getfield 9, 3) := dk_180 0 9 (dk_at dksX6_keptBehind_0 8 rfl rfl)
theorem dX6_keptBehind_11 : decode cX6_keptBehind 11 = .ok (.iload_n 2, 1) := dk_28 (dk_at dksX6_keptBehind_0 11 rfl rfl)
theorem dX6_keptBehind_12 : decode cX6_keptBehind 12 = .ok (.iaload, 1) := dk_46 (dk_at dksX6_keptBehind_0 12 rfl rfl)
theorem dX6_keptBehind_13 : decode cX6_keptBehind 13 = .ok (.ireturn, 1) := dk_172 (dk_at dksX6_keptBehind_0 13 rfl rfl)
theorem dX6_keptBehind_14 : decode cX6_keptBehind 14 = .ok (.iload_n 1, 1) := dk_27 (dk_at dksX6_keptBehind_0 14 rfl rfl)
theorem dX6_keptBehind_15 : decode cX6_keptBehind 15 = .ok (.bipush 41, 2) := dk_16 41 (dk_at dksX6_keptBehind_0 15 rfl rfl)
theorem dX6_keptBehind_17 : decode cX6_keptBehind 17 = .ok (.if_icmp .ne 25, 3) := dk_160 0 25 (dk_at dksX6_keptBehind_0 17 rfl rfl)
theorem dX6_keptBehind_20 : decode cX6_keptBehind 20 = .ok (.iload_n 2, 1) := dk_28 (dk_at dksX6_keptBehind_0 20 rfl rfl)
theorem dX6_keptBehind_21 : decode cX6_keptBehind 21 = .ok (.iconst 1, 1) := dk_4 (dk_at dksX6_keptBehind_0 21 rfl rfl)
theorem dX6_keptBehind_22 : decode cX6_keptBehind 22 = .ok (.iadd, 1) := dk_96 (dk_at dksX6_keptBehind_0 22 rfl rfl)
theorem dX6_keptBehind_23 : decode cX6_keptBehind 23 = .ok (.aload_n 0, 1) := dk_42 (dk_at dksX6_keptBehind_0 23 rfl rfl)
theorem dX6_keptBehind_24 : decode cX6_keptBehind 24 = .ok (.getfield 15, 3) := dk_180 0 15 (dk_at dksX6_keptBehind_1 0 rfl rfl)
theorem dX6_keptBehind_27 : decode cX6_keptBehind 27 = .ok (.arraylength, 1) := dk_190 (dk_at dksX6_keptBehind_1 3 rfl rfl)
theorem dX6_keptBehind_28 : decode cX6_keptBehind 28 = .ok (.if_icmp .ge 14, 3) := dk_162 0 14 (dk_at dksX6_keptBehind_1 4 rfl rfl)
theorem dX6_keptBehind_31 : decode cX6_keptBehind 31 = .ok (.aload_n 0, 1) := dk_42 (dk_at dksX6_keptBehind_1 7 rfl rfl)
theorem dX6_keptBehind_32 : decode cX6_keptBehind 32 = .ok (.getfield 15, 3) := dk_180 0 15 (dk_at dksX6_keptBehind_1 8 rfl rfl)
theorem dX6_keptBehind_35 : decode cX6_keptBehind 35 = .ok (.iload_n 2, 1) := dk_28 (dk_at dksX6_keptBehind_1 11 rfl rfl)
theorem dX6_keptBehind_36 : decode cX6_keptBehind 36 = .ok (.iconst 1, 1) := dk_4 (dk_at dksX6_keptBehind_1 12 rfl rfl)
theorem dX6_keptBehind_37 : decode cX6_keptBehind 37 = .ok (.iadd, 1) := dk_96 (dk_at dksX6_keptBehind_1 13 rfl rfl)
theorem dX6_keptBehind_38 : decode cX6_keptBehind 38 = .ok (.iaload, 1) := dk_46 (dk_at dksX6_keptBehind_1 14 rfl rfl)
theorem dX6_keptBehind_39 : decode cX6_keptBehind 39 = .ok (.goto 5, 3) := dk_167 0 5 (dk_at dksX6_keptBehind_1 15 rfl rfl)
theorem dX6_keptBehind_42 : decode cX6_keptBehind 42 = .ok (.ldc 18, 2) := dk_18 18 (dk_at dksX6_keptBehind_1 18 rfl rfl)
theorem dX6_keptBehind_44 : decode cX6_keptBehind 44 = .ok (.ireturn, 1) := dk_172 (dk_at dksX6_keptBehind_1 20 rfl rfl)
abbrev cX6_removals : ByteArray := prog_7_method_5_code
def yX6_removals : MethodName := ⟨RX6, "removals", "()I"⟩
def dkwX6_removals_0 : List UInt8 := [42, 180, 0, 15, 3, 46, 172]
abbrev dktX6_removals_0 : List UInt8 := dkwX6_removals_0 ++ []
theorem dksX6_removals_0 : cX6_removals.data.toList.drop 0 = dktX6_removals_0 := by decide +kernel
theorem dX6_removals_0 : decode cX6_removals 0 = .ok (.aload_n 0, 1) := dk_42 (dk_at dksX6_removals_0 0 rfl rfl)
theorem dX6_removals_1 : decode cX6_removals 1 = .ok (.getfield 15, 3) := dk_180 0 15 (dk_at dksX6_removals_0 1 rfl rfl)
theorem dX6_removals_4 : decode cX6_removals 4 = .ok (.iconst 0, 1) := dk_3 (dk_at dksX6_removals_0 4 rfl rfl)
theorem dX6_removals_5 : decode cX6_removals 5 = .ok (.iaload, 1) := dk_46 (dk_at dksX6_removals_0 5 rfl rfl)
theorem dX6_removals_6 : decode cX6_removals 6 = .ok (.ireturn, 1) := dk_172 (dk_at dksX6_removals_0 6 rfl rfl)
theorem q98 : (Jvm.Cond.initialized "RoyalCourt$Scan") ∈ lw_all := lw_g (lw_at lw_m1 32 rfl) rfl
theorem q345 : (Jvm.Cond.selects "RoyalCourt$Scan" ({ cls := "java/lang/Object", name := "getClass", desc := "()Ljava/lang/Class;" } : Jvm.MethodName) ({ cls := "java/lang/Object", name := "getClass", desc := "()Ljava/lang/Class;" } : Jvm.MethodName)) ∈ lw_all := lw_g (lw_at lw_m2 39 rfl) rfl
theorem q1325 : (Jvm.Cond.instantiable "RoyalCourt$Scan" (2 : Nat)) ∈ lw_all := lw_g (lw_at lw_m6 59 rfl) rfl
theorem q1327 : (Jvm.Cond.instanceMethod ({ cls := "RoyalCourt$Scan", name := "<init>", desc := "(Ljava/lang/StringBuilder;)V" } : Jvm.MethodName)) ∈ lw_all := lw_g (lw_at lw_m6 61 rfl) rfl
theorem q1328 : (Jvm.Cond.code ({ cls := "RoyalCourt$Scan", name := "<init>", desc := "(Ljava/lang/StringBuilder;)V" } : Jvm.MethodName) prog_7_method_1_code (3 : Nat) (Option.none : Option Jvm.ClassFile.FieldType)) ∈ lw_all := lw_g (lw_at lw_m6 62 rfl) rfl
theorem q1329 : (Jvm.Cond.methodLink "RoyalCourt$Scan" (3 : Nat) ({ cls := "java/lang/Object", name := "<init>", desc := "()V" } : Jvm.MethodName)) ∈ lw_all := lw_g (lw_at lw_m6 63 rfl) rfl
theorem q1330 : (Jvm.Cond.constant "RoyalCourt$Scan" (18 : Nat) (999999 : Int32)) ∈ lw_all := lw_g (lw_at lw_m6 64 rfl) rfl
theorem q1331 : (Jvm.Cond.methodLink "RoyalCourt$Scan" (19 : Nat) ({ cls := "java/lang/StringBuilder", name := "length", desc := "()I" } : Jvm.MethodName)) ∈ lw_all := lw_g (lw_at lw_m6 65 rfl) rfl
theorem q1332 : (Jvm.Cond.methodLink "RoyalCourt$Scan" (25 : Nat) ({ cls := "java/lang/StringBuilder", name := "charAt", desc := "(I)C" } : Jvm.MethodName)) ∈ lw_all := lw_g (lw_at lw_m6 66 rfl) rfl
theorem q1333 : (Jvm.Cond.methodLink "RoyalCourt$Scan" (29 : Nat) ({ cls := "RoyalCourt$Scan", name := "step", desc := "(C)V" } : Jvm.MethodName)) ∈ lw_all := lw_g (lw_at lw_m6 67 rfl) rfl
theorem q1334 : (Jvm.Cond.privateMethod ({ cls := "RoyalCourt$Scan", name := "step", desc := "(C)V" } : Jvm.MethodName)) ∈ lw_tbl := lw_at lw_m6 68 rfl
theorem q1335 : (Jvm.Cond.instanceMethod ({ cls := "RoyalCourt$Scan", name := "step", desc := "(C)V" } : Jvm.MethodName)) ∈ lw_all := lw_g (lw_at lw_m6 69 rfl) rfl
theorem q1336 : (Jvm.Cond.code ({ cls := "RoyalCourt$Scan", name := "step", desc := "(C)V" } : Jvm.MethodName) prog_7_method_2_code (5 : Nat) (Option.none : Option Jvm.ClassFile.FieldType)) ∈ lw_all := lw_g (lw_at lw_m6 70 rfl) rfl
theorem q1337 : (Jvm.Cond.methodLink "RoyalCourt$Scan" (33 : Nat) ({ cls := "RoyalCourt$Scan", name := "keptAhead", desc := "(CI)I" } : Jvm.MethodName)) ∈ lw_all := lw_g (lw_at lw_m6 71 rfl) rfl
theorem q1338 : (Jvm.Cond.privateMethod ({ cls := "RoyalCourt$Scan", name := "keptAhead", desc := "(CI)I" } : Jvm.MethodName)) ∈ lw_tbl := lw_at lw_m6 72 rfl
theorem q1339 : (Jvm.Cond.instanceMethod ({ cls := "RoyalCourt$Scan", name := "keptAhead", desc := "(CI)I" } : Jvm.MethodName)) ∈ lw_all := lw_g (lw_at lw_m6 73 rfl) rfl
theorem q1340 : (Jvm.Cond.code ({ cls := "RoyalCourt$Scan", name := "keptAhead", desc := "(CI)I" } : Jvm.MethodName) prog_7_method_3_code (3 : Nat) (Option.some Jvm.ClassFile.FieldType.int)) ∈ lw_all := lw_g (lw_at lw_m6 74 rfl) rfl
theorem q1341 : (Jvm.Cond.methodLink "RoyalCourt$Scan" (37 : Nat) ({ cls := "java/lang/Math", name := "min", desc := "(II)I" } : Jvm.MethodName)) ∈ lw_all := lw_g (lw_at lw_m6 75 rfl) rfl
theorem q1342 : (Jvm.Cond.methodLink "RoyalCourt$Scan" (43 : Nat) ({ cls := "RoyalCourt$Scan", name := "keptBehind", desc := "(CI)I" } : Jvm.MethodName)) ∈ lw_all := lw_g (lw_at lw_m6 76 rfl) rfl
theorem q1343 : (Jvm.Cond.privateMethod ({ cls := "RoyalCourt$Scan", name := "keptBehind", desc := "(CI)I" } : Jvm.MethodName)) ∈ lw_tbl := lw_at lw_m6 77 rfl
theorem q1344 : (Jvm.Cond.instanceMethod ({ cls := "RoyalCourt$Scan", name := "keptBehind", desc := "(CI)I" } : Jvm.MethodName)) ∈ lw_all := lw_g (lw_at lw_m6 78 rfl) rfl
theorem q1345 : (Jvm.Cond.code ({ cls := "RoyalCourt$Scan", name := "keptBehind", desc := "(CI)I" } : Jvm.MethodName) prog_7_method_4_code (3 : Nat) (Option.some Jvm.ClassFile.FieldType.int)) ∈ lw_all := lw_g (lw_at lw_m6 79 rfl) rfl
theorem q1346 : (Jvm.Cond.methodLinkNest "RoyalCourt$Scan" (46 : Nat) ({ cls := "RoyalCourt", name := "isDigit", desc := "(I)Z" } : Jvm.MethodName) "RoyalCourt") ∈ lw_tbl := lw_at lw_m6 80 rfl
theorem q1347 : (Jvm.Cond.fieldLink "RoyalCourt$Scan" (9 : Nat) "RoyalCourt$Scan" "ahead" "[I") ∈ lw_all := lw_g (lw_at lw_m6 81 rfl) rfl
theorem q1348 : (Jvm.Cond.fieldLink "RoyalCourt$Scan" (15 : Nat) "RoyalCourt$Scan" "behind" "[I") ∈ lw_all := lw_g (lw_at lw_m6 82 rfl) rfl
theorem q1349 : (Jvm.Cond.lays "RoyalCourt$Scan" "RoyalCourt$Scan" "ahead" "[I") ∈ lw_all := lw_g (lw_at lw_m6 83 rfl) rfl
theorem q1350 : (Jvm.Cond.soleField "RoyalCourt$Scan" "ahead") ∈ lw_all := lw_g (lw_at lw_m6 84 rfl) rfl
theorem q1351 : (Jvm.Cond.lays "RoyalCourt$Scan" "RoyalCourt$Scan" "behind" "[I") ∈ lw_all := lw_g (lw_at lw_m6 85 rfl) rfl
theorem q1352 : (Jvm.Cond.soleField "RoyalCourt$Scan" "behind") ∈ lw_all := lw_g (lw_at lw_m6 86 rfl) rfl
theorem q1353 : (Jvm.Cond.superclass "RoyalCourt$Scan" "java/lang/Object") ∈ lw_all := lw_g (lw_at lw_m6 87 rfl) rfl
theorem q1355 : (Jvm.Cond.instanceMethod ({ cls := "RoyalCourt$Scan", name := "removals", desc := "()I" } : Jvm.MethodName)) ∈ lw_all := lw_g (lw_at lw_m6 89 rfl) rfl
theorem q1356 : (Jvm.Cond.selects "RoyalCourt$Scan" ({ cls := "RoyalCourt$Scan", name := "removals", desc := "()I" } : Jvm.MethodName) ({ cls := "RoyalCourt$Scan", name := "removals", desc := "()I" } : Jvm.MethodName)) ∈ lw_all := lw_g (lw_at lw_m6 90 rfl) rfl
theorem q1357 : (Jvm.Cond.code ({ cls := "RoyalCourt$Scan", name := "removals", desc := "()I" } : Jvm.MethodName) prog_7_method_5_code (1 : Nat) (Option.some Jvm.ClassFile.FieldType.int)) ∈ lw_all := lw_g (lw_at lw_m6 91 rfl) rfl
theorem q2204 : (Jvm.Cond.castable "RoyalCourt$Scan" "java/lang/Object") ∈ lw_tbl := lw_at lw_m9 218 rfl
theorem in_X6 : ∀ w ∈ wsX60, w ∈ lw_all := lw_in wsX60 [1349, 1351] (by decide +kernel) (by decide +kernel)
/-! RoyalCourt$Parts -/
set_option maxRecDepth 100000
def RX7 : String := "RoyalCourt$Parts"
def TX7 : u_T := fun k => match k with
  | 0 => ("RoyalCourt$Parts", "text", "Ljava/lang/StringBuilder;", true)
  | 1 => ("RoyalCourt$Parts", "single", "[[I", true)
  | _ => ("RoyalCourt$Parts", "several", "[[I", true)
def tyX7 : Nat → FieldType := fun k => match k with
  | 0 => .object "java/lang/StringBuilder"
  | 1 => .array (.array .int)
  | _ => .array (.array .int)
abbrev wsX70 : List Cond := u_ws RX7 TX7 3
theorem nmX7 : ∀ a, a < 3 → ∀ b, b < 3 → a ≠ b → (TX7 a).2.1 ≠ (TX7 b).2.1 := by decide +kernel
theorem tyX7_ok : ∀ k, k < 3 → parseFieldDescriptor (TX7 k).2.2.1 = some (tyX7 k) := by decide +kernel
abbrev cX7_init : ByteArray := prog_4_method_1_code
def yX7_init : MethodName := ⟨RX7, "<init>", "(Ljava/lang/StringBuilder;)V"⟩
def dkwX7_init_4 : List UInt8 := [29, 96, 4, 100, 182, 0, 33, 79, 132, 4, 1, 167, 255, 193, 132, 3, 1, 167, 255, 179, 177]
abbrev dktX7_init_4 : List UInt8 := dkwX7_init_4 ++ []
def dkwX7_init_3 : List UInt8 := [4, 100, 182, 0, 29, 79, 42, 180, 0, 26, 21, 4, 50, 21, 4, 29, 96, 4, 100, 42, 21, 4, 21, 4]
abbrev dktX7_init_3 : List UInt8 := dkwX7_init_3 ++ dktX7_init_4
def dkwX7_init_2 : List UInt8 := [28, 163, 0, 61, 42, 180, 0, 23, 21, 4, 50, 21, 4, 29, 96, 4, 100, 42, 21, 4, 21, 4, 29, 96]
abbrev dktX7_init_2 : List UInt8 := dkwX7_init_2 ++ dktX7_init_3
def dkwX7_init_1 : List UInt8 := [42, 28, 28, 197, 0, 21, 2, 181, 0, 26, 4, 62, 29, 28, 163, 0, 78, 3, 54, 4, 21, 4, 29, 96]
abbrev dktX7_init_1 : List UInt8 := dkwX7_init_1 ++ dktX7_init_2
def dkwX7_init_0 : List UInt8 := [42, 183, 0, 3, 42, 43, 181, 0, 9, 43, 182, 0, 15, 61, 42, 28, 28, 197, 0, 21, 2, 181, 0, 23]
abbrev dktX7_init_0 : List UInt8 := dkwX7_init_0 ++ dktX7_init_1
theorem dksX7_init_0 : cX7_init.data.toList.drop 0 = dktX7_init_0 := by decide +kernel
theorem dksX7_init_1 : cX7_init.data.toList.drop 24 = dktX7_init_1 := dk_seg dksX7_init_0 24 rfl rfl
theorem dksX7_init_2 : cX7_init.data.toList.drop 48 = dktX7_init_2 := dk_seg dksX7_init_1 24 rfl rfl
theorem dksX7_init_3 : cX7_init.data.toList.drop 72 = dktX7_init_3 := dk_seg dksX7_init_2 24 rfl rfl
theorem dksX7_init_4 : cX7_init.data.toList.drop 96 = dktX7_init_4 := dk_seg dksX7_init_3 24 rfl rfl
theorem dX7_init_0 : decode cX7_init 0 = .ok (.aload_n 0, 1) := dk_42 (dk_at dksX7_init_0 0 rfl rfl)
theorem dX7_init_1 : decode cX7_init 1 = .ok (.invokespecial 3, 3) := dk_183 0 3 (dk_at dksX7_init_0 1 rfl rfl)
theorem dX7_init_4 : decode cX7_init 4 = .ok (.aload_n 0, 1) := dk_42 (dk_at dksX7_init_0 4 rfl rfl)
theorem dX7_init_5 : decode cX7_init 5 = .ok (.aload_n 1, 1) := dk_43 (dk_at dksX7_init_0 5 rfl rfl)
theorem dX7_init_6 : decode cX7_init 6 = .ok (.putfield 9, 3) := dk_181 0 9 (dk_at dksX7_init_0 6 rfl rfl)
theorem dX7_init_9 : decode cX7_init 9 = .ok (.aload_n 1, 1) := dk_43 (dk_at dksX7_init_0 9 rfl rfl)
theorem dX7_init_10 : decode cX7_init 10 = .ok (.invokevirtual 15, 3) := dk_182 0 15 (dk_at dksX7_init_0 10 rfl rfl)
theorem dX7_init_13 : decode cX7_init 13 = .ok (.istore_n 2, 1) := dk_61 (dk_at dksX7_init_0 13 rfl rfl)
theorem dX7_init_14 : decode cX7_init 14 = .ok (.aload_n 0, 1) := dk_42 (dk_at dksX7_init_0 14 rfl rfl)
theorem dX7_init_15 : decode cX7_init 15 = .ok (.iload_n 2, 1) := dk_28 (dk_at dksX7_init_0 15 rfl rfl)
theorem dX7_init_16 : decode cX7_init 16 = .ok (.iload_n 2, 1) := dk_28 (dk_at dksX7_init_0 16 rfl rfl)
theorem dX7_init_17 : decode cX7_init 17 = .ok (.multianewarray 21 2, 4) := by decide +kernel
theorem dX7_init_21 : decode cX7_init 21 = .ok (.putfield 23, 3) := dk_181 0 23 (dk_at dksX7_init_0 21 rfl rfl)
theorem dX7_init_24 : decode cX7_init 24 = .ok (.aload_n 0, 1) := dk_42 (dk_at dksX7_init_1 0 rfl rfl)
theorem dX7_init_25 : decode cX7_init 25 = .ok (.iload_n 2, 1) := dk_28 (dk_at dksX7_init_1 1 rfl rfl)
theorem dX7_init_26 : decode cX7_init 26 = .ok (.iload_n 2, 1) := dk_28 (dk_at dksX7_init_1 2 rfl rfl)
theorem dX7_init_27 : decode cX7_init 27 = .ok (.multianewarray 21 2, 4) := by decide +kernel
theorem dX7_init_31 : decode cX7_init 31 = .ok (.putfield 26, 3) := dk_181 0 26 (dk_at dksX7_init_1 7 rfl rfl)
theorem dX7_init_34 : decode cX7_init 34 = .ok (.iconst 1, 1) := dk_4 (dk_at dksX7_init_1 10 rfl rfl)
theorem dX7_init_35 : decode cX7_init 35 = .ok (.istore_n 3, 1) := dk_62 (dk_at dksX7_init_1 11 rfl rfl)
theorem dX7_init_36 : decode cX7_init 36 = .ok (.iload_n 3, 1) := dk_29 (dk_at dksX7_init_1 12 rfl rfl)
theorem dX7_init_37 : decode cX7_init 37 = .ok (.iload_n 2, 1) := dk_28 (dk_at dksX7_init_1 13 rfl rfl)
theorem dX7_init_38 : decode cX7_init 38 = .ok (.if_icmp .gt 78, 3) := dk_163 0 78 (dk_at dksX7_init_1 14 rfl rfl)
theorem dX7_init_41 : decode cX7_init 41 = .ok (.iconst 0, 1) := dk_3 (dk_at dksX7_init_1 17 rfl rfl)
theorem dX7_init_42 : decode cX7_init 42 = .ok (.istore 4, 2) := dk_54 4 (dk_at dksX7_init_1 18 rfl rfl)
theorem dX7_init_44 : decode cX7_init 44 = .ok (.iload 4, 2) := dk_21 4 (dk_at dksX7_init_1 20 rfl rfl)
theorem dX7_init_46 : decode cX7_init 46 = .ok (.iload_n 3, 1) := dk_29 (dk_at dksX7_init_1 22 rfl rfl)
theorem dX7_init_47 : decode cX7_init 47 = .ok (.iadd, 1) := dk_96 (dk_at dksX7_init_1 23 rfl rfl)
theorem dX7_init_48 : decode cX7_init 48 = .ok (.iload_n 2, 1) := dk_28 (dk_at dksX7_init_2 0 rfl rfl)
theorem dX7_init_49 : decode cX7_init 49 = .ok (.if_icmp .gt 61, 3) := dk_163 0 61 (dk_at dksX7_init_2 1 rfl rfl)
theorem dX7_init_52 : decode cX7_init 52 = .ok (.aload_n 0, 1) := dk_42 (dk_at dksX7_init_2 4 rfl rfl)
theorem dX7_init_53 : decode cX7_init 53 = .ok (.getfield 23, 3) := dk_180 0 23 (dk_at dksX7_init_2 5 rfl rfl)
theorem dX7_init_56 : decode cX7_init 56 = .ok (.iload 4, 2) := dk_21 4 (dk_at dksX7_init_2 8 rfl rfl)
theorem dX7_init_58 : decode cX7_init 58 = .ok (.aaload, 1) := dk_50 (dk_at dksX7_init_2 10 rfl rfl)
theorem dX7_init_59 : decode cX7_init 59 = .ok (.iload 4, 2) := dk_21 4 (dk_at dksX7_init_2 11 rfl rfl)
theorem dX7_init_61 : decode cX7_init 61 = .ok (.iload_n 3, 1) := dk_29 (dk_at dksX7_init_2 13 rfl rfl)
theorem dX7_init_62 : decode cX7_init 62 = .ok (.iadd, 1) := dk_96 (dk_at dksX7_init_2 14 rfl rfl)
theorem dX7_init_63 : decode cX7_init 63 = .ok (.iconst 1, 1) := dk_4 (dk_at dksX7_init_2 15 rfl rfl)
theorem dX7_init_64 : decode cX7_init 64 = .ok (.isub, 1) := dk_100 (dk_at dksX7_init_2 16 rfl rfl)
theorem dX7_init_65 : decode cX7_init 65 = .ok (.aload_n 0, 1) := dk_42 (dk_at dksX7_init_2 17 rfl rfl)
theorem dX7_init_66 : decode cX7_init 66 = .ok (.iload 4, 2) := dk_21 4 (dk_at dksX7_init_2 18 rfl rfl)
theorem dX7_init_68 : decode cX7_init 68 = .ok (.iload 4, 2) := dk_21 4 (dk_at dksX7_init_2 20 rfl rfl)
theorem dX7_init_70 : decode cX7_init 70 = .ok (.iload_n 3, 1) := dk_29 (dk_at dksX7_init_2 22 rfl rfl)
theorem dX7_init_71 : decode cX7_init 71 = .ok (.iadd, 1) := dk_96 (dk_at dksX7_init_2 23 rfl rfl)
theorem dX7_init_72 : decode cX7_init 72 = .ok (.iconst 1, 1) := dk_4 (dk_at dksX7_init_3 0 rfl rfl)
theorem dX7_init_73 : decode cX7_init 73 = .ok (.isub, 1) := dk_100 (dk_at dksX7_init_3 1 rfl rfl)
theorem dX7_init_74 : decode cX7_init 74 = .ok (.invokevirtual 29, 3) := dk_182 0 29 (dk_at dksX7_init_3 2 rfl rfl)
theorem dX7_init_77 : decode cX7_init 77 = .ok (.iastore, 1) := dk_79 (dk_at dksX7_init_3 5 rfl rfl)
theorem dX7_init_78 : decode cX7_init 78 = .ok (.aload_n 0, 1) := dk_42 (dk_at dksX7_init_3 6 rfl rfl)
theorem dX7_init_79 : decode cX7_init 79 = .ok (.getfield 26, 3) := dk_180 0 26 (dk_at dksX7_init_3 7 rfl rfl)
theorem dX7_init_82 : decode cX7_init 82 = .ok (.iload 4, 2) := dk_21 4 (dk_at dksX7_init_3 10 rfl rfl)
theorem dX7_init_84 : decode cX7_init 84 = .ok (.aaload, 1) := dk_50 (dk_at dksX7_init_3 12 rfl rfl)
theorem dX7_init_85 : decode cX7_init 85 = .ok (.iload 4, 2) := dk_21 4 (dk_at dksX7_init_3 13 rfl rfl)
theorem dX7_init_87 : decode cX7_init 87 = .ok (.iload_n 3, 1) := dk_29 (dk_at dksX7_init_3 15 rfl rfl)
theorem dX7_init_88 : decode cX7_init 88 = .ok (.iadd, 1) := dk_96 (dk_at dksX7_init_3 16 rfl rfl)
theorem dX7_init_89 : decode cX7_init 89 = .ok (.iconst 1, 1) := dk_4 (dk_at dksX7_init_3 17 rfl rfl)
theorem dX7_init_90 : decode cX7_init 90 = .ok (.isub, 1) := dk_100 (dk_at dksX7_init_3 18 rfl rfl)
theorem dX7_init_91 : decode cX7_init 91 = .ok (.aload_n 0, 1) := dk_42 (dk_at dksX7_init_3 19 rfl rfl)
theorem dX7_init_92 : decode cX7_init 92 = .ok (.iload 4, 2) := dk_21 4 (dk_at dksX7_init_3 20 rfl rfl)
theorem dX7_init_94 : decode cX7_init 94 = .ok (.iload 4, 2) := dk_21 4 (dk_at dksX7_init_3 22 rfl rfl)
theorem dX7_init_96 : decode cX7_init 96 = .ok (.iload_n 3, 1) := dk_29 (dk_at dksX7_init_4 0 rfl rfl)
theorem dX7_init_97 : decode cX7_init 97 = .ok (.iadd, 1) := dk_96 (dk_at dksX7_init_4 1 rfl rfl)
theorem dX7_init_98 : decode cX7_init 98 = .ok (.iconst 1, 1) := dk_4 (dk_at dksX7_init_4 2 rfl rfl)
theorem dX7_init_99 : decode cX7_init 99 = .ok (.isub, 1) := dk_100 (dk_at dksX7_init_4 3 rfl rfl)
theorem dX7_init_100 : decode cX7_init 100 = .ok (.invokevirtual 33, 3) := dk_182 0 33 (dk_at dksX7_init_4 4 rfl rfl)
theorem dX7_init_103 : decode cX7_init 103 = .ok (.iastore, 1) := dk_79 (dk_at dksX7_init_4 7 rfl rfl)
theorem dX7_init_104 : decode cX7_init 104 = .ok (.iinc 4 1, 3) := dk_132 4 1 (dk_at dksX7_init_4 8 rfl rfl)
theorem dX7_init_107 : decode cX7_init 107 = .ok (.goto (-63), 3) := dk_167 255 193 (dk_at dksX7_init_4 11 rfl rfl)
theorem dX7_init_110 : decode cX7_init 110 = .ok (.iinc 3 1, 3) := dk_132 3 1 (dk_at dksX7_init_4 14 rfl rfl)
theorem dX7_init_113 : decode cX7_init 113 = .ok (.goto (-77), 3) := dk_167 255 179 (dk_at dksX7_init_4 17 rfl rfl)
theorem dX7_init_116 : decode cX7_init 116 = .ok (.return_, 1) := dk_177 (dk_at dksX7_init_4 20 rfl rfl)
abbrev cX7_leastSingle : ByteArray := prog_4_method_2_code
def yX7_leastSingle : MethodName := ⟨RX7, "leastSingle", "(II)I"⟩
def dkwX7_leastSingle_5 : List UInt8 := [180, 0, 26, 27, 4, 96, 50, 28, 4, 100, 46, 184, 0, 45, 54, 4, 21, 4, 172]
abbrev dktX7_leastSingle_5 : List UInt8 := dkwX7_leastSingle_5 ++ []
def dkwX7_leastSingle_4 : List UInt8 := [180, 0, 9, 28, 182, 0, 36, 16, 41, 160, 0, 29, 28, 27, 4, 96, 164, 0, 22, 21, 4, 42]
abbrev dktX7_leastSingle_4 : List UInt8 := dkwX7_leastSingle_4 ++ dktX7_leastSingle_5
def dkwX7_leastSingle_3 : List UInt8 := [21, 4, 42, 180, 0, 23, 27, 4, 96, 50, 28, 46, 184, 0, 45, 54, 4, 29, 16, 40, 160, 0, 42, 42]
abbrev dktX7_leastSingle_3 : List UInt8 := dkwX7_leastSingle_3 ++ dktX7_leastSingle_4
def dkwX7_leastSingle_2 : List UInt8 := [50, 28, 4, 100, 46, 96, 184, 0, 45, 54, 4, 29, 16, 112, 159, 0, 9, 29, 16, 98, 160, 0, 20]
abbrev dktX7_leastSingle_2 : List UInt8 := dkwX7_leastSingle_2 ++ dktX7_leastSingle_3
def dkwX7_leastSingle_1 : List UInt8 := [167, 0, 5, 18, 44, 172, 4, 42, 180, 0, 23, 27, 4, 96, 50, 28, 46, 96, 4, 42, 180, 0, 23, 27]
abbrev dktX7_leastSingle_1 : List UInt8 := dkwX7_leastSingle_1 ++ dktX7_leastSingle_2
def dkwX7_leastSingle_0 : List UInt8 := [42, 180, 0, 9, 27, 182, 0, 36, 62, 27, 28, 160, 0, 17, 29, 184, 0, 40, 153, 0, 7, 3]
abbrev dktX7_leastSingle_0 : List UInt8 := dkwX7_leastSingle_0 ++ dktX7_leastSingle_1
theorem dksX7_leastSingle_0 : cX7_leastSingle.data.toList.drop 0 = dktX7_leastSingle_0 := by decide +kernel
theorem dksX7_leastSingle_1 : cX7_leastSingle.data.toList.drop 22 = dktX7_leastSingle_1 := dk_seg dksX7_leastSingle_0 22 rfl rfl
theorem dksX7_leastSingle_2 : cX7_leastSingle.data.toList.drop 46 = dktX7_leastSingle_2 := dk_seg dksX7_leastSingle_1 24 rfl rfl
theorem dksX7_leastSingle_3 : cX7_leastSingle.data.toList.drop 69 = dktX7_leastSingle_3 := dk_seg dksX7_leastSingle_2 23 rfl rfl
theorem dksX7_leastSingle_4 : cX7_leastSingle.data.toList.drop 93 = dktX7_leastSingle_4 := dk_seg dksX7_leastSingle_3 24 rfl rfl
theorem dksX7_leastSingle_5 : cX7_leastSingle.data.toList.drop 115 = dktX7_leastSingle_5 := dk_seg dksX7_leastSingle_4 22 rfl rfl
theorem dX7_leastSingle_0 : decode cX7_leastSingle 0 = .ok (.aload_n 0, 1) := dk_42 (dk_at dksX7_leastSingle_0 0 rfl rfl)
theorem dX7_leastSingle_1 : decode cX7_leastSingle 1 = .ok (.getfield 9, 3) := dk_180 0 9 (dk_at dksX7_leastSingle_0 1 rfl rfl)
theorem dX7_leastSingle_4 : decode cX7_leastSingle 4 = .ok (.iload_n 1, 1) := dk_27 (dk_at dksX7_leastSingle_0 4 rfl rfl)
theorem dX7_leastSingle_5 : decode cX7_leastSingle 5 = .ok (.invokevirtual 36, 3) := dk_182 0 36 (dk_at dksX7_leastSingle_0 5 rfl rfl)
theorem dX7_leastSingle_8 : decode cX7_leastSingle 8 = .ok (.istore_n 3, 1) := dk_62 (dk_at dksX7_leastSingle_0 8 rfl rfl)
theorem dX7_leastSingle_9 : decode cX7_leastSingle 9 = .ok (.iload_n 1, 1) := dk_27 (dk_at dksX7_leastSingle_0 9 rfl rfl)
theorem dX7_leastSingle_10 : decode cX7_leastSingle 10 = .ok (.iload_n 2, 1) := dk_28 (dk_at dksX7_leastSingle_0 10 rfl rfl)
theorem dX7_leastSingle_11 : decode cX7_leastSingle 11 = .ok (.if_icmp .ne 17, 3) := dk_160 0 17 (dk_at dksX7_leastSingle_0 11 rfl rfl)
theorem dX7_leastSingle_14 : decode cX7_leastSingle 14 = .ok (.iload_n 3, 1) := dk_29 (dk_at dksX7_leastSingle_0 14 rfl rfl)
theorem dX7_leastSingle_15 : decode cX7_leastSingle 15 = .ok (.invokestatic 40, 3) := dk_184 0 40 (dk_at dksX7_leastSingle_0 15 rfl rfl)
theorem dX7_leastSingle_18 : decode cX7_leastSingle 18 = .ok (.ifCond .eq 7, 3) := dk_153 0 7 (dk_at dksX7_leastSingle_0 18 rfl rfl)
theorem dX7_leastSingle_21 : decode cX7_leastSingle 21 = .ok (.iconst 0, 1) := dk_3 (dk_at dksX7_leastSingle_0 21 rfl rfl)
theorem dX7_leastSingle_22 : decode cX7_leastSingle 22 = .ok (.goto 5, 3) := dk_167 0 5 (dk_at dksX7_leastSingle_1 0 rfl rfl)
theorem dX7_leastSingle_25 : decode cX7_leastSingle 25 = .ok (.ldc 44, 2) := dk_18 44 (dk_at dksX7_leastSingle_1 3 rfl rfl)
theorem dX7_leastSingle_27 : decode cX7_leastSingle 27 = .ok (.ireturn, 1) := dk_172 (dk_at dksX7_leastSingle_1 5 rfl rfl)
theorem dX7_leastSingle_28 : decode cX7_leastSingle 28 = .ok (.iconst 1, 1) := dk_4 (dk_at dksX7_leastSingle_1 6 rfl rfl)
theorem dX7_leastSingle_29 : decode cX7_leastSingle 29 = .ok (.aload_n 0, 1) := dk_42 (dk_at dksX7_leastSingle_1 7 rfl rfl)
theorem dX7_leastSingle_30 : decode cX7_leastSingle 30 = .ok (.getfield 23, 3) := dk_180 0 23 (dk_at dksX7_leastSingle_1 8 rfl rfl)
theorem dX7_leastSingle_33 : decode cX7_leastSingle 33 = .ok (.iload_n 1, 1) := dk_27 (dk_at dksX7_leastSingle_1 11 rfl rfl)
theorem dX7_leastSingle_34 : decode cX7_leastSingle 34 = .ok (.iconst 1, 1) := dk_4 (dk_at dksX7_leastSingle_1 12 rfl rfl)
theorem dX7_leastSingle_35 : decode cX7_leastSingle 35 = .ok (.iadd, 1) := dk_96 (dk_at dksX7_leastSingle_1 13 rfl rfl)
theorem dX7_leastSingle_36 : decode cX7_leastSingle 36 = .ok (.aaload, 1) := dk_50 (dk_at dksX7_leastSingle_1 14 rfl rfl)
theorem dX7_leastSingle_37 : decode cX7_leastSingle 37 = .ok (.iload_n 2, 1) := dk_28 (dk_at dksX7_leastSingle_1 15 rfl rfl)
theorem dX7_leastSingle_38 : decode cX7_leastSingle 38 = .ok (.iaload, 1) := dk_46 (dk_at dksX7_leastSingle_1 16 rfl rfl)
theorem dX7_leastSingle_39 : decode cX7_leastSingle 39 = .ok (.iadd, 1) := dk_96 (dk_at dksX7_leastSingle_1 17 rfl rfl)
theorem dX7_leastSingle_40 : decode cX7_leastSingle 40 = .ok (.iconst 1, 1) := dk_4 (dk_at dksX7_leastSingle_1 18 rfl rfl)
theorem dX7_leastSingle_41 : decode cX7_leastSingle 41 = .ok (.aload_n 0, 1) := dk_42 (dk_at dksX7_leastSingle_1 19 rfl rfl)
theorem dX7_leastSingle_42 : decode cX7_leastSingle 42 = .ok (.getfield 23, 3) := dk_180 0 23 (dk_at dksX7_leastSingle_1 20 rfl rfl)
theorem dX7_leastSingle_45 : decode cX7_leastSingle 45 = .ok (.iload_n 1, 1) := dk_27 (dk_at dksX7_leastSingle_1 23 rfl rfl)
theorem dX7_leastSingle_46 : decode cX7_leastSingle 46 = .ok (.aaload, 1) := dk_50 (dk_at dksX7_leastSingle_2 0 rfl rfl)
theorem dX7_leastSingle_47 : decode cX7_leastSingle 47 = .ok (.iload_n 2, 1) := dk_28 (dk_at dksX7_leastSingle_2 1 rfl rfl)
theorem dX7_leastSingle_48 : decode cX7_leastSingle 48 = .ok (.iconst 1, 1) := dk_4 (dk_at dksX7_leastSingle_2 2 rfl rfl)
theorem dX7_leastSingle_49 : decode cX7_leastSingle 49 = .ok (.isub, 1) := dk_100 (dk_at dksX7_leastSingle_2 3 rfl rfl)
theorem dX7_leastSingle_50 : decode cX7_leastSingle 50 = .ok (.iaload, 1) := dk_46 (dk_at dksX7_leastSingle_2 4 rfl rfl)
theorem dX7_leastSingle_51 : decode cX7_leastSingle 51 = .ok (.iadd, 1) := dk_96 (dk_at dksX7_leastSingle_2 5 rfl rfl)
theorem dX7_leastSingle_52 : decode cX7_leastSingle 52 = .ok (.invokestatic 45, 3) := dk_184 0 45 (dk_at dksX7_leastSingle_2 6 rfl rfl)
theorem dX7_leastSingle_55 : decode cX7_leastSingle 55 = .ok (.istore 4, 2) := dk_54 4 (dk_at dksX7_leastSingle_2 9 rfl rfl)
theorem dX7_leastSingle_57 : decode cX7_leastSingle 57 = .ok (.iload_n 3, 1) := dk_29 (dk_at dksX7_leastSingle_2 11 rfl rfl)
theorem dX7_leastSingle_58 : decode cX7_leastSingle 58 = .ok (.bipush 112, 2) := dk_16 112 (dk_at dksX7_leastSingle_2 12 rfl rfl)
theorem dX7_leastSingle_60 : decode cX7_leastSingle 60 = .ok (.if_icmp .eq 9, 3) := dk_159 0 9 (dk_at dksX7_leastSingle_2 14 rfl rfl)
theorem dX7_leastSingle_63 : decode cX7_leastSingle 63 = .ok (.iload_n 3, 1) := dk_29 (dk_at dksX7_leastSingle_2 17 rfl rfl)
theorem dX7_leastSingle_64 : decode cX7_leastSingle 64 = .ok (.bipush 98, 2) := dk_16 98 (dk_at dksX7_leastSingle_2 18 rfl rfl)
theorem dX7_leastSingle_66 : decode cX7_leastSingle 66 = .ok (.if_icmp .ne 20, 3) := dk_160 0 20 (dk_at dksX7_leastSingle_2 20 rfl rfl)
theorem dX7_leastSingle_69 : decode cX7_leastSingle 69 = .ok (.iload 4, 2) := dk_21 4 (dk_at dksX7_leastSingle_3 0 rfl rfl)
theorem dX7_leastSingle_71 : decode cX7_leastSingle 71 = .ok (.aload_n 0, 1) := dk_42 (dk_at dksX7_leastSingle_3 2 rfl rfl)
theorem dX7_leastSingle_72 : decode cX7_leastSingle 72 = .ok (.getfield 23, 3) := dk_180 0 23 (dk_at dksX7_leastSingle_3 3 rfl rfl)
theorem dX7_leastSingle_75 : decode cX7_leastSingle 75 = .ok (.iload_n 1, 1) := dk_27 (dk_at dksX7_leastSingle_3 6 rfl rfl)
theorem dX7_leastSingle_76 : decode cX7_leastSingle 76 = .ok (.iconst 1, 1) := dk_4 (dk_at dksX7_leastSingle_3 7 rfl rfl)
theorem dX7_leastSingle_77 : decode cX7_leastSingle 77 = .ok (.iadd, 1) := dk_96 (dk_at dksX7_leastSingle_3 8 rfl rfl)
theorem dX7_leastSingle_78 : decode cX7_leastSingle 78 = .ok (.aaload, 1) := dk_50 (dk_at dksX7_leastSingle_3 9 rfl rfl)
theorem dX7_leastSingle_79 : decode cX7_leastSingle 79 = .ok (.iload_n 2, 1) := dk_28 (dk_at dksX7_leastSingle_3 10 rfl rfl)
theorem dX7_leastSingle_80 : decode cX7_leastSingle 80 = .ok (.iaload, 1) := dk_46 (dk_at dksX7_leastSingle_3 11 rfl rfl)
theorem dX7_leastSingle_81 : decode cX7_leastSingle 81 = .ok (.invokestatic 45, 3) := dk_184 0 45 (dk_at dksX7_leastSingle_3 12 rfl rfl)
theorem dX7_leastSingle_84 : decode cX7_leastSingle 84 = .ok (.istore 4, 2) := dk_54 4 (dk_at dksX7_leastSingle_3 15 rfl rfl)
theorem dX7_leastSingle_86 : decode cX7_leastSingle 86 = .ok (.iload_n 3, 1) := dk_29 (dk_at dksX7_leastSingle_3 17 rfl rfl)
theorem dX7_leastSingle_87 : decode cX7_leastSingle 87 = .ok (.bipush 40, 2) := dk_16 40 (dk_at dksX7_leastSingle_3 18 rfl rfl)
theorem dX7_leastSingle_89 : decode cX7_leastSingle 89 = .ok (.if_icmp .ne 42, 3) := dk_160 0 42 (dk_at dksX7_leastSingle_3 20 rfl rfl)
theorem dX7_leastSingle_92 : decode cX7_leastSingle 92 = .ok (.aload_n 0, 1) := dk_42 (dk_at dksX7_leastSingle_3 23 rfl rfl)
theorem dX7_leastSingle_93 : decode cX7_leastSingle 93 = .ok (.getfield 9, 3) := dk_180 0 9 (dk_at dksX7_leastSingle_4 0 rfl rfl)
theorem dX7_leastSingle_96 : decode cX7_leastSingle 96 = .ok (.iload_n 2, 1) := dk_28 (dk_at dksX7_leastSingle_4 3 rfl rfl)
theorem dX7_leastSingle_97 : decode cX7_leastSingle 97 = .ok (.invokevirtual 36, 3) := dk_182 0 36 (dk_at dksX7_leastSingle_4 4 rfl rfl)
theorem dX7_leastSingle_100 : decode cX7_leastSingle 100 = .ok (.bipush 41, 2) := dk_16 41 (dk_at dksX7_leastSingle_4 7 rfl rfl)
theorem dX7_leastSingle_102 : decode cX7_leastSingle 102 = .ok (.if_icmp .ne 29, 3) := dk_160 0 29 (dk_at dksX7_leastSingle_4 9 rfl rfl)
theorem dX7_leastSingle_105 : decode cX7_leastSingle 105 = .ok (.iload_n 2, 1) := dk_28 (dk_at dksX7_leastSingle_4 12 rfl rfl)
theorem dX7_leastSingle_106 : decode cX7_leastSingle 106 = .ok (.iload_n 1, 1) := dk_27 (dk_at dksX7_leastSingle_4 13 rfl rfl)
theorem dX7_leastSingle_107 : decode cX7_leastSingle 107 = .ok (.iconst 1, 1) := dk_4 (dk_at dksX7_leastSingle_4 14 rfl rfl)
theorem dX7_leastSingle_108 : decode cX7_leastSingle 108 = .ok (.iadd, 1) := dk_96 (dk_at dksX7_leastSingle_4 15 rfl rfl)
theorem dX7_leastSingle_109 : decode cX7_leastSingle 109 = .ok (.if_icmp .le 22, 3) := dk_164 0 22 (dk_at dksX7_leastSingle_4 16 rfl rfl)
theorem dX7_leastSingle_112 : decode cX7_leastSingle 112 = .ok (.iload 4, 2) := dk_21 4 (dk_at dksX7_leastSingle_4 19 rfl rfl)
theorem dX7_leastSingle_114 : decode cX7_leastSingle 114 = .ok (.aload_n 0, 1) := dk_42 (dk_at dksX7_leastSingle_4 21 rfl rfl)
theorem dX7_leastSingle_115 : decode cX7_leastSingle 115 = .ok (.getfield 26, 3) := dk_180 0 26 (dk_at dksX7_leastSingle_5 0 rfl rfl)
theorem dX7_leastSingle_118 : decode cX7_leastSingle 118 = .ok (.iload_n 1, 1) := dk_27 (dk_at dksX7_leastSingle_5 3 rfl rfl)
theorem dX7_leastSingle_119 : decode cX7_leastSingle 119 = .ok (.iconst 1, 1) := dk_4 (dk_at dksX7_leastSingle_5 4 rfl rfl)
theorem dX7_leastSingle_120 : decode cX7_leastSingle 120 = .ok (.iadd, 1) := dk_96 (dk_at dksX7_leastSingle_5 5 rfl rfl)
theorem dX7_leastSingle_121 : decode cX7_leastSingle 121 = .ok (.aaload, 1) := dk_50 (dk_at dksX7_leastSingle_5 6 rfl rfl)
theorem dX7_leastSingle_122 : decode cX7_leastSingle 122 = .ok (.iload_n 2, 1) := dk_28 (dk_at dksX7_leastSingle_5 7 rfl rfl)
theorem dX7_leastSingle_123 : decode cX7_leastSingle 123 = .ok (.iconst 1, 1) := dk_4 (dk_at dksX7_leastSingle_5 8 rfl rfl)
theorem dX7_leastSingle_124 : decode cX7_leastSingle 124 = .ok (.isub, 1) := dk_100 (dk_at dksX7_leastSingle_5 9 rfl rfl)
theorem dX7_leastSingle_125 : decode cX7_leastSingle 125 = .ok (.iaload, 1) := dk_46 (dk_at dksX7_leastSingle_5 10 rfl rfl)
theorem dX7_leastSingle_126 : decode cX7_leastSingle 126 = .ok (.invokestatic 45, 3) := dk_184 0 45 (dk_at dksX7_leastSingle_5 11 rfl rfl)
theorem dX7_leastSingle_129 : decode cX7_leastSingle 129 = .ok (.istore 4, 2) := dk_54 4 (dk_at dksX7_leastSingle_5 14 rfl rfl)
theorem dX7_leastSingle_131 : decode cX7_leastSingle 131 = .ok (.iload 4, 2) := dk_21 4 (dk_at dksX7_leastSingle_5 16 rfl rfl)
theorem dX7_leastSingle_133 : decode cX7_leastSingle 133 = .ok (.ireturn, 1) := dk_172 (dk_at dksX7_leastSingle_5 18 rfl rfl)
abbrev cX7_leastSeveral : ByteArray := prog_4_method_3_code
def yX7_leastSeveral : MethodName := ⟨RX7, "leastSeveral", "(II)I"⟩
def dkwX7_leastSeveral_4 : List UInt8 := [184, 0, 45, 62, 132, 4, 1, 167, 255, 205, 29, 172]
abbrev dktX7_leastSeveral_4 : List UInt8 := dkwX7_leastSeveral_4 ++ []
def dkwX7_leastSeveral_3 : List UInt8 := [42, 180, 0, 26, 27, 50, 21, 4, 4, 100, 46, 42, 180, 0, 23, 21, 4, 4, 96, 50, 28, 46, 96]
abbrev dktX7_leastSeveral_3 : List UInt8 := dkwX7_leastSeveral_3 ++ dktX7_leastSeveral_4
def dkwX7_leastSeveral_2 : List UInt8 := [96, 54, 4, 21, 4, 28, 162, 0, 51, 42, 180, 0, 9, 21, 4, 182, 0, 36, 16, 44, 160, 0, 31, 29]
abbrev dktX7_leastSeveral_2 : List UInt8 := dkwX7_leastSeveral_2 ++ dktX7_leastSeveral_3
def dkwX7_leastSeveral_1 : List UInt8 := [28, 46, 96, 4, 42, 180, 0, 26, 27, 50, 28, 4, 100, 46, 96, 184, 0, 45, 184, 0, 45, 62, 27, 4]
abbrev dktX7_leastSeveral_1 : List UInt8 := dkwX7_leastSeveral_1 ++ dktX7_leastSeveral_2
def dkwX7_leastSeveral_0 : List UInt8 := [42, 180, 0, 23, 27, 50, 28, 46, 62, 27, 28, 162, 0, 35, 29, 4, 42, 180, 0, 26, 27, 4, 96, 50]
abbrev dktX7_leastSeveral_0 : List UInt8 := dkwX7_leastSeveral_0 ++ dktX7_leastSeveral_1
theorem dksX7_leastSeveral_0 : cX7_leastSeveral.data.toList.drop 0 = dktX7_leastSeveral_0 := by decide +kernel
theorem dksX7_leastSeveral_1 : cX7_leastSeveral.data.toList.drop 24 = dktX7_leastSeveral_1 := dk_seg dksX7_leastSeveral_0 24 rfl rfl
theorem dksX7_leastSeveral_2 : cX7_leastSeveral.data.toList.drop 48 = dktX7_leastSeveral_2 := dk_seg dksX7_leastSeveral_1 24 rfl rfl
theorem dksX7_leastSeveral_3 : cX7_leastSeveral.data.toList.drop 72 = dktX7_leastSeveral_3 := dk_seg dksX7_leastSeveral_2 24 rfl rfl
theorem dksX7_leastSeveral_4 : cX7_leastSeveral.data.toList.drop 95 = dktX7_leastSeveral_4 := dk_seg dksX7_leastSeveral_3 23 rfl rfl
theorem dX7_leastSeveral_0 : decode cX7_leastSeveral 0 = .ok (.aload_n 0, 1) := dk_42 (dk_at dksX7_leastSeveral_0 0 rfl rfl)
theorem dX7_leastSeveral_1 : decode cX7_leastSeveral 1 = .ok (.getfield 23, 3) := dk_180 0 23 (dk_at dksX7_leastSeveral_0 1 rfl rfl)
theorem dX7_leastSeveral_4 : decode cX7_leastSeveral 4 = .ok (.iload_n 1, 1) := dk_27 (dk_at dksX7_leastSeveral_0 4 rfl rfl)
theorem dX7_leastSeveral_5 : decode cX7_leastSeveral 5 = .ok (.aaload, 1) := dk_50 (dk_at dksX7_leastSeveral_0 5 rfl rfl)
theorem dX7_leastSeveral_6 : decode cX7_leastSeveral 6 = .ok (.iload_n 2, 1) := dk_28 (dk_at dksX7_leastSeveral_0 6 rfl rfl)
theorem dX7_leastSeveral_7 : decode cX7_leastSeveral 7 = .ok (.iaload, 1) := dk_46 (dk_at dksX7_leastSeveral_0 7 rfl rfl)
theorem dX7_leastSeveral_8 : decode cX7_leastSeveral 8 = .ok (.istore_n 3, 1) := dk_62 (dk_at dksX7_leastSeveral_0 8 rfl rfl)
theorem dX7_leastSeveral_9 : decode cX7_leastSeveral 9 = .ok (.iload_n 1, 1) := dk_27 (dk_at dksX7_leastSeveral_0 9 rfl rfl)
theorem dX7_leastSeveral_10 : decode cX7_leastSeveral 10 = .ok (.iload_n 2, 1) := dk_28 (dk_at dksX7_leastSeveral_0 10 rfl rfl)
theorem dX7_leastSeveral_11 : decode cX7_leastSeveral 11 = .ok (.if_icmp .ge 35, 3) := dk_162 0 35 (dk_at dksX7_leastSeveral_0 11 rfl rfl)
theorem dX7_leastSeveral_14 : decode cX7_leastSeveral 14 = .ok (.iload_n 3, 1) := dk_29 (dk_at dksX7_leastSeveral_0 14 rfl rfl)
theorem dX7_leastSeveral_15 : decode cX7_leastSeveral 15 = .ok (.iconst 1, 1) := dk_4 (dk_at dksX7_leastSeveral_0 15 rfl rfl)
theorem dX7_leastSeveral_16 : decode cX7_leastSeveral 16 = .ok (.aload_n 0, 1) := dk_42 (dk_at dksX7_leastSeveral_0 16 rfl rfl)
theorem dX7_leastSeveral_17 : decode cX7_leastSeveral 17 = .ok (.getfield 26, 3) := dk_180 0 26 (dk_at dksX7_leastSeveral_0 17 rfl rfl)
theorem dX7_leastSeveral_20 : decode cX7_leastSeveral 20 = .ok (.iload_n 1, 1) := dk_27 (dk_at dksX7_leastSeveral_0 20 rfl rfl)
theorem dX7_leastSeveral_21 : decode cX7_leastSeveral 21 = .ok (.iconst 1, 1) := dk_4 (dk_at dksX7_leastSeveral_0 21 rfl rfl)
theorem dX7_leastSeveral_22 : decode cX7_leastSeveral 22 = .ok (.iadd, 1) := dk_96 (dk_at dksX7_leastSeveral_0 22 rfl rfl)
theorem dX7_leastSeveral_23 : decode cX7_leastSeveral 23 = .ok (.aaload, 1) := dk_50 (dk_at dksX7_leastSeveral_0 23 rfl rfl)
theorem dX7_leastSeveral_24 : decode cX7_leastSeveral 24 = .ok (.iload_n 2, 1) := dk_28 (dk_at dksX7_leastSeveral_1 0 rfl rfl)
theorem dX7_leastSeveral_25 : decode cX7_leastSeveral 25 = .ok (.iaload, 1) := dk_46 (dk_at dksX7_leastSeveral_1 1 rfl rfl)
theorem dX7_leastSeveral_26 : decode cX7_leastSeveral 26 = .ok (.iadd, 1) := dk_96 (dk_at dksX7_leastSeveral_1 2 rfl rfl)
theorem dX7_leastSeveral_27 : decode cX7_leastSeveral 27 = .ok (.iconst 1, 1) := dk_4 (dk_at dksX7_leastSeveral_1 3 rfl rfl)
theorem dX7_leastSeveral_28 : decode cX7_leastSeveral 28 = .ok (.aload_n 0, 1) := dk_42 (dk_at dksX7_leastSeveral_1 4 rfl rfl)
theorem dX7_leastSeveral_29 : decode cX7_leastSeveral 29 = .ok (.getfield 26, 3) := dk_180 0 26 (dk_at dksX7_leastSeveral_1 5 rfl rfl)
theorem dX7_leastSeveral_32 : decode cX7_leastSeveral 32 = .ok (.iload_n 1, 1) := dk_27 (dk_at dksX7_leastSeveral_1 8 rfl rfl)
theorem dX7_leastSeveral_33 : decode cX7_leastSeveral 33 = .ok (.aaload, 1) := dk_50 (dk_at dksX7_leastSeveral_1 9 rfl rfl)
theorem dX7_leastSeveral_34 : decode cX7_leastSeveral 34 = .ok (.iload_n 2, 1) := dk_28 (dk_at dksX7_leastSeveral_1 10 rfl rfl)
theorem dX7_leastSeveral_35 : decode cX7_leastSeveral 35 = .ok (.iconst 1, 1) := dk_4 (dk_at dksX7_leastSeveral_1 11 rfl rfl)
theorem dX7_leastSeveral_36 : decode cX7_leastSeveral 36 = .ok (.isub, 1) := dk_100 (dk_at dksX7_leastSeveral_1 12 rfl rfl)
theorem dX7_leastSeveral_37 : decode cX7_leastSeveral 37 = .ok (.iaload, 1) := dk_46 (dk_at dksX7_leastSeveral_1 13 rfl rfl)
theorem dX7_leastSeveral_38 : decode cX7_leastSeveral 38 = .ok (.iadd, 1) := dk_96 (dk_at dksX7_leastSeveral_1 14 rfl rfl)
theorem dX7_leastSeveral_39 : decode cX7_leastSeveral 39 = .ok (.invokestatic 45, 3) := dk_184 0 45 (dk_at dksX7_leastSeveral_1 15 rfl rfl)
theorem dX7_leastSeveral_42 : decode cX7_leastSeveral 42 = .ok (.invokestatic 45, 3) := dk_184 0 45 (dk_at dksX7_leastSeveral_1 18 rfl rfl)
theorem dX7_leastSeveral_45 : decode cX7_leastSeveral 45 = .ok (.istore_n 3, 1) := dk_62 (dk_at dksX7_leastSeveral_1 21 rfl rfl)
theorem dX7_leastSeveral_46 : decode cX7_leastSeveral 46 = .ok (.iload_n 1, 1) := dk_27 (dk_at dksX7_leastSeveral_1 22 rfl rfl)
theorem dX7_leastSeveral_47 : decode cX7_leastSeveral 47 = .ok (.iconst 1, 1) := dk_4 (dk_at dksX7_leastSeveral_1 23 rfl rfl)
theorem dX7_leastSeveral_48 : decode cX7_leastSeveral 48 = .ok (.iadd, 1) := dk_96 (dk_at dksX7_leastSeveral_2 0 rfl rfl)
theorem dX7_leastSeveral_49 : decode cX7_leastSeveral 49 = .ok (.istore 4, 2) := dk_54 4 (dk_at dksX7_leastSeveral_2 1 rfl rfl)
theorem dX7_leastSeveral_51 : decode cX7_leastSeveral 51 = .ok (.iload 4, 2) := dk_21 4 (dk_at dksX7_leastSeveral_2 3 rfl rfl)
theorem dX7_leastSeveral_53 : decode cX7_leastSeveral 53 = .ok (.iload_n 2, 1) := dk_28 (dk_at dksX7_leastSeveral_2 5 rfl rfl)
theorem dX7_leastSeveral_54 : decode cX7_leastSeveral 54 = .ok (.if_icmp .ge 51, 3) := dk_162 0 51 (dk_at dksX7_leastSeveral_2 6 rfl rfl)
theorem dX7_leastSeveral_57 : decode cX7_leastSeveral 57 = .ok (.aload_n 0, 1) := dk_42 (dk_at dksX7_leastSeveral_2 9 rfl rfl)
theorem dX7_leastSeveral_58 : decode cX7_leastSeveral 58 = .ok (.getfield 9, 3) := dk_180 0 9 (dk_at dksX7_leastSeveral_2 10 rfl rfl)
theorem dX7_leastSeveral_61 : decode cX7_leastSeveral 61 = .ok (.iload 4, 2) := dk_21 4 (dk_at dksX7_leastSeveral_2 13 rfl rfl)
theorem dX7_leastSeveral_63 : decode cX7_leastSeveral 63 = .ok (.invokevirtual 36, 3) := dk_182 0 36 (dk_at dksX7_leastSeveral_2 15 rfl rfl)
theorem dX7_leastSeveral_66 : decode cX7_leastSeveral 66 = .ok (.bipush 44, 2) := dk_16 44 (dk_at dksX7_leastSeveral_2 18 rfl rfl)
theorem dX7_leastSeveral_68 : decode cX7_leastSeveral 68 = .ok (.if_icmp .ne 31, 3) := dk_160 0 31 (dk_at dksX7_leastSeveral_2 20 rfl rfl)
theorem dX7_leastSeveral_71 : decode cX7_leastSeveral 71 = .ok (.iload_n 3, 1) := dk_29 (dk_at dksX7_leastSeveral_2 23 rfl rfl)
theorem dX7_leastSeveral_72 : decode cX7_leastSeveral 72 = .ok (.aload_n 0, 1) := dk_42 (dk_at dksX7_leastSeveral_3 0 rfl rfl)
theorem dX7_leastSeveral_73 : decode cX7_leastSeveral 73 = .ok (.getfield 26, 3) := dk_180 0 26 (dk_at dksX7_leastSeveral_3 1 rfl rfl)
theorem dX7_leastSeveral_76 : decode cX7_leastSeveral 76 = .ok (.iload_n 1, 1) := dk_27 (dk_at dksX7_leastSeveral_3 4 rfl rfl)
theorem dX7_leastSeveral_77 : decode cX7_leastSeveral 77 = .ok (.aaload, 1) := dk_50 (dk_at dksX7_leastSeveral_3 5 rfl rfl)
theorem dX7_leastSeveral_78 : decode cX7_leastSeveral 78 = .ok (.iload 4, 2) := dk_21 4 (dk_at dksX7_leastSeveral_3 6 rfl rfl)
theorem dX7_leastSeveral_80 : decode cX7_leastSeveral 80 = .ok (.iconst 1, 1) := dk_4 (dk_at dksX7_leastSeveral_3 8 rfl rfl)
theorem dX7_leastSeveral_81 : decode cX7_leastSeveral 81 = .ok (.isub, 1) := dk_100 (dk_at dksX7_leastSeveral_3 9 rfl rfl)
theorem dX7_leastSeveral_82 : decode cX7_leastSeveral 82 = .ok (.iaload, 1) := dk_46 (dk_at dksX7_leastSeveral_3 10 rfl rfl)
theorem dX7_leastSeveral_83 : decode cX7_leastSeveral 83 = .ok (.aload_n 0, 1) := dk_42 (dk_at dksX7_leastSeveral_3 11 rfl rfl)
theorem dX7_leastSeveral_84 : decode cX7_leastSeveral 84 = .ok (.getfield 23, 3) := dk_180 0 23 (dk_at dksX7_leastSeveral_3 12 rfl rfl)
theorem dX7_leastSeveral_87 : decode cX7_leastSeveral 87 = .ok (.iload 4, 2) := dk_21 4 (dk_at dksX7_leastSeveral_3 15 rfl rfl)
theorem dX7_leastSeveral_89 : decode cX7_leastSeveral 89 = .ok (.iconst 1, 1) := dk_4 (dk_at dksX7_leastSeveral_3 17 rfl rfl)
theorem dX7_leastSeveral_90 : decode cX7_leastSeveral 90 = .ok (.iadd, 1) := dk_96 (dk_at dksX7_leastSeveral_3 18 rfl rfl)
theorem dX7_leastSeveral_91 : decode cX7_leastSeveral 91 = .ok (.aaload, 1) := dk_50 (dk_at dksX7_leastSeveral_3 19 rfl rfl)
theorem dX7_leastSeveral_92 : decode cX7_leastSeveral 92 = .ok (.iload_n 2, 1) := dk_28 (dk_at dksX7_leastSeveral_3 20 rfl rfl)
theorem dX7_leastSeveral_93 : decode cX7_leastSeveral 93 = .ok (.iaload, 1) := dk_46 (dk_at dksX7_leastSeveral_3 21 rfl rfl)
theorem dX7_leastSeveral_94 : decode cX7_leastSeveral 94 = .ok (.iadd, 1) := dk_96 (dk_at dksX7_leastSeveral_3 22 rfl rfl)
theorem dX7_leastSeveral_95 : decode cX7_leastSeveral 95 = .ok (.invokestatic 45, 3) := dk_184 0 45 (dk_at dksX7_leastSeveral_4 0 rfl rfl)
theorem dX7_leastSeveral_98 : decode cX7_leastSeveral 98 = .ok (.istore_n 3, 1) := dk_62 (dk_at dksX7_leastSeveral_4 3 rfl rfl)
theorem dX7_leastSeveral_99 : decode cX7_leastSeveral 99 = .ok (.iinc 4 1, 3) := dk_132 4 1 (dk_at dksX7_leastSeveral_4 4 rfl rfl)
theorem dX7_leastSeveral_102 : decode cX7_leastSeveral 102 = .ok (.goto (-51), 3) := dk_167 255 205 (dk_at dksX7_leastSeveral_4 7 rfl rfl)
theorem dX7_leastSeveral_105 : decode cX7_leastSeveral 105 = .ok (.iload_n 3, 1) := dk_29 (dk_at dksX7_leastSeveral_4 10 rfl rfl)
theorem dX7_leastSeveral_106 : decode cX7_leastSeveral 106 = .ok (.ireturn, 1) := dk_172 (dk_at dksX7_leastSeveral_4 11 rfl rfl)
abbrev cX7_removals : ByteArray := prog_4_method_4_code
def yX7_removals : MethodName := ⟨RX7, "removals", "()I"⟩
def dkwX7_removals_1 : List UInt8 := [180, 0, 9, 182, 0, 15, 4, 100, 46, 172]
abbrev dktX7_removals_1 : List UInt8 := dkwX7_removals_1 ++ []
def dkwX7_removals_0 : List UInt8 := [42, 180, 0, 9, 182, 0, 15, 154, 0, 8, 18, 44, 167, 0, 19, 42, 180, 0, 23, 3, 50, 42]
abbrev dktX7_removals_0 : List UInt8 := dkwX7_removals_0 ++ dktX7_removals_1
theorem dksX7_removals_0 : cX7_removals.data.toList.drop 0 = dktX7_removals_0 := by decide +kernel
theorem dksX7_removals_1 : cX7_removals.data.toList.drop 22 = dktX7_removals_1 := dk_seg dksX7_removals_0 22 rfl rfl
theorem dX7_removals_0 : decode cX7_removals 0 = .ok (.aload_n 0, 1) := dk_42 (dk_at dksX7_removals_0 0 rfl rfl)
theorem dX7_removals_1 : decode cX7_removals 1 = .ok (.getfield 9, 3) := dk_180 0 9 (dk_at dksX7_removals_0 1 rfl rfl)
theorem dX7_removals_4 : decode cX7_removals 4 = .ok (.invokevirtual 15, 3) := dk_182 0 15 (dk_at dksX7_removals_0 4 rfl rfl)
theorem dX7_removals_7 : decode cX7_removals 7 = .ok (.ifCond .ne 8, 3) := dk_154 0 8 (dk_at dksX7_removals_0 7 rfl rfl)
theorem dX7_removals_10 : decode cX7_removals 10 = .ok (.ldc 44, 2) := dk_18 44 (dk_at dksX7_removals_0 10 rfl rfl)
theorem dX7_removals_12 : decode cX7_removals 12 = .ok (.goto 19, 3) := dk_167 0 19 (dk_at dksX7_removals_0 12 rfl rfl)
theorem dX7_removals_15 : decode cX7_removals 15 = .ok (.aload_n 0, 1) := dk_42 (dk_at dksX7_removals_0 15 rfl rfl)
theorem dX7_removals_16 : decode cX7_removals 16 = .ok (.getfield 23, 3) := dk_180 0 23 (dk_at dksX7_removals_0 16 rfl rfl)
theorem dX7_removals_19 : decode cX7_removals 19 = .ok (.iconst 0, 1) := dk_3 (dk_at dksX7_removals_0 19 rfl rfl)
theorem dX7_removals_20 : decode cX7_removals 20 = .ok (.aaload, 1) := dk_50 (dk_at dksX7_removals_0 20 rfl rfl)
theorem dX7_removals_21 : decode cX7_removals 21 = .ok (.aload_n 0, 1) := dk_42 (dk_at dksX7_removals_0 21 rfl rfl)
theorem dX7_removals_22 : decode cX7_removals 22 = .ok (.getfield 9, 3) := dk_180 0 9 (dk_at dksX7_removals_1 0 rfl rfl)
theorem dX7_removals_25 : decode cX7_removals 25 = .ok (.invokevirtual 15, 3) := dk_182 0 15 (dk_at dksX7_removals_1 3 rfl rfl)
theorem dX7_removals_28 : decode cX7_removals 28 = .ok (.iconst 1, 1) := dk_4 (dk_at dksX7_removals_1 6 rfl rfl)
theorem dX7_removals_29 : decode cX7_removals 29 = .ok (.isub, 1) := dk_100 (dk_at dksX7_removals_1 7 rfl rfl)
theorem dX7_removals_30 : decode cX7_removals 30 = .ok (.iaload, 1) := dk_46 (dk_at dksX7_removals_1 8 rfl rfl)
theorem dX7_removals_31 : decode cX7_removals 31 = .ok (.ireturn, 1) := dk_172 (dk_at dksX7_removals_1 9 rfl rfl)
theorem q99 : (Jvm.Cond.initialized "RoyalCourt$Parts") ∈ lw_all := lw_g (lw_at lw_m1 33 rfl) rfl
theorem q342 : (Jvm.Cond.selects "RoyalCourt$Parts" ({ cls := "java/lang/Object", name := "getClass", desc := "()Ljava/lang/Class;" } : Jvm.MethodName) ({ cls := "java/lang/Object", name := "getClass", desc := "()Ljava/lang/Class;" } : Jvm.MethodName)) ∈ lw_all := lw_g (lw_at lw_m2 36 rfl) rfl
theorem q1366 : (Jvm.Cond.instantiable "RoyalCourt$Parts" (3 : Nat)) ∈ lw_all := lw_g (lw_at lw_m6 100 rfl) rfl
theorem q1368 : (Jvm.Cond.instanceMethod ({ cls := "RoyalCourt$Parts", name := "<init>", desc := "(Ljava/lang/StringBuilder;)V" } : Jvm.MethodName)) ∈ lw_all := lw_g (lw_at lw_m6 102 rfl) rfl
theorem q1369 : (Jvm.Cond.code ({ cls := "RoyalCourt$Parts", name := "<init>", desc := "(Ljava/lang/StringBuilder;)V" } : Jvm.MethodName) prog_4_method_1_code (5 : Nat) (Option.none : Option Jvm.ClassFile.FieldType)) ∈ lw_all := lw_g (lw_at lw_m6 103 rfl) rfl
theorem q1370 : (Jvm.Cond.methodLink "RoyalCourt$Parts" (3 : Nat) ({ cls := "java/lang/Object", name := "<init>", desc := "()V" } : Jvm.MethodName)) ∈ lw_all := lw_g (lw_at lw_m6 104 rfl) rfl
theorem q1371 : (Jvm.Cond.methodLink "RoyalCourt$Parts" (15 : Nat) ({ cls := "java/lang/StringBuilder", name := "length", desc := "()I" } : Jvm.MethodName)) ∈ lw_all := lw_g (lw_at lw_m6 105 rfl) rfl
theorem q1372 : (Jvm.Cond.classLink "RoyalCourt$Parts" (21 : Nat) "[[I") ∈ lw_all := lw_g (lw_at lw_m6 106 rfl) rfl
theorem q1374 : (Jvm.Cond.methodLink "RoyalCourt$Parts" (29 : Nat) ({ cls := "RoyalCourt$Parts", name := "leastSingle", desc := "(II)I" } : Jvm.MethodName)) ∈ lw_all := lw_g (lw_at lw_m6 108 rfl) rfl
theorem q1375 : (Jvm.Cond.privateMethod ({ cls := "RoyalCourt$Parts", name := "leastSingle", desc := "(II)I" } : Jvm.MethodName)) ∈ lw_tbl := lw_at lw_m6 109 rfl
theorem q1376 : (Jvm.Cond.instanceMethod ({ cls := "RoyalCourt$Parts", name := "leastSingle", desc := "(II)I" } : Jvm.MethodName)) ∈ lw_all := lw_g (lw_at lw_m6 110 rfl) rfl
theorem q1377 : (Jvm.Cond.code ({ cls := "RoyalCourt$Parts", name := "leastSingle", desc := "(II)I" } : Jvm.MethodName) prog_4_method_2_code (5 : Nat) (Option.some Jvm.ClassFile.FieldType.int)) ∈ lw_all := lw_g (lw_at lw_m6 111 rfl) rfl
theorem q1378 : (Jvm.Cond.methodLink "RoyalCourt$Parts" (36 : Nat) ({ cls := "java/lang/StringBuilder", name := "charAt", desc := "(I)C" } : Jvm.MethodName)) ∈ lw_all := lw_g (lw_at lw_m6 112 rfl) rfl
theorem q1379 : (Jvm.Cond.methodLinkNest "RoyalCourt$Parts" (40 : Nat) ({ cls := "RoyalCourt", name := "isDigit", desc := "(I)Z" } : Jvm.MethodName) "RoyalCourt") ∈ lw_tbl := lw_at lw_m6 113 rfl
theorem q1380 : (Jvm.Cond.constant "RoyalCourt$Parts" (44 : Nat) (999999 : Int32)) ∈ lw_all := lw_g (lw_at lw_m6 114 rfl) rfl
theorem q1381 : (Jvm.Cond.methodLink "RoyalCourt$Parts" (45 : Nat) ({ cls := "java/lang/Math", name := "min", desc := "(II)I" } : Jvm.MethodName)) ∈ lw_all := lw_g (lw_at lw_m6 115 rfl) rfl
theorem q1382 : (Jvm.Cond.methodLink "RoyalCourt$Parts" (33 : Nat) ({ cls := "RoyalCourt$Parts", name := "leastSeveral", desc := "(II)I" } : Jvm.MethodName)) ∈ lw_all := lw_g (lw_at lw_m6 116 rfl) rfl
theorem q1383 : (Jvm.Cond.privateMethod ({ cls := "RoyalCourt$Parts", name := "leastSeveral", desc := "(II)I" } : Jvm.MethodName)) ∈ lw_tbl := lw_at lw_m6 117 rfl
theorem q1384 : (Jvm.Cond.instanceMethod ({ cls := "RoyalCourt$Parts", name := "leastSeveral", desc := "(II)I" } : Jvm.MethodName)) ∈ lw_all := lw_g (lw_at lw_m6 118 rfl) rfl
theorem q1385 : (Jvm.Cond.code ({ cls := "RoyalCourt$Parts", name := "leastSeveral", desc := "(II)I" } : Jvm.MethodName) prog_4_method_3_code (5 : Nat) (Option.some Jvm.ClassFile.FieldType.int)) ∈ lw_all := lw_g (lw_at lw_m6 119 rfl) rfl
theorem q1386 : (Jvm.Cond.fieldLink "RoyalCourt$Parts" (9 : Nat) "RoyalCourt$Parts" "text" "Ljava/lang/StringBuilder;") ∈ lw_all := lw_g (lw_at lw_m6 120 rfl) rfl
theorem q1387 : (Jvm.Cond.fieldLink "RoyalCourt$Parts" (23 : Nat) "RoyalCourt$Parts" "single" "[[I") ∈ lw_all := lw_g (lw_at lw_m6 121 rfl) rfl
theorem q1388 : (Jvm.Cond.fieldLink "RoyalCourt$Parts" (26 : Nat) "RoyalCourt$Parts" "several" "[[I") ∈ lw_all := lw_g (lw_at lw_m6 122 rfl) rfl
theorem q1389 : (Jvm.Cond.laysFinal "RoyalCourt$Parts" "RoyalCourt$Parts" "text" "Ljava/lang/StringBuilder;") ∈ lw_all := lw_g (lw_at lw_m6 123 rfl) rfl
theorem q1390 : (Jvm.Cond.soleField "RoyalCourt$Parts" "text") ∈ lw_all := lw_g (lw_at lw_m6 124 rfl) rfl
theorem q1391 : (Jvm.Cond.laysFinal "RoyalCourt$Parts" "RoyalCourt$Parts" "single" "[[I") ∈ lw_all := lw_g (lw_at lw_m6 125 rfl) rfl
theorem q1392 : (Jvm.Cond.soleField "RoyalCourt$Parts" "single") ∈ lw_all := lw_g (lw_at lw_m6 126 rfl) rfl
theorem q1393 : (Jvm.Cond.laysFinal "RoyalCourt$Parts" "RoyalCourt$Parts" "several" "[[I") ∈ lw_all := lw_g (lw_at lw_m6 127 rfl) rfl
theorem q1394 : (Jvm.Cond.soleField "RoyalCourt$Parts" "several") ∈ lw_all := lw_g (lw_at lw_m6 128 rfl) rfl
theorem q1395 : (Jvm.Cond.superclass "RoyalCourt$Parts" "java/lang/Object") ∈ lw_all := lw_g (lw_at lw_m6 129 rfl) rfl
theorem q1397 : (Jvm.Cond.instanceMethod ({ cls := "RoyalCourt$Parts", name := "removals", desc := "()I" } : Jvm.MethodName)) ∈ lw_all := lw_g (lw_at lw_m6 131 rfl) rfl
theorem q1398 : (Jvm.Cond.selects "RoyalCourt$Parts" ({ cls := "RoyalCourt$Parts", name := "removals", desc := "()I" } : Jvm.MethodName) ({ cls := "RoyalCourt$Parts", name := "removals", desc := "()I" } : Jvm.MethodName)) ∈ lw_all := lw_g (lw_at lw_m6 132 rfl) rfl
theorem q1399 : (Jvm.Cond.code ({ cls := "RoyalCourt$Parts", name := "removals", desc := "()I" } : Jvm.MethodName) prog_4_method_4_code (1 : Nat) (Option.some Jvm.ClassFile.FieldType.int)) ∈ lw_all := lw_g (lw_at lw_m6 133 rfl) rfl
theorem q2205 : (Jvm.Cond.castable "RoyalCourt$Parts" "java/lang/Object") ∈ lw_tbl := lw_at lw_m9 219 rfl
theorem in_X7 : ∀ w ∈ wsX70, w ∈ lw_all := lw_in wsX70 [1389, 1391, 1393] (by decide +kernel) (by decide +kernel)
/-! RoyalCourt$Request -/
set_option maxRecDepth 100000
def RX8 : String := "RoyalCourt$Request"
def TX8 : u_T := fun k => match k with
  | 0 => ("RoyalCourt$Request", "courtier", "I", true)
  | 1 => ("RoyalCourt$Request", "symbols", "[C", true)
  | 2 => ("RoyalCourt$Request", "value", "I", true)
  | _ => ("RoyalCourt$Request", "depth", "I", true)
def tyX8 : Nat → FieldType := fun k => match k with
  | 0 => .int
  | 1 => .array .char
  | 2 => .int
  | _ => .int
abbrev wsX80 : List Cond := u_ws RX8 TX8 4
theorem nmX8 : ∀ a, a < 4 → ∀ b, b < 4 → a ≠ b → (TX8 a).2.1 ≠ (TX8 b).2.1 := by decide +kernel
theorem tyX8_ok : ∀ k, k < 4 → parseFieldDescriptor (TX8 k).2.2.1 = some (tyX8 k) := by decide +kernel
abbrev cX8_readsAlike : ByteArray := prog_6_method_7_code
def yX8_readsAlike : MethodName := ⟨RX8, "readsAlike", "()Z"⟩
def dkwX8_readsAlike_2 : List UInt8 := [167, 0, 4, 3, 172]
abbrev dktX8_readsAlike_2 : List UInt8 := dkwX8_readsAlike_2 ++ []
def dkwX8_readsAlike_1 : List UInt8 := [182, 0, 58, 42, 180, 0, 33, 160, 0, 18, 44, 180, 0, 1, 42, 180, 0, 36, 160, 0, 7, 4]
abbrev dktX8_readsAlike_1 : List UInt8 := dkwX8_readsAlike_1 ++ dktX8_readsAlike_2
def dkwX8_readsAlike_0 : List UInt8 := [187, 0, 38, 89, 183, 0, 51, 76, 42, 43, 182, 0, 52, 187, 0, 2, 89, 43, 183, 0, 56, 77, 44]
abbrev dktX8_readsAlike_0 : List UInt8 := dkwX8_readsAlike_0 ++ dktX8_readsAlike_1
theorem dksX8_readsAlike_0 : cX8_readsAlike.data.toList.drop 0 = dktX8_readsAlike_0 := by decide +kernel
theorem dksX8_readsAlike_1 : cX8_readsAlike.data.toList.drop 23 = dktX8_readsAlike_1 := dk_seg dksX8_readsAlike_0 23 rfl rfl
theorem dksX8_readsAlike_2 : cX8_readsAlike.data.toList.drop 45 = dktX8_readsAlike_2 := dk_seg dksX8_readsAlike_1 22 rfl rfl
theorem dX8_readsAlike_0 : decode cX8_readsAlike 0 = .ok (.new 38, 3) := dk_187 0 38 (dk_at dksX8_readsAlike_0 0 rfl rfl)
theorem dX8_readsAlike_3 : decode cX8_readsAlike 3 = .ok (.dup, 1) := dk_89 (dk_at dksX8_readsAlike_0 3 rfl rfl)
theorem dX8_readsAlike_4 : decode cX8_readsAlike 4 = .ok (.invokespecial 51, 3) := dk_183 0 51 (dk_at dksX8_readsAlike_0 4 rfl rfl)
theorem dX8_readsAlike_7 : decode cX8_readsAlike 7 = .ok (.astore_n 1, 1) := dk_76 (dk_at dksX8_readsAlike_0 7 rfl rfl)
theorem dX8_readsAlike_8 : decode cX8_readsAlike 8 = .ok (.aload_n 0, 1) := dk_42 (dk_at dksX8_readsAlike_0 8 rfl rfl)
theorem dX8_readsAlike_9 : decode cX8_readsAlike 9 = .ok (.aload_n 1, 1) := dk_43 (dk_at dksX8_readsAlike_0 9 rfl rfl)
theorem dX8_readsAlike_10 : decode cX8_readsAlike 10 = .ok (.invokevirtual 52, 3) := dk_182 0 52 (dk_at dksX8_readsAlike_0 10 rfl rfl)
theorem dX8_readsAlike_13 : decode cX8_readsAlike 13 = .ok (.new 2, 3) := dk_187 0 2 (dk_at dksX8_readsAlike_0 13 rfl rfl)
theorem dX8_readsAlike_16 : decode cX8_readsAlike 16 = .ok (.dup, 1) := dk_89 (dk_at dksX8_readsAlike_0 16 rfl rfl)
theorem dX8_readsAlike_17 : decode cX8_readsAlike 17 = .ok (.aload_n 1, 1) := dk_43 (dk_at dksX8_readsAlike_0 17 rfl rfl)
theorem dX8_readsAlike_18 : decode cX8_readsAlike 18 = .ok (.invokespecial 56, 3) := dk_183 0 56 (dk_at dksX8_readsAlike_0 18 rfl rfl)
theorem dX8_readsAlike_21 : decode cX8_readsAlike 21 = .ok (.astore_n 2, 1) := dk_77 (dk_at dksX8_readsAlike_0 21 rfl rfl)
theorem dX8_readsAlike_22 : decode cX8_readsAlike 22 = .ok (.aload_n 2, 1) := dk_44 (dk_at dksX8_readsAlike_0 22 rfl rfl)
theorem dX8_readsAlike_23 : decode cX8_readsAlike 23 = .ok (.invokevirtual 58, 3) := dk_182 0 58 (dk_at dksX8_readsAlike_1 0 rfl rfl)
theorem dX8_readsAlike_26 : decode cX8_readsAlike 26 = .ok (.aload_n 0, 1) := dk_42 (dk_at dksX8_readsAlike_1 3 rfl rfl)
theorem dX8_readsAlike_27 : decode cX8_readsAlike 27 = .ok (.getfield 33, 3) := dk_180 0 33 (dk_at dksX8_readsAlike_1 4 rfl rfl)
theorem dX8_readsAlike_30 : decode cX8_readsAlike 30 = .ok (.if_icmp .ne 18, 3) := dk_160 0 18 (dk_at dksX8_readsAlike_1 7 rfl rfl)
theorem dX8_readsAlike_33 : decode cX8_readsAlike 33 = .ok (.aload_n 2, 1) := dk_44 (dk_at dksX8_readsAlike_1 10 rfl rfl)
theorem dX8_readsAlike_34 : decode cX8_readsAlike 34 = .ok (.getfield 1, 3) := dk_180 0 1 (dk_at dksX8_readsAlike_1 11 rfl rfl)
theorem dX8_readsAlike_37 : decode cX8_readsAlike 37 = .ok (.aload_n 0, 1) := dk_42 (dk_at dksX8_readsAlike_1 14 rfl rfl)
theorem dX8_readsAlike_38 : decode cX8_readsAlike 38 = .ok (.getfield 36, 3) := dk_180 0 36 (dk_at dksX8_readsAlike_1 15 rfl rfl)
theorem dX8_readsAlike_41 : decode cX8_readsAlike 41 = .ok (.if_icmp .ne 7, 3) := dk_160 0 7 (dk_at dksX8_readsAlike_1 18 rfl rfl)
theorem dX8_readsAlike_44 : decode cX8_readsAlike 44 = .ok (.iconst 1, 1) := dk_4 (dk_at dksX8_readsAlike_1 21 rfl rfl)
theorem dX8_readsAlike_45 : decode cX8_readsAlike 45 = .ok (.goto 4, 3) := dk_167 0 4 (dk_at dksX8_readsAlike_2 0 rfl rfl)
theorem dX8_readsAlike_48 : decode cX8_readsAlike 48 = .ok (.iconst 0, 1) := dk_3 (dk_at dksX8_readsAlike_2 3 rfl rfl)
theorem dX8_readsAlike_49 : decode cX8_readsAlike 49 = .ok (.ireturn, 1) := dk_172 (dk_at dksX8_readsAlike_2 4 rfl rfl)
abbrev cX8_writeTo : ByteArray := prog_6_method_6_code
def yX8_writeTo : MethodName := ⟨RX8, "writeTo", "(Ljava/lang/StringBuilder;)V"⟩
def dkwX8_writeTo_1 : List UInt8 := [21, 5, 182, 0, 47, 87, 132, 4, 1, 167, 255, 234, 177]
abbrev dktX8_writeTo_1 : List UInt8 := dkwX8_writeTo_1 ++ []
def dkwX8_writeTo_0 : List UInt8 := [42, 180, 0, 29, 77, 44, 190, 62, 3, 54, 4, 21, 4, 29, 162, 0, 22, 44, 21, 4, 52, 54, 5, 43]
abbrev dktX8_writeTo_0 : List UInt8 := dkwX8_writeTo_0 ++ dktX8_writeTo_1
theorem dksX8_writeTo_0 : cX8_writeTo.data.toList.drop 0 = dktX8_writeTo_0 := by decide +kernel
theorem dksX8_writeTo_1 : cX8_writeTo.data.toList.drop 24 = dktX8_writeTo_1 := dk_seg dksX8_writeTo_0 24 rfl rfl
theorem dX8_writeTo_0 : decode cX8_writeTo 0 = .ok (.aload_n 0, 1) := dk_42 (dk_at dksX8_writeTo_0 0 rfl rfl)
theorem dX8_writeTo_1 : decode cX8_writeTo 1 = .ok (.getfield 29, 3) := dk_180 0 29 (dk_at dksX8_writeTo_0 1 rfl rfl)
theorem dX8_writeTo_4 : decode cX8_writeTo 4 = .ok (.astore_n 2, 1) := dk_77 (dk_at dksX8_writeTo_0 4 rfl rfl)
theorem dX8_writeTo_5 : decode cX8_writeTo 5 = .ok (.aload_n 2, 1) := dk_44 (dk_at dksX8_writeTo_0 5 rfl rfl)
theorem dX8_writeTo_6 : decode cX8_writeTo 6 = .ok (.arraylength, 1) := dk_190 (dk_at dksX8_writeTo_0 6 rfl rfl)
theorem dX8_writeTo_7 : decode cX8_writeTo 7 = .ok (.istore_n 3, 1) := dk_62 (dk_at dksX8_writeTo_0 7 rfl rfl)
theorem dX8_writeTo_8 : decode cX8_writeTo 8 = .ok (.iconst 0, 1) := dk_3 (dk_at dksX8_writeTo_0 8 rfl rfl)
theorem dX8_writeTo_9 : decode cX8_writeTo 9 = .ok (.istore 4, 2) := dk_54 4 (dk_at dksX8_writeTo_0 9 rfl rfl)
theorem dX8_writeTo_11 : decode cX8_writeTo 11 = .ok (.iload 4, 2) := dk_21 4 (dk_at dksX8_writeTo_0 11 rfl rfl)
theorem dX8_writeTo_13 : decode cX8_writeTo 13 = .ok (.iload_n 3, 1) := dk_29 (dk_at dksX8_writeTo_0 13 rfl rfl)
theorem dX8_writeTo_14 : decode cX8_writeTo 14 = .ok (.if_icmp .ge 22, 3) := dk_162 0 22 (dk_at dksX8_writeTo_0 14 rfl rfl)
theorem dX8_writeTo_17 : decode cX8_writeTo 17 = .ok (.aload_n 2, 1) := dk_44 (dk_at dksX8_writeTo_0 17 rfl rfl)
theorem dX8_writeTo_18 : decode cX8_writeTo 18 = .ok (.iload 4, 2) := dk_21 4 (dk_at dksX8_writeTo_0 18 rfl rfl)
theorem dX8_writeTo_20 : decode cX8_writeTo 20 = .ok (.caload, 1) := dk_52 (dk_at dksX8_writeTo_0 20 rfl rfl)
theorem dX8_writeTo_21 : decode cX8_writeTo 21 = .ok (.istore 5, 2) := dk_54 5 (dk_at dksX8_writeTo_0 21 rfl rfl)
theorem dX8_writeTo_23 : decode cX8_writeTo 23 = .ok (.aload_n 1, 1) := dk_43 (dk_at dksX8_writeTo_0 23 rfl rfl)
theorem dX8_writeTo_24 : decode cX8_writeTo 24 = .ok (.iload 5, 2) := dk_21 5 (dk_at dksX8_writeTo_1 0 rfl rfl)
theorem dX8_writeTo_26 : decode cX8_writeTo 26 = .ok (.invokevirtual 47, 3) := dk_182 0 47 (dk_at dksX8_writeTo_1 2 rfl rfl)
theorem dX8_writeTo_29 : decode cX8_writeTo 29 = .ok (.pop, 1) := dk_87 (dk_at dksX8_writeTo_1 5 rfl rfl)
theorem dX8_writeTo_30 : decode cX8_writeTo 30 = .ok (.iinc 4 1, 3) := dk_132 4 1 (dk_at dksX8_writeTo_1 6 rfl rfl)
theorem dX8_writeTo_33 : decode cX8_writeTo 33 = .ok (.goto (-22), 3) := dk_167 255 234 (dk_at dksX8_writeTo_1 9 rfl rfl)
theorem dX8_writeTo_36 : decode cX8_writeTo 36 = .ok (.return_, 1) := dk_177 (dk_at dksX8_writeTo_1 12 rfl rfl)
abbrev cX8_init : ByteArray := prog_6_method_1_code
def yX8_init : MethodName := ⟨RX8, "<init>", "(ILRoyalCourt$Reader;I)V"⟩
def dkwX8_init_0 : List UInt8 := [42, 27, 29, 44, 180, 0, 1, 44, 180, 0, 7, 184, 0, 11, 183, 0, 17, 177]
abbrev dktX8_init_0 : List UInt8 := dkwX8_init_0 ++ []
theorem dksX8_init_0 : cX8_init.data.toList.drop 0 = dktX8_init_0 := by decide +kernel
theorem dX8_init_0 : decode cX8_init 0 = .ok (.aload_n 0, 1) := dk_42 (dk_at dksX8_init_0 0 rfl rfl)
theorem dX8_init_1 : decode cX8_init 1 = .ok (.iload_n 1, 1) := dk_27 (dk_at dksX8_init_0 1 rfl rfl)
theorem dX8_init_2 : decode cX8_init 2 = .ok (.iload_n 3, 1) := dk_29 (dk_at dksX8_init_0 2 rfl rfl)
theorem dX8_init_3 : decode cX8_init 3 = .ok (.aload_n 2, 1) := dk_44 (dk_at dksX8_init_0 3 rfl rfl)
theorem dX8_init_4 : decode cX8_init 4 = .ok (.getfield 1, 3) := dk_180 0 1 (dk_at dksX8_init_0 4 rfl rfl)
theorem dX8_init_7 : decode cX8_init 7 = .ok (.aload_n 2, 1) := dk_44 (dk_at dksX8_init_0 7 rfl rfl)
theorem dX8_init_8 : decode cX8_init 8 = .ok (.getfield 7, 3) := dk_180 0 7 (dk_at dksX8_init_0 8 rfl rfl)
theorem dX8_init_11 : decode cX8_init 11 = .ok (.invokestatic 11, 3) := dk_184 0 11 (dk_at dksX8_init_0 11 rfl rfl)
theorem dX8_init_14 : decode cX8_init 14 = .ok (.invokespecial 17, 3) := dk_183 0 17 (dk_at dksX8_init_0 14 rfl rfl)
theorem dX8_init_17 : decode cX8_init 17 = .ok (.return_, 1) := dk_177 (dk_at dksX8_init_0 17 rfl rfl)
abbrev cX8_symbolsOf : ByteArray := prog_6_method_3_code
def yX8_symbolsOf : MethodName := ⟨RX8, "symbolsOf", "(Ljava/lang/StringBuilder;)[C"⟩
def dkwX8_symbolsOf_1 : List UInt8 := [132, 2, 1, 167, 255, 239, 43, 176]
abbrev dktX8_symbolsOf_1 : List UInt8 := dkwX8_symbolsOf_1 ++ []
def dkwX8_symbolsOf_0 : List UInt8 := [42, 182, 0, 37, 188, 5, 76, 3, 61, 28, 43, 190, 162, 0, 17, 43, 28, 42, 28, 182, 0, 43, 85]
abbrev dktX8_symbolsOf_0 : List UInt8 := dkwX8_symbolsOf_0 ++ dktX8_symbolsOf_1
theorem dksX8_symbolsOf_0 : cX8_symbolsOf.data.toList.drop 0 = dktX8_symbolsOf_0 := by decide +kernel
theorem dksX8_symbolsOf_1 : cX8_symbolsOf.data.toList.drop 23 = dktX8_symbolsOf_1 := dk_seg dksX8_symbolsOf_0 23 rfl rfl
theorem dX8_symbolsOf_0 : decode cX8_symbolsOf 0 = .ok (.aload_n 0, 1) := dk_42 (dk_at dksX8_symbolsOf_0 0 rfl rfl)
theorem dX8_symbolsOf_1 : decode cX8_symbolsOf 1 = .ok (.invokevirtual 37, 3) := dk_182 0 37 (dk_at dksX8_symbolsOf_0 1 rfl rfl)
theorem dX8_symbolsOf_4 : decode cX8_symbolsOf 4 = .ok (.newarray .char, 2) := dk_188_5 (dk_at dksX8_symbolsOf_0 4 rfl rfl)
theorem dX8_symbolsOf_6 : decode cX8_symbolsOf 6 = .ok (.astore_n 1, 1) := dk_76 (dk_at dksX8_symbolsOf_0 6 rfl rfl)
theorem dX8_symbolsOf_7 : decode cX8_symbolsOf 7 = .ok (.iconst 0, 1) := dk_3 (dk_at dksX8_symbolsOf_0 7 rfl rfl)
theorem dX8_symbolsOf_8 : decode cX8_symbolsOf 8 = .ok (.istore_n 2, 1) := dk_61 (dk_at dksX8_symbolsOf_0 8 rfl rfl)
theorem dX8_symbolsOf_9 : decode cX8_symbolsOf 9 = .ok (.iload_n 2, 1) := dk_28 (dk_at dksX8_symbolsOf_0 9 rfl rfl)
theorem dX8_symbolsOf_10 : decode cX8_symbolsOf 10 = .ok (.aload_n 1, 1) := dk_43 (dk_at dksX8_symbolsOf_0 10 rfl rfl)
theorem dX8_symbolsOf_11 : decode cX8_symbolsOf 11 = .ok (.arraylength, 1) := dk_190 (dk_at dksX8_symbolsOf_0 11 rfl rfl)
theorem dX8_symbolsOf_12 : decode cX8_symbolsOf 12 = .ok (.if_icmp .ge 17, 3) := dk_162 0 17 (dk_at dksX8_symbolsOf_0 12 rfl rfl)
theorem dX8_symbolsOf_15 : decode cX8_symbolsOf 15 = .ok (.aload_n 1, 1) := dk_43 (dk_at dksX8_symbolsOf_0 15 rfl rfl)
theorem dX8_symbolsOf_16 : decode cX8_symbolsOf 16 = .ok (.iload_n 2, 1) := dk_28 (dk_at dksX8_symbolsOf_0 16 rfl rfl)
theorem dX8_symbolsOf_17 : decode cX8_symbolsOf 17 = .ok (.aload_n 0, 1) := dk_42 (dk_at dksX8_symbolsOf_0 17 rfl rfl)
theorem dX8_symbolsOf_18 : decode cX8_symbolsOf 18 = .ok (.iload_n 2, 1) := dk_28 (dk_at dksX8_symbolsOf_0 18 rfl rfl)
theorem dX8_symbolsOf_19 : decode cX8_symbolsOf 19 = .ok (.invokevirtual 43, 3) := dk_182 0 43 (dk_at dksX8_symbolsOf_0 19 rfl rfl)
theorem dX8_symbolsOf_22 : decode cX8_symbolsOf 22 = .ok (.castore, 1) := dk_85 (dk_at dksX8_symbolsOf_0 22 rfl rfl)
theorem dX8_symbolsOf_23 : decode cX8_symbolsOf 23 = .ok (.iinc 2 1, 3) := dk_132 2 1 (dk_at dksX8_symbolsOf_1 0 rfl rfl)
theorem dX8_symbolsOf_26 : decode cX8_symbolsOf 26 = .ok (.goto (-17), 3) := dk_167 255 239 (dk_at dksX8_symbolsOf_1 3 rfl rfl)
theorem dX8_symbolsOf_29 : decode cX8_symbolsOf 29 = .ok (.aload_n 1, 1) := dk_43 (dk_at dksX8_symbolsOf_1 6 rfl rfl)
theorem dX8_symbolsOf_30 : decode cX8_symbolsOf 30 = .ok (.areturn, 1) := dk_176 (dk_at dksX8_symbolsOf_1 7 rfl rfl)
abbrev cX8_init_2 : ByteArray := prog_6_method_2_code
def yX8_init_2 : MethodName := ⟨RX8, "<init>", "(III[C)V"⟩
def dkwX8_init_2_1 : List UInt8 := [181, 0, 36, 177]
abbrev dktX8_init_2_1 : List UInt8 := dkwX8_init_2_1 ++ []
def dkwX8_init_2_0 : List UInt8 := [42, 183, 0, 21, 42, 27, 181, 0, 26, 42, 25, 4, 181, 0, 29, 42, 28, 181, 0, 33, 42, 29]
abbrev dktX8_init_2_0 : List UInt8 := dkwX8_init_2_0 ++ dktX8_init_2_1
theorem dksX8_init_2_0 : cX8_init_2.data.toList.drop 0 = dktX8_init_2_0 := by decide +kernel
theorem dksX8_init_2_1 : cX8_init_2.data.toList.drop 22 = dktX8_init_2_1 := dk_seg dksX8_init_2_0 22 rfl rfl
theorem dX8_init_2_0 : decode cX8_init_2 0 = .ok (.aload_n 0, 1) := dk_42 (dk_at dksX8_init_2_0 0 rfl rfl)
theorem dX8_init_2_1 : decode cX8_init_2 1 = .ok (.invokespecial 21, 3) := dk_183 0 21 (dk_at dksX8_init_2_0 1 rfl rfl)
theorem dX8_init_2_4 : decode cX8_init_2 4 = .ok (.aload_n 0, 1) := dk_42 (dk_at dksX8_init_2_0 4 rfl rfl)
theorem dX8_init_2_5 : decode cX8_init_2 5 = .ok (.iload_n 1, 1) := dk_27 (dk_at dksX8_init_2_0 5 rfl rfl)
theorem dX8_init_2_6 : decode cX8_init_2 6 = .ok (.putfield 26, 3) := dk_181 0 26 (dk_at dksX8_init_2_0 6 rfl rfl)
theorem dX8_init_2_9 : decode cX8_init_2 9 = .ok (.aload_n 0, 1) := dk_42 (dk_at dksX8_init_2_0 9 rfl rfl)
theorem dX8_init_2_10 : decode cX8_init_2 10 = .ok (.aload 4, 2) := dk_25 4 (dk_at dksX8_init_2_0 10 rfl rfl)
theorem dX8_init_2_12 : decode cX8_init_2 12 = .ok (.putfield 29, 3) := dk_181 0 29 (dk_at dksX8_init_2_0 12 rfl rfl)
theorem dX8_init_2_15 : decode cX8_init_2 15 = .ok (.aload_n 0, 1) := dk_42 (dk_at dksX8_init_2_0 15 rfl rfl)
theorem dX8_init_2_16 : decode cX8_init_2 16 = .ok (.iload_n 2, 1) := dk_28 (dk_at dksX8_init_2_0 16 rfl rfl)
theorem dX8_init_2_17 : decode cX8_init_2 17 = .ok (.putfield 33, 3) := dk_181 0 33 (dk_at dksX8_init_2_0 17 rfl rfl)
theorem dX8_init_2_20 : decode cX8_init_2 20 = .ok (.aload_n 0, 1) := dk_42 (dk_at dksX8_init_2_0 20 rfl rfl)
theorem dX8_init_2_21 : decode cX8_init_2 21 = .ok (.iload_n 3, 1) := dk_29 (dk_at dksX8_init_2_0 21 rfl rfl)
theorem dX8_init_2_22 : decode cX8_init_2 22 = .ok (.putfield 36, 3) := dk_181 0 36 (dk_at dksX8_init_2_1 0 rfl rfl)
theorem dX8_init_2_25 : decode cX8_init_2 25 = .ok (.return_, 1) := dk_177 (dk_at dksX8_init_2_1 3 rfl rfl)
abbrev cX8_count : ByteArray := prog_6_method_4_code
def yX8_count : MethodName := ⟨RX8, "count", "(C)I"⟩
def dkwX8_count_2 : List UInt8 := [172]
abbrev dktX8_count_2 : List UInt8 := dkwX8_count_2 ++ []
def dkwX8_count_1 : List UInt8 := [52, 54, 6, 28, 21, 6, 27, 160, 0, 7, 4, 167, 0, 4, 3, 96, 61, 132, 5, 1, 167, 255, 226, 28]
abbrev dktX8_count_1 : List UInt8 := dkwX8_count_1 ++ dktX8_count_2
def dkwX8_count_0 : List UInt8 := [3, 61, 42, 180, 0, 29, 78, 45, 190, 54, 4, 3, 54, 5, 21, 5, 21, 4, 162, 0, 29, 45, 21, 5]
abbrev dktX8_count_0 : List UInt8 := dkwX8_count_0 ++ dktX8_count_1
theorem dksX8_count_0 : cX8_count.data.toList.drop 0 = dktX8_count_0 := by decide +kernel
theorem dksX8_count_1 : cX8_count.data.toList.drop 24 = dktX8_count_1 := dk_seg dksX8_count_0 24 rfl rfl
theorem dksX8_count_2 : cX8_count.data.toList.drop 48 = dktX8_count_2 := dk_seg dksX8_count_1 24 rfl rfl
theorem dX8_count_0 : decode cX8_count 0 = .ok (.iconst 0, 1) := dk_3 (dk_at dksX8_count_0 0 rfl rfl)
theorem dX8_count_1 : decode cX8_count 1 = .ok (.istore_n 2, 1) := dk_61 (dk_at dksX8_count_0 1 rfl rfl)
theorem dX8_count_2 : decode cX8_count 2 = .ok (.aload_n 0, 1) := dk_42 (dk_at dksX8_count_0 2 rfl rfl)
theorem dX8_count_3 : decode cX8_count 3 = .ok (.getfield 29, 3) := dk_180 0 29 (dk_at dksX8_count_0 3 rfl rfl)
theorem dX8_count_6 : decode cX8_count 6 = .ok (.astore_n 3, 1) := dk_78 (dk_at dksX8_count_0 6 rfl rfl)
theorem dX8_count_7 : decode cX8_count 7 = .ok (.aload_n 3, 1) := dk_45 (dk_at dksX8_count_0 7 rfl rfl)
theorem dX8_count_8 : decode cX8_count 8 = .ok (.arraylength, 1) := dk_190 (dk_at dksX8_count_0 8 rfl rfl)
theorem dX8_count_9 : decode cX8_count 9 = .ok (.istore 4, 2) := dk_54 4 (dk_at dksX8_count_0 9 rfl rfl)
theorem dX8_count_11 : decode cX8_count 11 = .ok (.iconst 0, 1) := dk_3 (dk_at dksX8_count_0 11 rfl rfl)
theorem dX8_count_12 : decode cX8_count 12 = .ok (.istore 5, 2) := dk_54 5 (dk_at dksX8_count_0 12 rfl rfl)
theorem dX8_count_14 : decode cX8_count 14 = .ok (.iload 5, 2) := dk_21 5 (dk_at dksX8_count_0 14 rfl rfl)
theorem dX8_count_16 : decode cX8_count 16 = .ok (.iload 4, 2) := dk_21 4 (dk_at dksX8_count_0 16 rfl rfl)
theorem dX8_count_18 : decode cX8_count 18 = .ok (.if_icmp .ge 29, 3) := dk_162 0 29 (dk_at dksX8_count_0 18 rfl rfl)
theorem dX8_count_21 : decode cX8_count 21 = .ok (.aload_n 3, 1) := dk_45 (dk_at dksX8_count_0 21 rfl rfl)
theorem dX8_count_22 : decode cX8_count 22 = .ok (.iload 5, 2) := dk_21 5 (dk_at dksX8_count_0 22 rfl rfl)
theorem dX8_count_24 : decode cX8_count 24 = .ok (.caload, 1) := dk_52 (dk_at dksX8_count_1 0 rfl rfl)
theorem dX8_count_25 : decode cX8_count 25 = .ok (.istore 6, 2) := dk_54 6 (dk_at dksX8_count_1 1 rfl rfl)
theorem dX8_count_27 : decode cX8_count 27 = .ok (.iload_n 2, 1) := dk_28 (dk_at dksX8_count_1 3 rfl rfl)
theorem dX8_count_28 : decode cX8_count 28 = .ok (.iload 6, 2) := dk_21 6 (dk_at dksX8_count_1 4 rfl rfl)
theorem dX8_count_30 : decode cX8_count 30 = .ok (.iload_n 1, 1) := dk_27 (dk_at dksX8_count_1 6 rfl rfl)
theorem dX8_count_31 : decode cX8_count 31 = .ok (.if_icmp .ne 7, 3) := dk_160 0 7 (dk_at dksX8_count_1 7 rfl rfl)
theorem dX8_count_34 : decode cX8_count 34 = .ok (.iconst 1, 1) := dk_4 (dk_at dksX8_count_1 10 rfl rfl)
theorem dX8_count_35 : decode cX8_count 35 = .ok (.goto 4, 3) := dk_167 0 4 (dk_at dksX8_count_1 11 rfl rfl)
theorem dX8_count_38 : decode cX8_count 38 = .ok (.iconst 0, 1) := dk_3 (dk_at dksX8_count_1 14 rfl rfl)
theorem dX8_count_39 : decode cX8_count 39 = .ok (.iadd, 1) := dk_96 (dk_at dksX8_count_1 15 rfl rfl)
theorem dX8_count_40 : decode cX8_count 40 = .ok (.istore_n 2, 1) := dk_61 (dk_at dksX8_count_1 16 rfl rfl)
theorem dX8_count_41 : decode cX8_count 41 = .ok (.iinc 5 1, 3) := dk_132 5 1 (dk_at dksX8_count_1 17 rfl rfl)
theorem dX8_count_44 : decode cX8_count 44 = .ok (.goto (-30), 3) := dk_167 255 226 (dk_at dksX8_count_1 20 rfl rfl)
theorem dX8_count_47 : decode cX8_count 47 = .ok (.iload_n 2, 1) := dk_28 (dk_at dksX8_count_1 23 rfl rfl)
theorem dX8_count_48 : decode cX8_count 48 = .ok (.ireturn, 1) := dk_172 (dk_at dksX8_count_2 0 rfl rfl)
abbrev cX8_isAlike : ByteArray := prog_6_method_5_code
def yX8_isAlike : MethodName := ⟨RX8, "isAlike", "(LRoyalCourt$Request;)Z"⟩
def dkwX8_isAlike_2 : List UInt8 := [160, 0, 7, 4, 167, 0, 4, 3, 61, 132, 3, 1, 167, 255, 219, 28, 172]
abbrev dktX8_isAlike_2 : List UInt8 := dkwX8_isAlike_2 ++ []
def dkwX8_isAlike_1 : List UInt8 := [180, 0, 29, 190, 162, 0, 34, 28, 153, 0, 30, 42, 180, 0, 29, 29, 52, 43, 180, 0, 29, 29, 52]
abbrev dktX8_isAlike_1 : List UInt8 := dkwX8_isAlike_1 ++ dktX8_isAlike_2
def dkwX8_isAlike_0 : List UInt8 := [42, 180, 0, 29, 190, 43, 180, 0, 29, 190, 160, 0, 7, 4, 167, 0, 4, 3, 61, 3, 62, 29, 42]
abbrev dktX8_isAlike_0 : List UInt8 := dkwX8_isAlike_0 ++ dktX8_isAlike_1
theorem dksX8_isAlike_0 : cX8_isAlike.data.toList.drop 0 = dktX8_isAlike_0 := by decide +kernel
theorem dksX8_isAlike_1 : cX8_isAlike.data.toList.drop 23 = dktX8_isAlike_1 := dk_seg dksX8_isAlike_0 23 rfl rfl
theorem dksX8_isAlike_2 : cX8_isAlike.data.toList.drop 46 = dktX8_isAlike_2 := dk_seg dksX8_isAlike_1 23 rfl rfl
theorem dX8_isAlike_0 : decode cX8_isAlike 0 = .ok (.aload_n 0, 1) := dk_42 (dk_at dksX8_isAlike_0 0 rfl rfl)
theorem dX8_isAlike_1 : decode cX8_isAlike 1 = .ok (.getfield 29, 3) := dk_180 0 29 (dk_at dksX8_isAlike_0 1 rfl rfl)
theorem dX8_isAlike_4 : decode cX8_isAlike 4 = .ok (.arraylength, 1) := dk_190 (dk_at dksX8_isAlike_0 4 rfl rfl)
theorem dX8_isAlike_5 : decode cX8_isAlike 5 = .ok (.aload_n 1, 1) := dk_43 (dk_at dksX8_isAlike_0 5 rfl rfl)
theorem dX8_isAlike_6 : decode cX8_isAlike 6 = .ok (.getfield 29, 3) := dk_180 0 29 (dk_at dksX8_isAlike_0 6 rfl rfl)
theorem dX8_isAlike_9 : decode cX8_isAlike 9 = .ok (.arraylength, 1) := dk_190 (dk_at dksX8_isAlike_0 9 rfl rfl)
theorem dX8_isAlike_10 : decode cX8_isAlike 10 = .ok (.if_icmp .ne 7, 3) := dk_160 0 7 (dk_at dksX8_isAlike_0 10 rfl rfl)
theorem dX8_isAlike_13 : decode cX8_isAlike 13 = .ok (.iconst 1, 1) := dk_4 (dk_at dksX8_isAlike_0 13 rfl rfl)
theorem dX8_isAlike_14 : decode cX8_isAlike 14 = .ok (.goto 4, 3) := dk_167 0 4 (dk_at dksX8_isAlike_0 14 rfl rfl)
theorem dX8_isAlike_17 : decode cX8_isAlike 17 = .ok (.iconst 0, 1) := dk_3 (dk_at dksX8_isAlike_0 17 rfl rfl)
theorem dX8_isAlike_18 : decode cX8_isAlike 18 = .ok (.istore_n 2, 1) := dk_61 (dk_at dksX8_isAlike_0 18 rfl rfl)
theorem dX8_isAlike_19 : decode cX8_isAlike 19 = .ok (.iconst 0, 1) := dk_3 (dk_at dksX8_isAlike_0 19 rfl rfl)
theorem dX8_isAlike_20 : decode cX8_isAlike 20 = .ok (.istore_n 3, 1) := dk_62 (dk_at dksX8_isAlike_0 20 rfl rfl)
theorem dX8_isAlike_21 : decode cX8_isAlike 21 = .ok (.iload_n 3, 1) := dk_29 (dk_at dksX8_isAlike_0 21 rfl rfl)
theorem dX8_isAlike_22 : decode cX8_isAlike 22 = .ok (.aload_n 0, 1) := dk_42 (dk_at dksX8_isAlike_0 22 rfl rfl)
theorem dX8_isAlike_23 : decode cX8_isAlike 23 = .ok (.getfield 29, 3) := dk_180 0 29 (dk_at dksX8_isAlike_1 0 rfl rfl)
theorem dX8_isAlike_26 : decode cX8_isAlike 26 = .ok (.arraylength, 1) := dk_190 (dk_at dksX8_isAlike_1 3 rfl rfl)
theorem dX8_isAlike_27 : decode cX8_isAlike 27 = .ok (.if_icmp .ge 34, 3) := dk_162 0 34 (dk_at dksX8_isAlike_1 4 rfl rfl)
theorem dX8_isAlike_30 : decode cX8_isAlike 30 = .ok (.iload_n 2, 1) := dk_28 (dk_at dksX8_isAlike_1 7 rfl rfl)
theorem dX8_isAlike_31 : decode cX8_isAlike 31 = .ok (.ifCond .eq 30, 3) := dk_153 0 30 (dk_at dksX8_isAlike_1 8 rfl rfl)
theorem dX8_isAlike_34 : decode cX8_isAlike 34 = .ok (.aload_n 0, 1) := dk_42 (dk_at dksX8_isAlike_1 11 rfl rfl)
theorem dX8_isAlike_35 : decode cX8_isAlike 35 = .ok (.getfield 29, 3) := dk_180 0 29 (dk_at dksX8_isAlike_1 12 rfl rfl)
theorem dX8_isAlike_38 : decode cX8_isAlike 38 = .ok (.iload_n 3, 1) := dk_29 (dk_at dksX8_isAlike_1 15 rfl rfl)
theorem dX8_isAlike_39 : decode cX8_isAlike 39 = .ok (.caload, 1) := dk_52 (dk_at dksX8_isAlike_1 16 rfl rfl)
theorem dX8_isAlike_40 : decode cX8_isAlike 40 = .ok (.aload_n 1, 1) := dk_43 (dk_at dksX8_isAlike_1 17 rfl rfl)
theorem dX8_isAlike_41 : decode cX8_isAlike 41 = .ok (.getfield 29, 3) := dk_180 0 29 (dk_at dksX8_isAlike_1 18 rfl rfl)
theorem dX8_isAlike_44 : decode cX8_isAlike 44 = .ok (.iload_n 3, 1) := dk_29 (dk_at dksX8_isAlike_1 21 rfl rfl)
theorem dX8_isAlike_45 : decode cX8_isAlike 45 = .ok (.caload, 1) := dk_52 (dk_at dksX8_isAlike_1 22 rfl rfl)
theorem dX8_isAlike_46 : decode cX8_isAlike 46 = .ok (.if_icmp .ne 7, 3) := dk_160 0 7 (dk_at dksX8_isAlike_2 0 rfl rfl)
theorem dX8_isAlike_49 : decode cX8_isAlike 49 = .ok (.iconst 1, 1) := dk_4 (dk_at dksX8_isAlike_2 3 rfl rfl)
theorem dX8_isAlike_50 : decode cX8_isAlike 50 = .ok (.goto 4, 3) := dk_167 0 4 (dk_at dksX8_isAlike_2 4 rfl rfl)
theorem dX8_isAlike_53 : decode cX8_isAlike 53 = .ok (.iconst 0, 1) := dk_3 (dk_at dksX8_isAlike_2 7 rfl rfl)
theorem dX8_isAlike_54 : decode cX8_isAlike 54 = .ok (.istore_n 2, 1) := dk_61 (dk_at dksX8_isAlike_2 8 rfl rfl)
theorem dX8_isAlike_55 : decode cX8_isAlike 55 = .ok (.iinc 3 1, 3) := dk_132 3 1 (dk_at dksX8_isAlike_2 9 rfl rfl)
theorem dX8_isAlike_58 : decode cX8_isAlike 58 = .ok (.goto (-37), 3) := dk_167 255 219 (dk_at dksX8_isAlike_2 12 rfl rfl)
theorem dX8_isAlike_61 : decode cX8_isAlike 61 = .ok (.iload_n 2, 1) := dk_28 (dk_at dksX8_isAlike_2 15 rfl rfl)
theorem dX8_isAlike_62 : decode cX8_isAlike 62 = .ok (.ireturn, 1) := dk_172 (dk_at dksX8_isAlike_2 16 rfl rfl)
theorem q100 : (Jvm.Cond.initialized "RoyalCourt$Request") ∈ lw_all := lw_g (lw_at lw_m1 34 rfl) rfl
theorem q344 : (Jvm.Cond.selects "RoyalCourt$Request" ({ cls := "java/lang/Object", name := "getClass", desc := "()Ljava/lang/Class;" } : Jvm.MethodName) ({ cls := "java/lang/Object", name := "getClass", desc := "()Ljava/lang/Class;" } : Jvm.MethodName)) ∈ lw_all := lw_g (lw_at lw_m2 38 rfl) rfl
theorem q751 : (Jvm.Cond.fieldLinkNest "RoyalCourt$Request" (1 : Nat) "RoyalCourt$Reader" "depth" "I" "RoyalCourt") ∈ lw_tbl := lw_at lw_m3 205 rfl
theorem q755 : (Jvm.Cond.fieldLinkNest "RoyalCourt$Request" (7 : Nat) "RoyalCourt$Reader" "polite" "Ljava/lang/StringBuilder;" "RoyalCourt") ∈ lw_tbl := lw_at lw_m3 209 rfl
theorem q1013 : (Jvm.Cond.instanceMethod ({ cls := "RoyalCourt$Request", name := "readsAlike", desc := "()Z" } : Jvm.MethodName)) ∈ lw_all := lw_g (lw_at lw_m4 227 rfl) rfl
theorem q1014 : (Jvm.Cond.selects "RoyalCourt$Request" ({ cls := "RoyalCourt$Request", name := "readsAlike", desc := "()Z" } : Jvm.MethodName) ({ cls := "RoyalCourt$Request", name := "readsAlike", desc := "()Z" } : Jvm.MethodName)) ∈ lw_all := lw_g (lw_at lw_m4 228 rfl) rfl
theorem q1015 : (Jvm.Cond.code ({ cls := "RoyalCourt$Request", name := "readsAlike", desc := "()Z" } : Jvm.MethodName) prog_6_method_7_code (3 : Nat) (Option.some Jvm.ClassFile.FieldType.boolean)) ∈ lw_all := lw_g (lw_at lw_m4 229 rfl) rfl
theorem q1016 : (Jvm.Cond.classLink "RoyalCourt$Request" (38 : Nat) "java/lang/StringBuilder") ∈ lw_all := lw_g (lw_at lw_m4 230 rfl) rfl
theorem q1017 : (Jvm.Cond.methodLink "RoyalCourt$Request" (51 : Nat) ({ cls := "java/lang/StringBuilder", name := "<init>", desc := "()V" } : Jvm.MethodName)) ∈ lw_all := lw_g (lw_at lw_m4 231 rfl) rfl
theorem q1018 : (Jvm.Cond.methodLink "RoyalCourt$Request" (52 : Nat) ({ cls := "RoyalCourt$Request", name := "writeTo", desc := "(Ljava/lang/StringBuilder;)V" } : Jvm.MethodName)) ∈ lw_all := lw_g (lw_at lw_m4 232 rfl) rfl
theorem q1019 : (Jvm.Cond.instanceMethod ({ cls := "RoyalCourt$Request", name := "writeTo", desc := "(Ljava/lang/StringBuilder;)V" } : Jvm.MethodName)) ∈ lw_all := lw_g (lw_at lw_m4 233 rfl) rfl
theorem q1020 : (Jvm.Cond.selects "RoyalCourt$Request" ({ cls := "RoyalCourt$Request", name := "writeTo", desc := "(Ljava/lang/StringBuilder;)V" } : Jvm.MethodName) ({ cls := "RoyalCourt$Request", name := "writeTo", desc := "(Ljava/lang/StringBuilder;)V" } : Jvm.MethodName)) ∈ lw_all := lw_g (lw_at lw_m4 234 rfl) rfl
theorem q1021 : (Jvm.Cond.code ({ cls := "RoyalCourt$Request", name := "writeTo", desc := "(Ljava/lang/StringBuilder;)V" } : Jvm.MethodName) prog_6_method_6_code (6 : Nat) (Option.none : Option Jvm.ClassFile.FieldType)) ∈ lw_all := lw_g (lw_at lw_m4 235 rfl) rfl
theorem q1022 : (Jvm.Cond.methodLink "RoyalCourt$Request" (47 : Nat) ({ cls := "java/lang/StringBuilder", name := "append", desc := "(C)Ljava/lang/StringBuilder;" } : Jvm.MethodName)) ∈ lw_all := lw_g (lw_at lw_m4 236 rfl) rfl
theorem q1023 : (Jvm.Cond.classLink "RoyalCourt$Request" (2 : Nat) "RoyalCourt$Reader") ∈ lw_all := lw_g (lw_at lw_m4 237 rfl) rfl
theorem q1024 : (Jvm.Cond.methodLink "RoyalCourt$Request" (56 : Nat) ({ cls := "RoyalCourt$Reader", name := "<init>", desc := "(Ljava/lang/StringBuilder;)V" } : Jvm.MethodName)) ∈ lw_all := lw_g (lw_at lw_m4 238 rfl) rfl
theorem q1025 : (Jvm.Cond.methodLink "RoyalCourt$Request" (58 : Nat) ({ cls := "RoyalCourt$Reader", name := "read", desc := "()I" } : Jvm.MethodName)) ∈ lw_all := lw_g (lw_at lw_m4 239 rfl) rfl
theorem q1421 : (Jvm.Cond.instantiable "RoyalCourt$Request" (4 : Nat)) ∈ lw_all := lw_g (lw_at lw_m6 155 rfl) rfl
theorem q1423 : (Jvm.Cond.instanceMethod ({ cls := "RoyalCourt$Request", name := "<init>", desc := "(ILRoyalCourt$Reader;I)V" } : Jvm.MethodName)) ∈ lw_all := lw_g (lw_at lw_m6 157 rfl) rfl
theorem q1424 : (Jvm.Cond.code ({ cls := "RoyalCourt$Request", name := "<init>", desc := "(ILRoyalCourt$Reader;I)V" } : Jvm.MethodName) prog_6_method_1_code (4 : Nat) (Option.none : Option Jvm.ClassFile.FieldType)) ∈ lw_all := lw_g (lw_at lw_m6 158 rfl) rfl
theorem q1425 : (Jvm.Cond.methodLink "RoyalCourt$Request" (11 : Nat) ({ cls := "RoyalCourt$Request", name := "symbolsOf", desc := "(Ljava/lang/StringBuilder;)[C" } : Jvm.MethodName)) ∈ lw_all := lw_g (lw_at lw_m6 159 rfl) rfl
theorem q1426 : (Jvm.Cond.static ({ cls := "RoyalCourt$Request", name := "symbolsOf", desc := "(Ljava/lang/StringBuilder;)[C" } : Jvm.MethodName)) ∈ lw_all := lw_g (lw_at lw_m6 160 rfl) rfl
theorem q1427 : (Jvm.Cond.code ({ cls := "RoyalCourt$Request", name := "symbolsOf", desc := "(Ljava/lang/StringBuilder;)[C" } : Jvm.MethodName) prog_6_method_3_code (3 : Nat) (Option.some (Jvm.ClassFile.FieldType.array Jvm.ClassFile.FieldType.char))) ∈ lw_all := lw_g (lw_at lw_m6 161 rfl) rfl
theorem q1428 : (Jvm.Cond.methodLink "RoyalCourt$Request" (37 : Nat) ({ cls := "java/lang/StringBuilder", name := "length", desc := "()I" } : Jvm.MethodName)) ∈ lw_all := lw_g (lw_at lw_m6 162 rfl) rfl
theorem q1429 : (Jvm.Cond.methodLink "RoyalCourt$Request" (43 : Nat) ({ cls := "java/lang/StringBuilder", name := "charAt", desc := "(I)C" } : Jvm.MethodName)) ∈ lw_all := lw_g (lw_at lw_m6 163 rfl) rfl
theorem q1430 : (Jvm.Cond.methodLink "RoyalCourt$Request" (17 : Nat) ({ cls := "RoyalCourt$Request", name := "<init>", desc := "(III[C)V" } : Jvm.MethodName)) ∈ lw_all := lw_g (lw_at lw_m6 164 rfl) rfl
theorem q1431 : (Jvm.Cond.instanceMethod ({ cls := "RoyalCourt$Request", name := "<init>", desc := "(III[C)V" } : Jvm.MethodName)) ∈ lw_all := lw_g (lw_at lw_m6 165 rfl) rfl
theorem q1432 : (Jvm.Cond.code ({ cls := "RoyalCourt$Request", name := "<init>", desc := "(III[C)V" } : Jvm.MethodName) prog_6_method_2_code (5 : Nat) (Option.none : Option Jvm.ClassFile.FieldType)) ∈ lw_all := lw_g (lw_at lw_m6 166 rfl) rfl
theorem q1433 : (Jvm.Cond.methodLink "RoyalCourt$Request" (21 : Nat) ({ cls := "java/lang/Object", name := "<init>", desc := "()V" } : Jvm.MethodName)) ∈ lw_all := lw_g (lw_at lw_m6 167 rfl) rfl
theorem q1434 : (Jvm.Cond.fieldLink "RoyalCourt$Request" (26 : Nat) "RoyalCourt$Request" "courtier" "I") ∈ lw_all := lw_g (lw_at lw_m6 168 rfl) rfl
theorem q1437 : (Jvm.Cond.fieldLink "RoyalCourt$Request" (29 : Nat) "RoyalCourt$Request" "symbols" "[C") ∈ lw_all := lw_g (lw_at lw_m6 171 rfl) rfl
theorem q1440 : (Jvm.Cond.fieldLink "RoyalCourt$Request" (33 : Nat) "RoyalCourt$Request" "value" "I") ∈ lw_all := lw_g (lw_at lw_m6 174 rfl) rfl
theorem q1443 : (Jvm.Cond.fieldLink "RoyalCourt$Request" (36 : Nat) "RoyalCourt$Request" "depth" "I") ∈ lw_all := lw_g (lw_at lw_m6 177 rfl) rfl
theorem q1445 : (Jvm.Cond.laysFinal "RoyalCourt$Request" "RoyalCourt$Request" "courtier" "I") ∈ lw_all := lw_g (lw_at lw_m6 179 rfl) rfl
theorem q1446 : (Jvm.Cond.soleField "RoyalCourt$Request" "courtier") ∈ lw_all := lw_g (lw_at lw_m6 180 rfl) rfl
theorem q1447 : (Jvm.Cond.laysFinal "RoyalCourt$Request" "RoyalCourt$Request" "symbols" "[C") ∈ lw_all := lw_g (lw_at lw_m6 181 rfl) rfl
theorem q1448 : (Jvm.Cond.soleField "RoyalCourt$Request" "symbols") ∈ lw_all := lw_g (lw_at lw_m6 182 rfl) rfl
theorem q1449 : (Jvm.Cond.laysFinal "RoyalCourt$Request" "RoyalCourt$Request" "value" "I") ∈ lw_all := lw_g (lw_at lw_m6 183 rfl) rfl
theorem q1450 : (Jvm.Cond.soleField "RoyalCourt$Request" "value") ∈ lw_all := lw_g (lw_at lw_m6 184 rfl) rfl
theorem q1451 : (Jvm.Cond.laysFinal "RoyalCourt$Request" "RoyalCourt$Request" "depth" "I") ∈ lw_all := lw_g (lw_at lw_m6 185 rfl) rfl
theorem q1452 : (Jvm.Cond.soleField "RoyalCourt$Request" "depth") ∈ lw_all := lw_g (lw_at lw_m6 186 rfl) rfl
theorem q1453 : (Jvm.Cond.superclass "RoyalCourt$Request" "java/lang/Object") ∈ lw_all := lw_g (lw_at lw_m6 187 rfl) rfl
theorem q1456 : (Jvm.Cond.instanceMethod ({ cls := "RoyalCourt$Request", name := "count", desc := "(C)I" } : Jvm.MethodName)) ∈ lw_all := lw_g (lw_at lw_m6 190 rfl) rfl
theorem q1457 : (Jvm.Cond.selects "RoyalCourt$Request" ({ cls := "RoyalCourt$Request", name := "count", desc := "(C)I" } : Jvm.MethodName) ({ cls := "RoyalCourt$Request", name := "count", desc := "(C)I" } : Jvm.MethodName)) ∈ lw_all := lw_g (lw_at lw_m6 191 rfl) rfl
theorem q1458 : (Jvm.Cond.code ({ cls := "RoyalCourt$Request", name := "count", desc := "(C)I" } : Jvm.MethodName) prog_6_method_4_code (7 : Nat) (Option.some Jvm.ClassFile.FieldType.int)) ∈ lw_all := lw_g (lw_at lw_m6 192 rfl) rfl
theorem q1574 : (Jvm.Cond.instanceMethod ({ cls := "RoyalCourt$Request", name := "isAlike", desc := "(LRoyalCourt$Request;)Z" } : Jvm.MethodName)) ∈ lw_all := lw_g (lw_at lw_m7 68 rfl) rfl
theorem q1575 : (Jvm.Cond.selects "RoyalCourt$Request" ({ cls := "RoyalCourt$Request", name := "isAlike", desc := "(LRoyalCourt$Request;)Z" } : Jvm.MethodName) ({ cls := "RoyalCourt$Request", name := "isAlike", desc := "(LRoyalCourt$Request;)Z" } : Jvm.MethodName)) ∈ lw_all := lw_g (lw_at lw_m7 69 rfl) rfl
theorem q1576 : (Jvm.Cond.code ({ cls := "RoyalCourt$Request", name := "isAlike", desc := "(LRoyalCourt$Request;)Z" } : Jvm.MethodName) prog_6_method_5_code (4 : Nat) (Option.some Jvm.ClassFile.FieldType.boolean)) ∈ lw_all := lw_g (lw_at lw_m7 70 rfl) rfl
theorem q2206 : (Jvm.Cond.castable "RoyalCourt$Request" "java/lang/Object") ∈ lw_tbl := lw_at lw_m9 220 rfl
theorem in_X8 : ∀ w ∈ wsX80, w ∈ lw_all := lw_in wsX80 [1445, 1447, 1449, 1451] (by decide +kernel) (by decide +kernel)
/-! RoyalCourt$Page -/
set_option maxRecDepth 100000
def RX9 : String := "RoyalCourt$Page"
def TX9 : u_T := fun k => match k with
  | 0 => ("RoyalCourt$Page", "width", "I", true)
  | 1 => ("RoyalCourt$Page", "lengths", "[I", true)
  | _ => ("RoyalCourt$Page", "least", "[I", true)
def tyX9 : Nat → FieldType := fun k => match k with
  | 0 => .int
  | 1 => .array .int
  | _ => .array .int
abbrev wsX90 : List Cond := u_ws RX9 TX9 3
theorem nmX9 : ∀ a, a < 3 → ∀ b, b < 3 → a ≠ b → (TX9 a).2.1 ≠ (TX9 b).2.1 := by decide +kernel
theorem tyX9_ok : ∀ k, k < 3 → parseFieldDescriptor (TX9 k).2.2.1 = some (tyX9 k) := by decide +kernel
abbrev cX9_init : ByteArray := prog_3_method_1_code
def yX9_init : MethodName := ⟨RX9, "<init>", "(I[I)V"⟩
def dkwX9_init_4 : List UInt8 := [167, 255, 193, 177]
abbrev dktX9_init_4 : List UInt8 := dkwX9_init_4 ++ []
def dkwX9_init_3 : List UInt8 := [180, 0, 19, 21, 4, 4, 96, 46, 96, 184, 0, 27, 79, 132, 4, 1, 167, 255, 214, 132, 3, 255]
abbrev dktX9_init_3 : List UInt8 := dkwX9_init_3 ++ dktX9_init_4
def dkwX9_init_2 : List UInt8 := [162, 0, 41, 42, 180, 0, 19, 29, 42, 180, 0, 19, 29, 46, 42, 29, 21, 4, 182, 0, 23, 42]
abbrev dktX9_init_2 : List UInt8 := dkwX9_init_2 ++ dktX9_init_3
def dkwX9_init_1 : List UInt8 := [44, 190, 4, 100, 62, 29, 155, 0, 65, 42, 180, 0, 19, 29, 18, 22, 79, 29, 54, 4, 21, 4, 44, 190]
abbrev dktX9_init_1 : List UInt8 := dkwX9_init_1 ++ dktX9_init_2
def dkwX9_init_0 : List UInt8 := [42, 183, 0, 3, 42, 27, 181, 0, 9, 42, 44, 181, 0, 15, 42, 44, 190, 4, 96, 188, 10, 181, 0, 19]
abbrev dktX9_init_0 : List UInt8 := dkwX9_init_0 ++ dktX9_init_1
theorem dksX9_init_0 : cX9_init.data.toList.drop 0 = dktX9_init_0 := by decide +kernel
theorem dksX9_init_1 : cX9_init.data.toList.drop 24 = dktX9_init_1 := dk_seg dksX9_init_0 24 rfl rfl
theorem dksX9_init_2 : cX9_init.data.toList.drop 48 = dktX9_init_2 := dk_seg dksX9_init_1 24 rfl rfl
theorem dksX9_init_3 : cX9_init.data.toList.drop 70 = dktX9_init_3 := dk_seg dksX9_init_2 22 rfl rfl
theorem dksX9_init_4 : cX9_init.data.toList.drop 92 = dktX9_init_4 := dk_seg dksX9_init_3 22 rfl rfl
theorem dX9_init_0 : decode cX9_init 0 = .ok (.aload_n 0, 1) := dk_42 (dk_at dksX9_init_0 0 rfl rfl)
theorem dX9_init_1 : decode cX9_init 1 = .ok (.invokespecial 3, 3) := dk_183 0 3 (dk_at dksX9_init_0 1 rfl rfl)
theorem dX9_init_4 : decode cX9_init 4 = .ok (.aload_n 0, 1) := dk_42 (dk_at dksX9_init_0 4 rfl rfl)
theorem dX9_init_5 : decode cX9_init 5 = .ok (.iload_n 1, 1) := dk_27 (dk_at dksX9_init_0 5 rfl rfl)
theorem dX9_init_6 : decode cX9_init 6 = .ok (.putfield 9, 3) := dk_181 0 9 (dk_at dksX9_init_0 6 rfl rfl)
theorem dX9_init_9 : decode cX9_init 9 = .ok (.aload_n 0, 1) := dk_42 (dk_at dksX9_init_0 9 rfl rfl)
theorem dX9_init_10 : decode cX9_init 10 = .ok (.aload_n 2, 1) := dk_44 (dk_at dksX9_init_0 10 rfl rfl)
theorem dX9_init_11 : decode cX9_init 11 = .ok (.putfield 15, 3) := dk_181 0 15 (dk_at dksX9_init_0 11 rfl rfl)
theorem dX9_init_14 : decode cX9_init 14 = .ok (.aload_n 0, 1) := dk_42 (dk_at dksX9_init_0 14 rfl rfl)
theorem dX9_init_15 : decode cX9_init 15 = .ok (.aload_n 2, 1) := dk_44 (dk_at dksX9_init_0 15 rfl rfl)
theorem dX9_init_16 : decode cX9_init 16 = .ok (.arraylength, 1) := dk_190 (dk_at dksX9_init_0 16 rfl rfl)
theorem dX9_init_17 : decode cX9_init 17 = .ok (.iconst 1, 1) := dk_4 (dk_at dksX9_init_0 17 rfl rfl)
theorem dX9_init_18 : decode cX9_init 18 = .ok (.iadd, 1) := dk_96 (dk_at dksX9_init_0 18 rfl rfl)
theorem dX9_init_19 : decode cX9_init 19 = .ok (.newarray .int, 2) := dk_188_10 (dk_at dksX9_init_0 19 rfl rfl)
theorem dX9_init_21 : decode cX9_init 21 = .ok (.putfield 19, 3) := dk_181 0 19 (dk_at dksX9_init_0 21 rfl rfl)
theorem dX9_init_24 : decode cX9_init 24 = .ok (.aload_n 2, 1) := dk_44 (dk_at dksX9_init_1 0 rfl rfl)
theorem dX9_init_25 : decode cX9_init 25 = .ok (.arraylength, 1) := dk_190 (dk_at dksX9_init_1 1 rfl rfl)
theorem dX9_init_26 : decode cX9_init 26 = .ok (.iconst 1, 1) := dk_4 (dk_at dksX9_init_1 2 rfl rfl)
theorem dX9_init_27 : decode cX9_init 27 = .ok (.isub, 1) := dk_100 (dk_at dksX9_init_1 3 rfl rfl)
theorem dX9_init_28 : decode cX9_init 28 = .ok (.istore_n 3, 1) := dk_62 (dk_at dksX9_init_1 4 rfl rfl)
theorem dX9_init_29 : decode cX9_init 29 = .ok (.iload_n 3, 1) := dk_29 (dk_at dksX9_init_1 5 rfl rfl)
theorem dX9_init_30 : decode cX9_init 30 = .ok (.ifCond .lt 65, 3) := dk_155 0 65 (dk_at dksX9_init_1 6 rfl rfl)
theorem dX9_init_33 : decode cX9_init 33 = .ok (.aload_n 0, 1) := dk_42 (dk_at dksX9_init_1 9 rfl rfl)
theorem dX9_init_34 : decode cX9_init 34 = .ok (.getfield 19, 3) := dk_180 0 19 (dk_at dksX9_init_1 10 rfl rfl)
theorem dX9_init_37 : decode cX9_init 37 = .ok (.iload_n 3, 1) := dk_29 (dk_at dksX9_init_1 13 rfl rfl)
theorem dX9_init_38 : decode cX9_init 38 = .ok (.ldc 22, 2) := dk_18 22 (dk_at dksX9_init_1 14 rfl rfl)
theorem dX9_init_40 : decode cX9_init 40 = .ok (.iastore, 1) := dk_79 (dk_at dksX9_init_1 16 rfl rfl)
theorem dX9_init_41 : decode cX9_init 41 = .ok (.iload_n 3, 1) := dk_29 (dk_at dksX9_init_1 17 rfl rfl)
theorem dX9_init_42 : decode cX9_init 42 = .ok (.istore 4, 2) := dk_54 4 (dk_at dksX9_init_1 18 rfl rfl)
theorem dX9_init_44 : decode cX9_init 44 = .ok (.iload 4, 2) := dk_21 4 (dk_at dksX9_init_1 20 rfl rfl)
theorem dX9_init_46 : decode cX9_init 46 = .ok (.aload_n 2, 1) := dk_44 (dk_at dksX9_init_1 22 rfl rfl)
theorem dX9_init_47 : decode cX9_init 47 = .ok (.arraylength, 1) := dk_190 (dk_at dksX9_init_1 23 rfl rfl)
theorem dX9_init_48 : decode cX9_init 48 = .ok (.if_icmp .ge 41, 3) := dk_162 0 41 (dk_at dksX9_init_2 0 rfl rfl)
theorem dX9_init_51 : decode cX9_init 51 = .ok (.aload_n 0, 1) := dk_42 (dk_at dksX9_init_2 3 rfl rfl)
theorem dX9_init_52 : decode cX9_init 52 = .ok (.getfield 19, 3) := dk_180 0 19 (dk_at dksX9_init_2 4 rfl rfl)
theorem dX9_init_55 : decode cX9_init 55 = .ok (.iload_n 3, 1) := dk_29 (dk_at dksX9_init_2 7 rfl rfl)
theorem dX9_init_56 : decode cX9_init 56 = .ok (.aload_n 0, 1) := dk_42 (dk_at dksX9_init_2 8 rfl rfl)
theorem dX9_init_57 : decode cX9_init 57 = .ok (.getfield 19, 3) := dk_180 0 19 (dk_at dksX9_init_2 9 rfl rfl)
theorem dX9_init_60 : decode cX9_init 60 = .ok (.iload_n 3, 1) := dk_29 (dk_at dksX9_init_2 12 rfl rfl)
theorem dX9_init_61 : decode cX9_init 61 = .ok (.iaload, 1) := dk_46 (dk_at dksX9_init_2 13 rfl rfl)
theorem dX9_init_62 : decode cX9_init 62 = .ok (.aload_n 0, 1) := dk_42 (dk_at dksX9_init_2 14 rfl rfl)
theorem dX9_init_63 : decode cX9_init 63 = .ok (.iload_n 3, 1) := dk_29 (dk_at dksX9_init_2 15 rfl rfl)
theorem dX9_init_64 : decode cX9_init 64 = .ok (.iload 4, 2) := dk_21 4 (dk_at dksX9_init_2 16 rfl rfl)
theorem dX9_init_66 : decode cX9_init 66 = .ok (.invokevirtual 23, 3) := dk_182 0 23 (dk_at dksX9_init_2 18 rfl rfl)
theorem dX9_init_69 : decode cX9_init 69 = .ok (.aload_n 0, 1) := dk_42 (dk_at dksX9_init_2 21 rfl rfl)
theorem dX9_init_70 : decode cX9_init 70 = .ok (.getfield 19, 3) := dk_180 0 19 (dk_at dksX9_init_3 0 rfl rfl)
theorem dX9_init_73 : decode cX9_init 73 = .ok (.iload 4, 2) := dk_21 4 (dk_at dksX9_init_3 3 rfl rfl)
theorem dX9_init_75 : decode cX9_init 75 = .ok (.iconst 1, 1) := dk_4 (dk_at dksX9_init_3 5 rfl rfl)
theorem dX9_init_76 : decode cX9_init 76 = .ok (.iadd, 1) := dk_96 (dk_at dksX9_init_3 6 rfl rfl)
theorem dX9_init_77 : decode cX9_init 77 = .ok (.iaload, 1) := dk_46 (dk_at dksX9_init_3 7 rfl rfl)
theorem dX9_init_78 : decode cX9_init 78 = .ok (.iadd, 1) := dk_96 (dk_at dksX9_init_3 8 rfl rfl)
theorem dX9_init_79 : decode cX9_init 79 = .ok (.invokestatic 27, 3) := dk_184 0 27 (dk_at dksX9_init_3 9 rfl rfl)
theorem dX9_init_82 : decode cX9_init 82 = .ok (.iastore, 1) := dk_79 (dk_at dksX9_init_3 12 rfl rfl)
theorem dX9_init_83 : decode cX9_init 83 = .ok (.iinc 4 1, 3) := dk_132 4 1 (dk_at dksX9_init_3 13 rfl rfl)
theorem dX9_init_86 : decode cX9_init 86 = .ok (.goto (-42), 3) := dk_167 255 214 (dk_at dksX9_init_3 16 rfl rfl)
theorem dX9_init_89 : decode cX9_init 89 = .ok (.iinc 3 (-1), 3) := dk_132 3 255 (dk_at dksX9_init_3 19 rfl rfl)
theorem dX9_init_92 : decode cX9_init 92 = .ok (.goto (-63), 3) := dk_167 255 193 (dk_at dksX9_init_4 0 rfl rfl)
theorem dX9_init_95 : decode cX9_init 95 = .ok (.return_, 1) := dk_177 (dk_at dksX9_init_4 3 rfl rfl)
abbrev cX9_cost : ByteArray := prog_3_method_3_code
def yX9_cost : MethodName := ⟨RX9, "cost", "(II)I"⟩
def dkwX9_cost_1 : List UInt8 := [190, 4, 100, 160, 0, 7, 3, 167, 0, 6, 29, 29, 104, 172]
abbrev dktX9_cost_1 : List UInt8 := dkwX9_cost_1 ++ []
def dkwX9_cost_0 : List UInt8 := [42, 180, 0, 9, 42, 27, 28, 182, 0, 32, 100, 62, 29, 156, 0, 6, 18, 22, 172, 28, 42, 180, 0, 15]
abbrev dktX9_cost_0 : List UInt8 := dkwX9_cost_0 ++ dktX9_cost_1
theorem dksX9_cost_0 : cX9_cost.data.toList.drop 0 = dktX9_cost_0 := by decide +kernel
theorem dksX9_cost_1 : cX9_cost.data.toList.drop 24 = dktX9_cost_1 := dk_seg dksX9_cost_0 24 rfl rfl
theorem dX9_cost_0 : decode cX9_cost 0 = .ok (.aload_n 0, 1) := dk_42 (dk_at dksX9_cost_0 0 rfl rfl)
theorem dX9_cost_1 : decode cX9_cost 1 = .ok (.getfield 9, 3) := dk_180 0 9 (dk_at dksX9_cost_0 1 rfl rfl)
theorem dX9_cost_4 : decode cX9_cost 4 = .ok (.aload_n 0, 1) := dk_42 (dk_at dksX9_cost_0 4 rfl rfl)
theorem dX9_cost_5 : decode cX9_cost 5 = .ok (.iload_n 1, 1) := dk_27 (dk_at dksX9_cost_0 5 rfl rfl)
theorem dX9_cost_6 : decode cX9_cost 6 = .ok (.iload_n 2, 1) := dk_28 (dk_at dksX9_cost_0 6 rfl rfl)
theorem dX9_cost_7 : decode cX9_cost 7 = .ok (.invokevirtual 32, 3) := dk_182 0 32 (dk_at dksX9_cost_0 7 rfl rfl)
theorem dX9_cost_10 : decode cX9_cost 10 = .ok (.isub, 1) := dk_100 (dk_at dksX9_cost_0 10 rfl rfl)
theorem dX9_cost_11 : decode cX9_cost 11 = .ok (.istore_n 3, 1) := dk_62 (dk_at dksX9_cost_0 11 rfl rfl)
theorem dX9_cost_12 : decode cX9_cost 12 = .ok (.iload_n 3, 1) := dk_29 (dk_at dksX9_cost_0 12 rfl rfl)
theorem dX9_cost_13 : decode cX9_cost 13 = .ok (.ifCond .ge 6, 3) := dk_156 0 6 (dk_at dksX9_cost_0 13 rfl rfl)
theorem dX9_cost_16 : decode cX9_cost 16 = .ok (.ldc 22, 2) := dk_18 22 (dk_at dksX9_cost_0 16 rfl rfl)
theorem dX9_cost_18 : decode cX9_cost 18 = .ok (.ireturn, 1) := dk_172 (dk_at dksX9_cost_0 18 rfl rfl)
theorem dX9_cost_19 : decode cX9_cost 19 = .ok (.iload_n 2, 1) := dk_28 (dk_at dksX9_cost_0 19 rfl rfl)
theorem dX9_cost_20 : decode cX9_cost 20 = .ok (.aload_n 0, 1) := dk_42 (dk_at dksX9_cost_0 20 rfl rfl)
theorem dX9_cost_21 : decode cX9_cost 21 = .ok (.getfield 15, 3) := dk_180 0 15 (dk_at dksX9_cost_0 21 rfl rfl)
theorem dX9_cost_24 : decode cX9_cost 24 = .ok (.arraylength, 1) := dk_190 (dk_at dksX9_cost_1 0 rfl rfl)
theorem dX9_cost_25 : decode cX9_cost 25 = .ok (.iconst 1, 1) := dk_4 (dk_at dksX9_cost_1 1 rfl rfl)
theorem dX9_cost_26 : decode cX9_cost 26 = .ok (.isub, 1) := dk_100 (dk_at dksX9_cost_1 2 rfl rfl)
theorem dX9_cost_27 : decode cX9_cost 27 = .ok (.if_icmp .ne 7, 3) := dk_160 0 7 (dk_at dksX9_cost_1 3 rfl rfl)
theorem dX9_cost_30 : decode cX9_cost 30 = .ok (.iconst 0, 1) := dk_3 (dk_at dksX9_cost_1 6 rfl rfl)
theorem dX9_cost_31 : decode cX9_cost 31 = .ok (.goto 6, 3) := dk_167 0 6 (dk_at dksX9_cost_1 7 rfl rfl)
theorem dX9_cost_34 : decode cX9_cost 34 = .ok (.iload_n 3, 1) := dk_29 (dk_at dksX9_cost_1 10 rfl rfl)
theorem dX9_cost_35 : decode cX9_cost 35 = .ok (.iload_n 3, 1) := dk_29 (dk_at dksX9_cost_1 11 rfl rfl)
theorem dX9_cost_36 : decode cX9_cost 36 = .ok (.imul, 1) := dk_104 (dk_at dksX9_cost_1 12 rfl rfl)
theorem dX9_cost_37 : decode cX9_cost 37 = .ok (.ireturn, 1) := dk_172 (dk_at dksX9_cost_1 13 rfl rfl)
abbrev cX9_lengthOf : ByteArray := prog_3_method_2_code
def yX9_lengthOf : MethodName := ⟨RX9, "lengthOf", "(II)I"⟩
def dkwX9_lengthOf_1 : List UInt8 := [132, 4, 1, 167, 255, 237, 29, 172]
abbrev dktX9_lengthOf_1 : List UInt8 := dkwX9_lengthOf_1 ++ []
def dkwX9_lengthOf_0 : List UInt8 := [28, 27, 100, 62, 27, 54, 4, 21, 4, 28, 163, 0, 19, 29, 42, 180, 0, 15, 21, 4, 46, 96, 62]
abbrev dktX9_lengthOf_0 : List UInt8 := dkwX9_lengthOf_0 ++ dktX9_lengthOf_1
theorem dksX9_lengthOf_0 : cX9_lengthOf.data.toList.drop 0 = dktX9_lengthOf_0 := by decide +kernel
theorem dksX9_lengthOf_1 : cX9_lengthOf.data.toList.drop 23 = dktX9_lengthOf_1 := dk_seg dksX9_lengthOf_0 23 rfl rfl
theorem dX9_lengthOf_0 : decode cX9_lengthOf 0 = .ok (.iload_n 2, 1) := dk_28 (dk_at dksX9_lengthOf_0 0 rfl rfl)
theorem dX9_lengthOf_1 : decode cX9_lengthOf 1 = .ok (.iload_n 1, 1) := dk_27 (dk_at dksX9_lengthOf_0 1 rfl rfl)
theorem dX9_lengthOf_2 : decode cX9_lengthOf 2 = .ok (.isub, 1) := dk_100 (dk_at dksX9_lengthOf_0 2 rfl rfl)
theorem dX9_lengthOf_3 : decode cX9_lengthOf 3 = .ok (.istore_n 3, 1) := dk_62 (dk_at dksX9_lengthOf_0 3 rfl rfl)
theorem dX9_lengthOf_4 : decode cX9_lengthOf 4 = .ok (.iload_n 1, 1) := dk_27 (dk_at dksX9_lengthOf_0 4 rfl rfl)
theorem dX9_lengthOf_5 : decode cX9_lengthOf 5 = .ok (.istore 4, 2) := dk_54 4 (dk_at dksX9_lengthOf_0 5 rfl rfl)
theorem dX9_lengthOf_7 : decode cX9_lengthOf 7 = .ok (.iload 4, 2) := dk_21 4 (dk_at dksX9_lengthOf_0 7 rfl rfl)
theorem dX9_lengthOf_9 : decode cX9_lengthOf 9 = .ok (.iload_n 2, 1) := dk_28 (dk_at dksX9_lengthOf_0 9 rfl rfl)
theorem dX9_lengthOf_10 : decode cX9_lengthOf 10 = .ok (.if_icmp .gt 19, 3) := dk_163 0 19 (dk_at dksX9_lengthOf_0 10 rfl rfl)
theorem dX9_lengthOf_13 : decode cX9_lengthOf 13 = .ok (.iload_n 3, 1) := dk_29 (dk_at dksX9_lengthOf_0 13 rfl rfl)
theorem dX9_lengthOf_14 : decode cX9_lengthOf 14 = .ok (.aload_n 0, 1) := dk_42 (dk_at dksX9_lengthOf_0 14 rfl rfl)
theorem dX9_lengthOf_15 : decode cX9_lengthOf 15 = .ok (.getfield 15, 3) := dk_180 0 15 (dk_at dksX9_lengthOf_0 15 rfl rfl)
theorem dX9_lengthOf_18 : decode cX9_lengthOf 18 = .ok (.iload 4, 2) := dk_21 4 (dk_at dksX9_lengthOf_0 18 rfl rfl)
theorem dX9_lengthOf_20 : decode cX9_lengthOf 20 = .ok (.iaload, 1) := dk_46 (dk_at dksX9_lengthOf_0 20 rfl rfl)
theorem dX9_lengthOf_21 : decode cX9_lengthOf 21 = .ok (.iadd, 1) := dk_96 (dk_at dksX9_lengthOf_0 21 rfl rfl)
theorem dX9_lengthOf_22 : decode cX9_lengthOf 22 = .ok (.istore_n 3, 1) := dk_62 (dk_at dksX9_lengthOf_0 22 rfl rfl)
theorem dX9_lengthOf_23 : decode cX9_lengthOf 23 = .ok (.iinc 4 1, 3) := dk_132 4 1 (dk_at dksX9_lengthOf_1 0 rfl rfl)
theorem dX9_lengthOf_26 : decode cX9_lengthOf 26 = .ok (.goto (-19), 3) := dk_167 255 237 (dk_at dksX9_lengthOf_1 3 rfl rfl)
theorem dX9_lengthOf_29 : decode cX9_lengthOf 29 = .ok (.iload_n 3, 1) := dk_29 (dk_at dksX9_lengthOf_1 6 rfl rfl)
theorem dX9_lengthOf_30 : decode cX9_lengthOf 30 = .ok (.ireturn, 1) := dk_172 (dk_at dksX9_lengthOf_1 7 rfl rfl)
abbrev cX9_raggedness : ByteArray := prog_3_method_4_code
def yX9_raggedness : MethodName := ⟨RX9, "raggedness", "()I"⟩
def dkwX9_raggedness_0 : List UInt8 := [42, 180, 0, 19, 3, 46, 172]
abbrev dktX9_raggedness_0 : List UInt8 := dkwX9_raggedness_0 ++ []
theorem dksX9_raggedness_0 : cX9_raggedness.data.toList.drop 0 = dktX9_raggedness_0 := by decide +kernel
theorem dX9_raggedness_0 : decode cX9_raggedness 0 = .ok (.aload_n 0, 1) := dk_42 (dk_at dksX9_raggedness_0 0 rfl rfl)
theorem dX9_raggedness_1 : decode cX9_raggedness 1 = .ok (.getfield 19, 3) := dk_180 0 19 (dk_at dksX9_raggedness_0 1 rfl rfl)
theorem dX9_raggedness_4 : decode cX9_raggedness 4 = .ok (.iconst 0, 1) := dk_3 (dk_at dksX9_raggedness_0 4 rfl rfl)
theorem dX9_raggedness_5 : decode cX9_raggedness 5 = .ok (.iaload, 1) := dk_46 (dk_at dksX9_raggedness_0 5 rfl rfl)
theorem dX9_raggedness_6 : decode cX9_raggedness 6 = .ok (.ireturn, 1) := dk_172 (dk_at dksX9_raggedness_0 6 rfl rfl)
abbrev cX9_raggednessByTrying : ByteArray := prog_3_method_6_code
def yX9_raggednessByTrying : MethodName := ⟨RX9, "raggednessByTrying", "()I"⟩
def dkwX9_raggednessByTrying_1 : List UInt8 := [120, 162, 0, 21, 27, 42, 28, 4, 122, 182, 0, 39, 184, 0, 27, 60, 132, 2, 2, 167, 255, 230, 27, 172]
abbrev dktX9_raggednessByTrying_1 : List UInt8 := dkwX9_raggednessByTrying_1 ++ []
def dkwX9_raggednessByTrying_0 : List UInt8 := [42, 180, 0, 15, 190, 154, 0, 7, 3, 167, 0, 5, 18, 22, 60, 3, 61, 28, 4, 42, 180, 0, 15, 190]
abbrev dktX9_raggednessByTrying_0 : List UInt8 := dkwX9_raggednessByTrying_0 ++ dktX9_raggednessByTrying_1
theorem dksX9_raggednessByTrying_0 : cX9_raggednessByTrying.data.toList.drop 0 = dktX9_raggednessByTrying_0 := by decide +kernel
theorem dksX9_raggednessByTrying_1 : cX9_raggednessByTrying.data.toList.drop 24 = dktX9_raggednessByTrying_1 := dk_seg dksX9_raggednessByTrying_0 24 rfl rfl
theorem dX9_raggednessByTrying_0 : decode cX9_raggednessByTrying 0 = .ok (.aload_n 0, 1) := dk_42 (dk_at dksX9_raggednessByTrying_0 0 rfl rfl)
theorem dX9_raggednessByTrying_1 : decode cX9_raggednessByTrying 1 = .ok (.getfield 15, 3) := dk_180 0 15 (dk_at dksX9_raggednessByTrying_0 1 rfl rfl)
theorem dX9_raggednessByTrying_4 : decode cX9_raggednessByTrying 4 = .ok (.arraylength, 1) := dk_190 (dk_at dksX9_raggednessByTrying_0 4 rfl rfl)
theorem dX9_raggednessByTrying_5 : decode cX9_raggednessByTrying 5 = .ok (.ifCond .ne 7, 3) := dk_154 0 7 (dk_at dksX9_raggednessByTrying_0 5 rfl rfl)
theorem dX9_raggednessByTrying_8 : decode cX9_raggednessByTrying 8 = .ok (.iconst 0, 1) := dk_3 (dk_at dksX9_raggednessByTrying_0 8 rfl rfl)
theorem dX9_raggednessByTrying_9 : decode cX9_raggednessByTrying 9 = .ok (.goto 5, 3) := dk_167 0 5 (dk_at dksX9_raggednessByTrying_0 9 rfl rfl)
theorem dX9_raggednessByTrying_12 : decode cX9_raggednessByTrying 12 = .ok (.ldc 22, 2) := dk_18 22 (dk_at dksX9_raggednessByTrying_0 12 rfl rfl)
theorem dX9_raggednessByTrying_14 : decode cX9_raggednessByTrying 14 = .ok (.istore_n 1, 1) := dk_60 (dk_at dksX9_raggednessByTrying_0 14 rfl rfl)
theorem dX9_raggednessByTrying_15 : decode cX9_raggednessByTrying 15 = .ok (.iconst 0, 1) := dk_3 (dk_at dksX9_raggednessByTrying_0 15 rfl rfl)
theorem dX9_raggednessByTrying_16 : decode cX9_raggednessByTrying 16 = .ok (.istore_n 2, 1) := dk_61 (dk_at dksX9_raggednessByTrying_0 16 rfl rfl)
theorem dX9_raggednessByTrying_17 : decode cX9_raggednessByTrying 17 = .ok (.iload_n 2, 1) := dk_28 (dk_at dksX9_raggednessByTrying_0 17 rfl rfl)
theorem dX9_raggednessByTrying_18 : decode cX9_raggednessByTrying 18 = .ok (.iconst 1, 1) := dk_4 (dk_at dksX9_raggednessByTrying_0 18 rfl rfl)
theorem dX9_raggednessByTrying_19 : decode cX9_raggednessByTrying 19 = .ok (.aload_n 0, 1) := dk_42 (dk_at dksX9_raggednessByTrying_0 19 rfl rfl)
theorem dX9_raggednessByTrying_20 : decode cX9_raggednessByTrying 20 = .ok (.getfield 15, 3) := dk_180 0 15 (dk_at dksX9_raggednessByTrying_0 20 rfl rfl)
theorem dX9_raggednessByTrying_23 : decode cX9_raggednessByTrying 23 = .ok (.arraylength, 1) := dk_190 (dk_at dksX9_raggednessByTrying_0 23 rfl rfl)
theorem dX9_raggednessByTrying_24 : decode cX9_raggednessByTrying 24 = .ok (.ishl, 1) := dk_120 (dk_at dksX9_raggednessByTrying_1 0 rfl rfl)
theorem dX9_raggednessByTrying_25 : decode cX9_raggednessByTrying 25 = .ok (.if_icmp .ge 21, 3) := dk_162 0 21 (dk_at dksX9_raggednessByTrying_1 1 rfl rfl)
theorem dX9_raggednessByTrying_28 : decode cX9_raggednessByTrying 28 = .ok (.iload_n 1, 1) := dk_27 (dk_at dksX9_raggednessByTrying_1 4 rfl rfl)
theorem dX9_raggednessByTrying_29 : decode cX9_raggednessByTrying 29 = .ok (.aload_n 0, 1) := dk_42 (dk_at dksX9_raggednessByTrying_1 5 rfl rfl)
theorem dX9_raggednessByTrying_30 : decode cX9_raggednessByTrying 30 = .ok (.iload_n 2, 1) := dk_28 (dk_at dksX9_raggednessByTrying_1 6 rfl rfl)
theorem dX9_raggednessByTrying_31 : decode cX9_raggednessByTrying 31 = .ok (.iconst 1, 1) := dk_4 (dk_at dksX9_raggednessByTrying_1 7 rfl rfl)
theorem dX9_raggednessByTrying_32 : decode cX9_raggednessByTrying 32 = .ok (.ishr, 1) := dk_122 (dk_at dksX9_raggednessByTrying_1 8 rfl rfl)
theorem dX9_raggednessByTrying_33 : decode cX9_raggednessByTrying 33 = .ok (.invokevirtual 39, 3) := dk_182 0 39 (dk_at dksX9_raggednessByTrying_1 9 rfl rfl)
theorem dX9_raggednessByTrying_36 : decode cX9_raggednessByTrying 36 = .ok (.invokestatic 27, 3) := dk_184 0 27 (dk_at dksX9_raggednessByTrying_1 12 rfl rfl)
theorem dX9_raggednessByTrying_39 : decode cX9_raggednessByTrying 39 = .ok (.istore_n 1, 1) := dk_60 (dk_at dksX9_raggednessByTrying_1 15 rfl rfl)
theorem dX9_raggednessByTrying_40 : decode cX9_raggednessByTrying 40 = .ok (.iinc 2 2, 3) := dk_132 2 2 (dk_at dksX9_raggednessByTrying_1 16 rfl rfl)
theorem dX9_raggednessByTrying_43 : decode cX9_raggednessByTrying 43 = .ok (.goto (-26), 3) := dk_167 255 230 (dk_at dksX9_raggednessByTrying_1 19 rfl rfl)
theorem dX9_raggednessByTrying_46 : decode cX9_raggednessByTrying 46 = .ok (.iload_n 1, 1) := dk_27 (dk_at dksX9_raggednessByTrying_1 22 rfl rfl)
theorem dX9_raggednessByTrying_47 : decode cX9_raggednessByTrying 47 = .ok (.ireturn, 1) := dk_172 (dk_at dksX9_raggednessByTrying_1 23 rfl rfl)
abbrev cX9_raggednessOf : ByteArray := prog_3_method_5_code
def yX9_raggednessOf : MethodName := ⟨RX9, "raggednessOf", "(I)I"⟩
def dkwX9_raggednessOf_2 : List UInt8 := [182, 0, 23, 96, 184, 0, 27, 61, 21, 4, 4, 96, 62, 132, 4, 1, 167, 255, 202, 28, 172]
abbrev dktX9_raggednessOf_2 : List UInt8 := dkwX9_raggednessOf_2 ++ []
def dkwX9_raggednessOf_1 : List UInt8 := [154, 0, 15, 21, 4, 42, 180, 0, 15, 190, 4, 100, 160, 0, 23, 18, 22, 28, 42, 29, 21, 4]
abbrev dktX9_raggednessOf_1 : List UInt8 := dkwX9_raggednessOf_1 ++ dktX9_raggednessOf_2
def dkwX9_raggednessOf_0 : List UInt8 := [3, 61, 3, 62, 3, 54, 4, 21, 4, 42, 180, 0, 15, 190, 162, 0, 50, 27, 21, 4, 184, 0, 35]
abbrev dktX9_raggednessOf_0 : List UInt8 := dkwX9_raggednessOf_0 ++ dktX9_raggednessOf_1
theorem dksX9_raggednessOf_0 : cX9_raggednessOf.data.toList.drop 0 = dktX9_raggednessOf_0 := by decide +kernel
theorem dksX9_raggednessOf_1 : cX9_raggednessOf.data.toList.drop 23 = dktX9_raggednessOf_1 := dk_seg dksX9_raggednessOf_0 23 rfl rfl
theorem dksX9_raggednessOf_2 : cX9_raggednessOf.data.toList.drop 45 = dktX9_raggednessOf_2 := dk_seg dksX9_raggednessOf_1 22 rfl rfl
theorem dX9_raggednessOf_0 : decode cX9_raggednessOf 0 = .ok (.iconst 0, 1) := dk_3 (dk_at dksX9_raggednessOf_0 0 rfl rfl)
theorem dX9_raggednessOf_1 : decode cX9_raggednessOf 1 = .ok (.istore_n 2, 1) := dk_61 (dk_at dksX9_raggednessOf_0 1 rfl rfl)
theorem dX9_raggednessOf_2 : decode cX9_raggednessOf 2 = .ok (.iconst 0, 1) := dk_3 (dk_at dksX9_raggednessOf_0 2 rfl rfl)
theorem dX9_raggednessOf_3 : decode cX9_raggednessOf 3 = .ok (.istore_n 3, 1) := dk_62 (dk_at dksX9_raggednessOf_0 3 rfl rfl)
theorem dX9_raggednessOf_4 : decode cX9_raggednessOf 4 = .ok (.iconst 0, 1) := dk_3 (dk_at dksX9_raggednessOf_0 4 rfl rfl)
theorem dX9_raggednessOf_5 : decode cX9_raggednessOf 5 = .ok (.istore 4, 2) := dk_54 4 (dk_at dksX9_raggednessOf_0 5 rfl rfl)
theorem dX9_raggednessOf_7 : decode cX9_raggednessOf 7 = .ok (.iload 4, 2) := dk_21 4 (dk_at dksX9_raggednessOf_0 7 rfl rfl)
theorem dX9_raggednessOf_9 : decode cX9_raggednessOf 9 = .ok (.aload_n 0, 1) := dk_42 (dk_at dksX9_raggednessOf_0 9 rfl rfl)
theorem dX9_raggednessOf_10 : decode cX9_raggednessOf 10 = .ok (.getfield 15, 3) := dk_180 0 15 (dk_at dksX9_raggednessOf_0 10 rfl rfl)
theorem dX9_raggednessOf_13 : decode cX9_raggednessOf 13 = .ok (.arraylength, 1) := dk_190 (dk_at dksX9_raggednessOf_0 13 rfl rfl)
theorem dX9_raggednessOf_14 : decode cX9_raggednessOf 14 = .ok (.if_icmp .ge 50, 3) := dk_162 0 50 (dk_at dksX9_raggednessOf_0 14 rfl rfl)
theorem dX9_raggednessOf_17 : decode cX9_raggednessOf 17 = .ok (.iload_n 1, 1) := dk_27 (dk_at dksX9_raggednessOf_0 17 rfl rfl)
theorem dX9_raggednessOf_18 : decode cX9_raggednessOf 18 = .ok (.iload 4, 2) := dk_21 4 (dk_at dksX9_raggednessOf_0 18 rfl rfl)
theorem dX9_raggednessOf_20 : decode cX9_raggednessOf 20 = .ok (.invokestatic 35, 3) := dk_184 0 35 (dk_at dksX9_raggednessOf_0 20 rfl rfl)
theorem dX9_raggednessOf_23 : decode cX9_raggednessOf 23 = .ok (.ifCond .ne 15, 3) := dk_154 0 15 (dk_at dksX9_raggednessOf_1 0 rfl rfl)
theorem dX9_raggednessOf_26 : decode cX9_raggednessOf 26 = .ok (.iload 4, 2) := dk_21 4 (dk_at dksX9_raggednessOf_1 3 rfl rfl)
theorem dX9_raggednessOf_28 : decode cX9_raggednessOf 28 = .ok (.aload_n 0, 1) := dk_42 (dk_at dksX9_raggednessOf_1 5 rfl rfl)
theorem dX9_raggednessOf_29 : decode cX9_raggednessOf 29 = .ok (.getfield 15, 3) := dk_180 0 15 (dk_at dksX9_raggednessOf_1 6 rfl rfl)
theorem dX9_raggednessOf_32 : decode cX9_raggednessOf 32 = .ok (.arraylength, 1) := dk_190 (dk_at dksX9_raggednessOf_1 9 rfl rfl)
theorem dX9_raggednessOf_33 : decode cX9_raggednessOf 33 = .ok (.iconst 1, 1) := dk_4 (dk_at dksX9_raggednessOf_1 10 rfl rfl)
theorem dX9_raggednessOf_34 : decode cX9_raggednessOf 34 = .ok (.isub, 1) := dk_100 (dk_at dksX9_raggednessOf_1 11 rfl rfl)
theorem dX9_raggednessOf_35 : decode cX9_raggednessOf 35 = .ok (.if_icmp .ne 23, 3) := dk_160 0 23 (dk_at dksX9_raggednessOf_1 12 rfl rfl)
theorem dX9_raggednessOf_38 : decode cX9_raggednessOf 38 = .ok (.ldc 22, 2) := dk_18 22 (dk_at dksX9_raggednessOf_1 15 rfl rfl)
theorem dX9_raggednessOf_40 : decode cX9_raggednessOf 40 = .ok (.iload_n 2, 1) := dk_28 (dk_at dksX9_raggednessOf_1 17 rfl rfl)
theorem dX9_raggednessOf_41 : decode cX9_raggednessOf 41 = .ok (.aload_n 0, 1) := dk_42 (dk_at dksX9_raggednessOf_1 18 rfl rfl)
theorem dX9_raggednessOf_42 : decode cX9_raggednessOf 42 = .ok (.iload_n 3, 1) := dk_29 (dk_at dksX9_raggednessOf_1 19 rfl rfl)
theorem dX9_raggednessOf_43 : decode cX9_raggednessOf 43 = .ok (.iload 4, 2) := dk_21 4 (dk_at dksX9_raggednessOf_1 20 rfl rfl)
theorem dX9_raggednessOf_45 : decode cX9_raggednessOf 45 = .ok (.invokevirtual 23, 3) := dk_182 0 23 (dk_at dksX9_raggednessOf_2 0 rfl rfl)
theorem dX9_raggednessOf_48 : decode cX9_raggednessOf 48 = .ok (.iadd, 1) := dk_96 (dk_at dksX9_raggednessOf_2 3 rfl rfl)
theorem dX9_raggednessOf_49 : decode cX9_raggednessOf 49 = .ok (.invokestatic 27, 3) := dk_184 0 27 (dk_at dksX9_raggednessOf_2 4 rfl rfl)
theorem dX9_raggednessOf_52 : decode cX9_raggednessOf 52 = .ok (.istore_n 2, 1) := dk_61 (dk_at dksX9_raggednessOf_2 7 rfl rfl)
theorem dX9_raggednessOf_53 : decode cX9_raggednessOf 53 = .ok (.iload 4, 2) := dk_21 4 (dk_at dksX9_raggednessOf_2 8 rfl rfl)
theorem dX9_raggednessOf_55 : decode cX9_raggednessOf 55 = .ok (.iconst 1, 1) := dk_4 (dk_at dksX9_raggednessOf_2 10 rfl rfl)
theorem dX9_raggednessOf_56 : decode cX9_raggednessOf 56 = .ok (.iadd, 1) := dk_96 (dk_at dksX9_raggednessOf_2 11 rfl rfl)
theorem dX9_raggednessOf_57 : decode cX9_raggednessOf 57 = .ok (.istore_n 3, 1) := dk_62 (dk_at dksX9_raggednessOf_2 12 rfl rfl)
theorem dX9_raggednessOf_58 : decode cX9_raggednessOf 58 = .ok (.iinc 4 1, 3) := dk_132 4 1 (dk_at dksX9_raggednessOf_2 13 rfl rfl)
theorem dX9_raggednessOf_61 : decode cX9_raggednessOf 61 = .ok (.goto (-54), 3) := dk_167 255 202 (dk_at dksX9_raggednessOf_2 16 rfl rfl)
theorem dX9_raggednessOf_64 : decode cX9_raggednessOf 64 = .ok (.iload_n 2, 1) := dk_28 (dk_at dksX9_raggednessOf_2 19 rfl rfl)
theorem dX9_raggednessOf_65 : decode cX9_raggednessOf 65 = .ok (.ireturn, 1) := dk_172 (dk_at dksX9_raggednessOf_2 20 rfl rfl)
abbrev cX9_lines : ByteArray := prog_3_method_7_code
def yX9_lines : MethodName := ⟨RX9, "lines", "()[I"⟩
def dkwX9_lines_4 : List UInt8 := [167, 255, 177, 43, 176]
abbrev dktX9_lines_4 : List UInt8 := dkwX9_lines_4 ++ []
def dkwX9_lines_3 : List UInt8 := [163, 0, 14, 43, 21, 5, 28, 79, 132, 5, 1, 167, 255, 241, 132, 2, 1, 21, 4, 4, 96, 62]
abbrev dktX9_lines_3 : List UInt8 := dkwX9_lines_3 ++ dktX9_lines_4
def dkwX9_lines_2 : List UInt8 := [96, 42, 180, 0, 19, 29, 46, 159, 0, 9, 132, 4, 255, 167, 255, 227, 29, 54, 5, 21, 5, 21, 4]
abbrev dktX9_lines_2 : List UInt8 := dkwX9_lines_2 ++ dktX9_lines_3
def dkwX9_lines_1 : List UInt8 := [180, 0, 15, 190, 4, 100, 54, 4, 42, 29, 21, 4, 182, 0, 23, 42, 180, 0, 19, 21, 4, 4, 96, 46]
abbrev dktX9_lines_1 : List UInt8 := dkwX9_lines_1 ++ dktX9_lines_2
def dkwX9_lines_0 : List UInt8 := [42, 180, 0, 15, 190, 188, 10, 76, 3, 61, 3, 62, 29, 42, 180, 0, 15, 190, 162, 0, 76, 42]
abbrev dktX9_lines_0 : List UInt8 := dkwX9_lines_0 ++ dktX9_lines_1
theorem dksX9_lines_0 : cX9_lines.data.toList.drop 0 = dktX9_lines_0 := by decide +kernel
theorem dksX9_lines_1 : cX9_lines.data.toList.drop 22 = dktX9_lines_1 := dk_seg dksX9_lines_0 22 rfl rfl
theorem dksX9_lines_2 : cX9_lines.data.toList.drop 46 = dktX9_lines_2 := dk_seg dksX9_lines_1 24 rfl rfl
theorem dksX9_lines_3 : cX9_lines.data.toList.drop 69 = dktX9_lines_3 := dk_seg dksX9_lines_2 23 rfl rfl
theorem dksX9_lines_4 : cX9_lines.data.toList.drop 91 = dktX9_lines_4 := dk_seg dksX9_lines_3 22 rfl rfl
theorem dX9_lines_0 : decode cX9_lines 0 = .ok (.aload_n 0, 1) := dk_42 (dk_at dksX9_lines_0 0 rfl rfl)
theorem dX9_lines_1 : decode cX9_lines 1 = .ok (.getfield 15, 3) := dk_180 0 15 (dk_at dksX9_lines_0 1 rfl rfl)
theorem dX9_lines_4 : decode cX9_lines 4 = .ok (.arraylength, 1) := dk_190 (dk_at dksX9_lines_0 4 rfl rfl)
theorem dX9_lines_5 : decode cX9_lines 5 = .ok (.newarray .int, 2) := dk_188_10 (dk_at dksX9_lines_0 5 rfl rfl)
theorem dX9_lines_7 : decode cX9_lines 7 = .ok (.astore_n 1, 1) := dk_76 (dk_at dksX9_lines_0 7 rfl rfl)
theorem dX9_lines_8 : decode cX9_lines 8 = .ok (.iconst 0, 1) := dk_3 (dk_at dksX9_lines_0 8 rfl rfl)
theorem dX9_lines_9 : decode cX9_lines 9 = .ok (.istore_n 2, 1) := dk_61 (dk_at dksX9_lines_0 9 rfl rfl)
theorem dX9_lines_10 : decode cX9_lines 10 = .ok (.iconst 0, 1) := dk_3 (dk_at dksX9_lines_0 10 rfl rfl)
theorem dX9_lines_11 : decode cX9_lines 11 = .ok (.istore_n 3, 1) := dk_62 (dk_at dksX9_lines_0 11 rfl rfl)
theorem dX9_lines_12 : decode cX9_lines 12 = .ok (.iload_n 3, 1) := dk_29 (dk_at dksX9_lines_0 12 rfl rfl)
theorem dX9_lines_13 : decode cX9_lines 13 = .ok (.aload_n 0, 1) := dk_42 (dk_at dksX9_lines_0 13 rfl rfl)
theorem dX9_lines_14 : decode cX9_lines 14 = .ok (.getfield 15, 3) := dk_180 0 15 (dk_at dksX9_lines_0 14 rfl rfl)
theorem dX9_lines_17 : decode cX9_lines 17 = .ok (.arraylength, 1) := dk_190 (dk_at dksX9_lines_0 17 rfl rfl)
theorem dX9_lines_18 : decode cX9_lines 18 = .ok (.if_icmp .ge 76, 3) := dk_162 0 76 (dk_at dksX9_lines_0 18 rfl rfl)
theorem dX9_lines_21 : decode cX9_lines 21 = .ok (.aload_n 0, 1) := dk_42 (dk_at dksX9_lines_0 21 rfl rfl)
theorem dX9_lines_22 : decode cX9_lines 22 = .ok (.getfield 15, 3) := dk_180 0 15 (dk_at dksX9_lines_1 0 rfl rfl)
theorem dX9_lines_25 : decode cX9_lines 25 = .ok (.arraylength, 1) := dk_190 (dk_at dksX9_lines_1 3 rfl rfl)
theorem dX9_lines_26 : decode cX9_lines 26 = .ok (.iconst 1, 1) := dk_4 (dk_at dksX9_lines_1 4 rfl rfl)
theorem dX9_lines_27 : decode cX9_lines 27 = .ok (.isub, 1) := dk_100 (dk_at dksX9_lines_1 5 rfl rfl)
theorem dX9_lines_28 : decode cX9_lines 28 = .ok (.istore 4, 2) := dk_54 4 (dk_at dksX9_lines_1 6 rfl rfl)
theorem dX9_lines_30 : decode cX9_lines 30 = .ok (.aload_n 0, 1) := dk_42 (dk_at dksX9_lines_1 8 rfl rfl)
theorem dX9_lines_31 : decode cX9_lines 31 = .ok (.iload_n 3, 1) := dk_29 (dk_at dksX9_lines_1 9 rfl rfl)
theorem dX9_lines_32 : decode cX9_lines 32 = .ok (.iload 4, 2) := dk_21 4 (dk_at dksX9_lines_1 10 rfl rfl)
theorem dX9_lines_34 : decode cX9_lines 34 = .ok (.invokevirtual 23, 3) := dk_182 0 23 (dk_at dksX9_lines_1 12 rfl rfl)
theorem dX9_lines_37 : decode cX9_lines 37 = .ok (.aload_n 0, 1) := dk_42 (dk_at dksX9_lines_1 15 rfl rfl)
theorem dX9_lines_38 : decode cX9_lines 38 = .ok (.getfield 19, 3) := dk_180 0 19 (dk_at dksX9_lines_1 16 rfl rfl)
theorem dX9_lines_41 : decode cX9_lines 41 = .ok (.iload 4, 2) := dk_21 4 (dk_at dksX9_lines_1 19 rfl rfl)
theorem dX9_lines_43 : decode cX9_lines 43 = .ok (.iconst 1, 1) := dk_4 (dk_at dksX9_lines_1 21 rfl rfl)
theorem dX9_lines_44 : decode cX9_lines 44 = .ok (.iadd, 1) := dk_96 (dk_at dksX9_lines_1 22 rfl rfl)
theorem dX9_lines_45 : decode cX9_lines 45 = .ok (.iaload, 1) := dk_46 (dk_at dksX9_lines_1 23 rfl rfl)
theorem dX9_lines_46 : decode cX9_lines 46 = .ok (.iadd, 1) := dk_96 (dk_at dksX9_lines_2 0 rfl rfl)
theorem dX9_lines_47 : decode cX9_lines 47 = .ok (.aload_n 0, 1) := dk_42 (dk_at dksX9_lines_2 1 rfl rfl)
theorem dX9_lines_48 : decode cX9_lines 48 = .ok (.getfield 19, 3) := dk_180 0 19 (dk_at dksX9_lines_2 2 rfl rfl)
theorem dX9_lines_51 : decode cX9_lines 51 = .ok (.iload_n 3, 1) := dk_29 (dk_at dksX9_lines_2 5 rfl rfl)
theorem dX9_lines_52 : decode cX9_lines 52 = .ok (.iaload, 1) := dk_46 (dk_at dksX9_lines_2 6 rfl rfl)
theorem dX9_lines_53 : decode cX9_lines 53 = .ok (.if_icmp .eq 9, 3) := dk_159 0 9 (dk_at dksX9_lines_2 7 rfl rfl)
theorem dX9_lines_56 : decode cX9_lines 56 = .ok (.iinc 4 (-1), 3) := dk_132 4 255 (dk_at dksX9_lines_2 10 rfl rfl)
theorem dX9_lines_59 : decode cX9_lines 59 = .ok (.goto (-29), 3) := dk_167 255 227 (dk_at dksX9_lines_2 13 rfl rfl)
theorem dX9_lines_62 : decode cX9_lines 62 = .ok (.iload_n 3, 1) := dk_29 (dk_at dksX9_lines_2 16 rfl rfl)
theorem dX9_lines_63 : decode cX9_lines 63 = .ok (.istore 5, 2) := dk_54 5 (dk_at dksX9_lines_2 17 rfl rfl)
theorem dX9_lines_65 : decode cX9_lines 65 = .ok (.iload 5, 2) := dk_21 5 (dk_at dksX9_lines_2 19 rfl rfl)
theorem dX9_lines_67 : decode cX9_lines 67 = .ok (.iload 4, 2) := dk_21 4 (dk_at dksX9_lines_2 21 rfl rfl)
theorem dX9_lines_69 : decode cX9_lines 69 = .ok (.if_icmp .gt 14, 3) := dk_163 0 14 (dk_at dksX9_lines_3 0 rfl rfl)
theorem dX9_lines_72 : decode cX9_lines 72 = .ok (.aload_n 1, 1) := dk_43 (dk_at dksX9_lines_3 3 rfl rfl)
theorem dX9_lines_73 : decode cX9_lines 73 = .ok (.iload 5, 2) := dk_21 5 (dk_at dksX9_lines_3 4 rfl rfl)
theorem dX9_lines_75 : decode cX9_lines 75 = .ok (.iload_n 2, 1) := dk_28 (dk_at dksX9_lines_3 6 rfl rfl)
theorem dX9_lines_76 : decode cX9_lines 76 = .ok (.iastore, 1) := dk_79 (dk_at dksX9_lines_3 7 rfl rfl)
theorem dX9_lines_77 : decode cX9_lines 77 = .ok (.iinc 5 1, 3) := dk_132 5 1 (dk_at dksX9_lines_3 8 rfl rfl)
theorem dX9_lines_80 : decode cX9_lines 80 = .ok (.goto (-15), 3) := dk_167 255 241 (dk_at dksX9_lines_3 11 rfl rfl)
theorem dX9_lines_83 : decode cX9_lines 83 = .ok (.iinc 2 1, 3) := dk_132 2 1 (dk_at dksX9_lines_3 14 rfl rfl)
theorem dX9_lines_86 : decode cX9_lines 86 = .ok (.iload 4, 2) := dk_21 4 (dk_at dksX9_lines_3 17 rfl rfl)
theorem dX9_lines_88 : decode cX9_lines 88 = .ok (.iconst 1, 1) := dk_4 (dk_at dksX9_lines_3 19 rfl rfl)
theorem dX9_lines_89 : decode cX9_lines 89 = .ok (.iadd, 1) := dk_96 (dk_at dksX9_lines_3 20 rfl rfl)
theorem dX9_lines_90 : decode cX9_lines 90 = .ok (.istore_n 3, 1) := dk_62 (dk_at dksX9_lines_3 21 rfl rfl)
theorem dX9_lines_91 : decode cX9_lines 91 = .ok (.goto (-79), 3) := dk_167 255 177 (dk_at dksX9_lines_4 0 rfl rfl)
theorem dX9_lines_94 : decode cX9_lines 94 = .ok (.aload_n 1, 1) := dk_43 (dk_at dksX9_lines_4 3 rfl rfl)
theorem dX9_lines_95 : decode cX9_lines 95 = .ok (.areturn, 1) := dk_176 (dk_at dksX9_lines_4 4 rfl rfl)
theorem q103 : (Jvm.Cond.initialized "RoyalCourt$Page") ∈ lw_all := lw_g (lw_at lw_m1 37 rfl) rfl
theorem q341 : (Jvm.Cond.selects "RoyalCourt$Page" ({ cls := "java/lang/Object", name := "getClass", desc := "()Ljava/lang/Class;" } : Jvm.MethodName) ({ cls := "java/lang/Object", name := "getClass", desc := "()Ljava/lang/Class;" } : Jvm.MethodName)) ∈ lw_all := lw_g (lw_at lw_m2 35 rfl) rfl
theorem q1044 : (Jvm.Cond.instantiable "RoyalCourt$Page" (3 : Nat)) ∈ lw_all := lw_g (lw_at lw_m5 18 rfl) rfl
theorem q1046 : (Jvm.Cond.instanceMethod ({ cls := "RoyalCourt$Page", name := "<init>", desc := "(I[I)V" } : Jvm.MethodName)) ∈ lw_all := lw_g (lw_at lw_m5 20 rfl) rfl
theorem q1047 : (Jvm.Cond.code ({ cls := "RoyalCourt$Page", name := "<init>", desc := "(I[I)V" } : Jvm.MethodName) prog_3_method_1_code (5 : Nat) (Option.none : Option Jvm.ClassFile.FieldType)) ∈ lw_all := lw_g (lw_at lw_m5 21 rfl) rfl
theorem q1048 : (Jvm.Cond.methodLink "RoyalCourt$Page" (3 : Nat) ({ cls := "java/lang/Object", name := "<init>", desc := "()V" } : Jvm.MethodName)) ∈ lw_all := lw_g (lw_at lw_m5 22 rfl) rfl
theorem q1049 : (Jvm.Cond.constant "RoyalCourt$Page" (22 : Nat) (999999 : Int32)) ∈ lw_all := lw_g (lw_at lw_m5 23 rfl) rfl
theorem q1050 : (Jvm.Cond.methodLink "RoyalCourt$Page" (23 : Nat) ({ cls := "RoyalCourt$Page", name := "cost", desc := "(II)I" } : Jvm.MethodName)) ∈ lw_all := lw_g (lw_at lw_m5 24 rfl) rfl
theorem q1051 : (Jvm.Cond.privateMethod ({ cls := "RoyalCourt$Page", name := "cost", desc := "(II)I" } : Jvm.MethodName)) ∈ lw_tbl := lw_at lw_m5 25 rfl
theorem q1052 : (Jvm.Cond.instanceMethod ({ cls := "RoyalCourt$Page", name := "cost", desc := "(II)I" } : Jvm.MethodName)) ∈ lw_all := lw_g (lw_at lw_m5 26 rfl) rfl
theorem q1053 : (Jvm.Cond.code ({ cls := "RoyalCourt$Page", name := "cost", desc := "(II)I" } : Jvm.MethodName) prog_3_method_3_code (4 : Nat) (Option.some Jvm.ClassFile.FieldType.int)) ∈ lw_all := lw_g (lw_at lw_m5 27 rfl) rfl
theorem q1054 : (Jvm.Cond.methodLink "RoyalCourt$Page" (32 : Nat) ({ cls := "RoyalCourt$Page", name := "lengthOf", desc := "(II)I" } : Jvm.MethodName)) ∈ lw_all := lw_g (lw_at lw_m5 28 rfl) rfl
theorem q1055 : (Jvm.Cond.privateMethod ({ cls := "RoyalCourt$Page", name := "lengthOf", desc := "(II)I" } : Jvm.MethodName)) ∈ lw_tbl := lw_at lw_m5 29 rfl
theorem q1056 : (Jvm.Cond.instanceMethod ({ cls := "RoyalCourt$Page", name := "lengthOf", desc := "(II)I" } : Jvm.MethodName)) ∈ lw_all := lw_g (lw_at lw_m5 30 rfl) rfl
theorem q1057 : (Jvm.Cond.code ({ cls := "RoyalCourt$Page", name := "lengthOf", desc := "(II)I" } : Jvm.MethodName) prog_3_method_2_code (5 : Nat) (Option.some Jvm.ClassFile.FieldType.int)) ∈ lw_all := lw_g (lw_at lw_m5 31 rfl) rfl
theorem q1058 : (Jvm.Cond.methodLink "RoyalCourt$Page" (27 : Nat) ({ cls := "java/lang/Math", name := "min", desc := "(II)I" } : Jvm.MethodName)) ∈ lw_all := lw_g (lw_at lw_m5 32 rfl) rfl
theorem q1059 : (Jvm.Cond.fieldLink "RoyalCourt$Page" (9 : Nat) "RoyalCourt$Page" "width" "I") ∈ lw_all := lw_g (lw_at lw_m5 33 rfl) rfl
theorem q1060 : (Jvm.Cond.fieldLink "RoyalCourt$Page" (15 : Nat) "RoyalCourt$Page" "lengths" "[I") ∈ lw_all := lw_g (lw_at lw_m5 34 rfl) rfl
theorem q1061 : (Jvm.Cond.fieldLink "RoyalCourt$Page" (19 : Nat) "RoyalCourt$Page" "least" "[I") ∈ lw_all := lw_g (lw_at lw_m5 35 rfl) rfl
theorem q1062 : (Jvm.Cond.laysFinal "RoyalCourt$Page" "RoyalCourt$Page" "width" "I") ∈ lw_all := lw_g (lw_at lw_m5 36 rfl) rfl
theorem q1063 : (Jvm.Cond.soleField "RoyalCourt$Page" "width") ∈ lw_all := lw_g (lw_at lw_m5 37 rfl) rfl
theorem q1064 : (Jvm.Cond.laysFinal "RoyalCourt$Page" "RoyalCourt$Page" "lengths" "[I") ∈ lw_all := lw_g (lw_at lw_m5 38 rfl) rfl
theorem q1065 : (Jvm.Cond.soleField "RoyalCourt$Page" "lengths") ∈ lw_all := lw_g (lw_at lw_m5 39 rfl) rfl
theorem q1066 : (Jvm.Cond.laysFinal "RoyalCourt$Page" "RoyalCourt$Page" "least" "[I") ∈ lw_all := lw_g (lw_at lw_m5 40 rfl) rfl
theorem q1067 : (Jvm.Cond.soleField "RoyalCourt$Page" "least") ∈ lw_all := lw_g (lw_at lw_m5 41 rfl) rfl
theorem q1068 : (Jvm.Cond.superclass "RoyalCourt$Page" "java/lang/Object") ∈ lw_all := lw_g (lw_at lw_m5 42 rfl) rfl
theorem q1070 : (Jvm.Cond.instanceMethod ({ cls := "RoyalCourt$Page", name := "raggedness", desc := "()I" } : Jvm.MethodName)) ∈ lw_all := lw_g (lw_at lw_m5 44 rfl) rfl
theorem q1071 : (Jvm.Cond.selects "RoyalCourt$Page" ({ cls := "RoyalCourt$Page", name := "raggedness", desc := "()I" } : Jvm.MethodName) ({ cls := "RoyalCourt$Page", name := "raggedness", desc := "()I" } : Jvm.MethodName)) ∈ lw_all := lw_g (lw_at lw_m5 45 rfl) rfl
theorem q1072 : (Jvm.Cond.code ({ cls := "RoyalCourt$Page", name := "raggedness", desc := "()I" } : Jvm.MethodName) prog_3_method_4_code (1 : Nat) (Option.some Jvm.ClassFile.FieldType.int)) ∈ lw_all := lw_g (lw_at lw_m5 46 rfl) rfl
theorem q1074 : (Jvm.Cond.instanceMethod ({ cls := "RoyalCourt$Page", name := "raggednessByTrying", desc := "()I" } : Jvm.MethodName)) ∈ lw_all := lw_g (lw_at lw_m5 48 rfl) rfl
theorem q1075 : (Jvm.Cond.selects "RoyalCourt$Page" ({ cls := "RoyalCourt$Page", name := "raggednessByTrying", desc := "()I" } : Jvm.MethodName) ({ cls := "RoyalCourt$Page", name := "raggednessByTrying", desc := "()I" } : Jvm.MethodName)) ∈ lw_all := lw_g (lw_at lw_m5 49 rfl) rfl
theorem q1076 : (Jvm.Cond.code ({ cls := "RoyalCourt$Page", name := "raggednessByTrying", desc := "()I" } : Jvm.MethodName) prog_3_method_6_code (3 : Nat) (Option.some Jvm.ClassFile.FieldType.int)) ∈ lw_all := lw_g (lw_at lw_m5 50 rfl) rfl
theorem q1077 : (Jvm.Cond.methodLink "RoyalCourt$Page" (39 : Nat) ({ cls := "RoyalCourt$Page", name := "raggednessOf", desc := "(I)I" } : Jvm.MethodName)) ∈ lw_all := lw_g (lw_at lw_m5 51 rfl) rfl
theorem q1078 : (Jvm.Cond.privateMethod ({ cls := "RoyalCourt$Page", name := "raggednessOf", desc := "(I)I" } : Jvm.MethodName)) ∈ lw_tbl := lw_at lw_m5 52 rfl
theorem q1079 : (Jvm.Cond.instanceMethod ({ cls := "RoyalCourt$Page", name := "raggednessOf", desc := "(I)I" } : Jvm.MethodName)) ∈ lw_all := lw_g (lw_at lw_m5 53 rfl) rfl
theorem q1080 : (Jvm.Cond.code ({ cls := "RoyalCourt$Page", name := "raggednessOf", desc := "(I)I" } : Jvm.MethodName) prog_3_method_5_code (5 : Nat) (Option.some Jvm.ClassFile.FieldType.int)) ∈ lw_all := lw_g (lw_at lw_m5 54 rfl) rfl
theorem q1081 : (Jvm.Cond.methodLinkNest "RoyalCourt$Page" (35 : Nat) ({ cls := "RoyalCourt", name := "isIn", desc := "(II)Z" } : Jvm.MethodName) "RoyalCourt") ∈ lw_tbl := lw_at lw_m5 55 rfl
theorem q1639 : (Jvm.Cond.instanceMethod ({ cls := "RoyalCourt$Page", name := "lines", desc := "()[I" } : Jvm.MethodName)) ∈ lw_all := lw_g (lw_at lw_m7 133 rfl) rfl
theorem q1640 : (Jvm.Cond.selects "RoyalCourt$Page" ({ cls := "RoyalCourt$Page", name := "lines", desc := "()[I" } : Jvm.MethodName) ({ cls := "RoyalCourt$Page", name := "lines", desc := "()[I" } : Jvm.MethodName)) ∈ lw_all := lw_g (lw_at lw_m7 134 rfl) rfl
theorem q1641 : (Jvm.Cond.code ({ cls := "RoyalCourt$Page", name := "lines", desc := "()[I" } : Jvm.MethodName) prog_3_method_7_code (6 : Nat) (Option.some (Jvm.ClassFile.FieldType.array Jvm.ClassFile.FieldType.int))) ∈ lw_all := lw_g (lw_at lw_m7 135 rfl) rfl
theorem q2208 : (Jvm.Cond.castable "RoyalCourt$Page" "java/lang/Object") ∈ lw_tbl := lw_at lw_m9 222 rfl
theorem in_X9 : ∀ w ∈ wsX90, w ∈ lw_all := lw_in wsX90 [1062, 1064, 1066] (by decide +kernel) (by decide +kernel)
