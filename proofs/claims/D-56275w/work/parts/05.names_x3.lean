/-! RoyalCourtModel -/
set_option maxRecDepth 100000
def RX3 : String := "RoyalCourtModel"
def TX3 : u_T := fun k => match k with
  | 0 => ("RoyalCourtModel", "g", "[I", true)
  | 1 => ("RoyalCourtModel", "kept", "[I", true)
  | 2 => ("RoyalCourtModel", "saved", "[I", true)
  | 3 => ("RoyalCourtModel", "isSaved", "Z", false)
  | 4 => ("RoyalCourtModel", "changes", "I", false)
  | 5 => ("RoyalCourtModel", "code", "I", false)
  | 6 => ("RoyalCourtModel", "input", "[I", true)
  | 7 => ("RoyalCourtModel", "length", "I", false)
  | 8 => ("RoyalCourtModel", "fault", "I", false)
  | 9 => ("RoyalCourtModel", "signs", "[C", true)
  | 10 => ("RoyalCourtModel", "signMany", "I", false)
  | 11 => ("RoyalCourtModel", "ways", "[J", true)
  | 12 => ("RoyalCourtModel", "needs", "[I", true)
  | 13 => ("RoyalCourtModel", "walk", "[I", true)
  | 14 => ("RoyalCourtModel", "at", "I", false)
  | 15 => ("RoyalCourtModel", "one", "[I", true)
  | 16 => ("RoyalCourtModel", "several", "[I", true)
  | 17 => ("RoyalCourtModel", "place", "I", false)
  | 18 => ("RoyalCourtModel", "ragged", "[I", true)
  | _ => ("RoyalCourtModel", "nextLine", "[I", true)
def tyX3 : Nat → FieldType := fun k => match k with
  | 0 => .array .int
  | 1 => .array .int
  | 2 => .array .int
  | 3 => .boolean
  | 4 => .int
  | 5 => .int
  | 6 => .array .int
  | 7 => .int
  | 8 => .int
  | 9 => .array .char
  | 10 => .int
  | 11 => .array .long
  | 12 => .array .int
  | 13 => .array .int
  | 14 => .int
  | 15 => .array .int
  | 16 => .array .int
  | 17 => .int
  | 18 => .array .int
  | _ => .array .int
abbrev wsX30 : List Cond := u_ws RX3 TX3 20
set_option maxRecDepth 100000 in
theorem nmX3 : ∀ a, a < 20 → ∀ b, b < 20 → a ≠ b → (TX3 a).2.1 ≠ (TX3 b).2.1 := by decide +kernel
set_option maxRecDepth 100000 in
theorem tyX3_ok : ∀ k, k < 20 → parseFieldDescriptor (TX3 k).2.2.1 = some (tyX3 k) := by decide +kernel
abbrev cX3_init : ByteArray := prog_11_method_1_code
def yX3_init : MethodName := ⟨RX3, "<init>", "()V"⟩
def dkwX3_init_5 : List UInt8 := [16, 20, 79, 177]
abbrev dktX3_init_5 : List UInt8 := dkwX3_init_5 ++ []
def dkwX3_init_4 : List UInt8 := [181, 0, 43, 42, 16, 7, 188, 10, 181, 0, 46, 42, 16, 7, 188, 10, 181, 0, 49, 42, 180, 0, 7, 5]
abbrev dktX3_init_4 : List UInt8 := dkwX3_init_4 ++ dktX3_init_5
def dkwX3_init_3 : List UInt8 := [16, 8, 188, 10, 181, 0, 37, 42, 17, 2, 113, 188, 10, 181, 0, 40, 42, 17, 2, 113, 188, 10]
abbrev dktX3_init_3 : List UInt8 := dkwX3_init_3 ++ dktX3_init_4
def dkwX3_init_2 : List UInt8 := [188, 5, 181, 0, 26, 42, 17, 1, 0, 188, 11, 181, 0, 30, 42, 16, 8, 188, 10, 181, 0, 34, 42]
abbrev dktX3_init_2 : List UInt8 := dkwX3_init_2 ++ dktX3_init_3
def dkwX3_init_1 : List UInt8 := [17, 0, 188, 188, 10, 181, 0, 16, 42, 16, 24, 188, 10, 181, 0, 19, 42, 2, 181, 0, 22, 42, 16, 80]
abbrev dktX3_init_1 : List UInt8 := dkwX3_init_1 ++ dktX3_init_2
def dkwX3_init_0 : List UInt8 := [42, 183, 0, 1, 42, 17, 0, 188, 188, 10, 181, 0, 7, 42, 17, 5, 224, 188, 10, 181, 0, 13, 42]
abbrev dktX3_init_0 : List UInt8 := dkwX3_init_0 ++ dktX3_init_1
theorem dksX3_init_0 : cX3_init.data.toList.drop 0 = dktX3_init_0 := by decide +kernel
theorem dksX3_init_1 : cX3_init.data.toList.drop 23 = dktX3_init_1 := dk_seg dksX3_init_0 23 rfl rfl
theorem dksX3_init_2 : cX3_init.data.toList.drop 47 = dktX3_init_2 := dk_seg dksX3_init_1 24 rfl rfl
theorem dksX3_init_3 : cX3_init.data.toList.drop 70 = dktX3_init_3 := dk_seg dksX3_init_2 23 rfl rfl
theorem dksX3_init_4 : cX3_init.data.toList.drop 92 = dktX3_init_4 := dk_seg dksX3_init_3 22 rfl rfl
theorem dksX3_init_5 : cX3_init.data.toList.drop 116 = dktX3_init_5 := dk_seg dksX3_init_4 24 rfl rfl
theorem dX3_init_0 : decode cX3_init 0 = .ok (.aload_n 0, 1) := dk_42 (dk_at dksX3_init_0 0 rfl rfl)
theorem dX3_init_1 : decode cX3_init 1 = .ok (.invokespecial 1, 3) := dk_183 0 1 (dk_at dksX3_init_0 1 rfl rfl)
theorem dX3_init_4 : decode cX3_init 4 = .ok (.aload_n 0, 1) := dk_42 (dk_at dksX3_init_0 4 rfl rfl)
theorem dX3_init_5 : decode cX3_init 5 = .ok (.sipush 188, 3) := dk_17 0 188 (dk_at dksX3_init_0 5 rfl rfl)
theorem dX3_init_8 : decode cX3_init 8 = .ok (.newarray .int, 2) := dk_188_10 (dk_at dksX3_init_0 8 rfl rfl)
theorem dX3_init_10 : decode cX3_init 10 = .ok (.putfield 7, 3) := dk_181 0 7 (dk_at dksX3_init_0 10 rfl rfl)
theorem dX3_init_13 : decode cX3_init 13 = .ok (.aload_n 0, 1) := dk_42 (dk_at dksX3_init_0 13 rfl rfl)
theorem dX3_init_14 : decode cX3_init 14 = .ok (.sipush 1504, 3) := dk_17 5 224 (dk_at dksX3_init_0 14 rfl rfl)
theorem dX3_init_17 : decode cX3_init 17 = .ok (.newarray .int, 2) := dk_188_10 (dk_at dksX3_init_0 17 rfl rfl)
theorem dX3_init_19 : decode cX3_init 19 = .ok (.putfield 13, 3) := dk_181 0 13 (dk_at dksX3_init_0 19 rfl rfl)
theorem dX3_init_22 : decode cX3_init 22 = .ok (.aload_n 0, 1) := dk_42 (dk_at dksX3_init_0 22 rfl rfl)
theorem dX3_init_23 : decode cX3_init 23 = .ok (.sipush 188, 3) := dk_17 0 188 (dk_at dksX3_init_1 0 rfl rfl)
theorem dX3_init_26 : decode cX3_init 26 = .ok (.newarray .int, 2) := dk_188_10 (dk_at dksX3_init_1 3 rfl rfl)
theorem dX3_init_28 : decode cX3_init 28 = .ok (.putfield 16, 3) := dk_181 0 16 (dk_at dksX3_init_1 5 rfl rfl)
theorem dX3_init_31 : decode cX3_init 31 = .ok (.aload_n 0, 1) := dk_42 (dk_at dksX3_init_1 8 rfl rfl)
theorem dX3_init_32 : decode cX3_init 32 = .ok (.bipush 24, 2) := dk_16 24 (dk_at dksX3_init_1 9 rfl rfl)
theorem dX3_init_34 : decode cX3_init 34 = .ok (.newarray .int, 2) := dk_188_10 (dk_at dksX3_init_1 11 rfl rfl)
theorem dX3_init_36 : decode cX3_init 36 = .ok (.putfield 19, 3) := dk_181 0 19 (dk_at dksX3_init_1 13 rfl rfl)
theorem dX3_init_39 : decode cX3_init 39 = .ok (.aload_n 0, 1) := dk_42 (dk_at dksX3_init_1 16 rfl rfl)
theorem dX3_init_40 : decode cX3_init 40 = .ok (.iconst (-1), 1) := dk_2 (dk_at dksX3_init_1 17 rfl rfl)
theorem dX3_init_41 : decode cX3_init 41 = .ok (.putfield 22, 3) := dk_181 0 22 (dk_at dksX3_init_1 18 rfl rfl)
theorem dX3_init_44 : decode cX3_init 44 = .ok (.aload_n 0, 1) := dk_42 (dk_at dksX3_init_1 21 rfl rfl)
theorem dX3_init_45 : decode cX3_init 45 = .ok (.bipush 80, 2) := dk_16 80 (dk_at dksX3_init_1 22 rfl rfl)
theorem dX3_init_47 : decode cX3_init 47 = .ok (.newarray .char, 2) := dk_188_5 (dk_at dksX3_init_2 0 rfl rfl)
theorem dX3_init_49 : decode cX3_init 49 = .ok (.putfield 26, 3) := dk_181 0 26 (dk_at dksX3_init_2 2 rfl rfl)
theorem dX3_init_52 : decode cX3_init 52 = .ok (.aload_n 0, 1) := dk_42 (dk_at dksX3_init_2 5 rfl rfl)
theorem dX3_init_53 : decode cX3_init 53 = .ok (.sipush 256, 3) := dk_17 1 0 (dk_at dksX3_init_2 6 rfl rfl)
theorem dX3_init_56 : decode cX3_init 56 = .ok (.newarray .long, 2) := dk_188_11 (dk_at dksX3_init_2 9 rfl rfl)
theorem dX3_init_58 : decode cX3_init 58 = .ok (.putfield 30, 3) := dk_181 0 30 (dk_at dksX3_init_2 11 rfl rfl)
theorem dX3_init_61 : decode cX3_init 61 = .ok (.aload_n 0, 1) := dk_42 (dk_at dksX3_init_2 14 rfl rfl)
theorem dX3_init_62 : decode cX3_init 62 = .ok (.bipush 8, 2) := dk_16 8 (dk_at dksX3_init_2 15 rfl rfl)
theorem dX3_init_64 : decode cX3_init 64 = .ok (.newarray .int, 2) := dk_188_10 (dk_at dksX3_init_2 17 rfl rfl)
theorem dX3_init_66 : decode cX3_init 66 = .ok (.putfield 34, 3) := dk_181 0 34 (dk_at dksX3_init_2 19 rfl rfl)
theorem dX3_init_69 : decode cX3_init 69 = .ok (.aload_n 0, 1) := dk_42 (dk_at dksX3_init_2 22 rfl rfl)
theorem dX3_init_70 : decode cX3_init 70 = .ok (.bipush 8, 2) := dk_16 8 (dk_at dksX3_init_3 0 rfl rfl)
theorem dX3_init_72 : decode cX3_init 72 = .ok (.newarray .int, 2) := dk_188_10 (dk_at dksX3_init_3 2 rfl rfl)
theorem dX3_init_74 : decode cX3_init 74 = .ok (.putfield 37, 3) := dk_181 0 37 (dk_at dksX3_init_3 4 rfl rfl)
theorem dX3_init_77 : decode cX3_init 77 = .ok (.aload_n 0, 1) := dk_42 (dk_at dksX3_init_3 7 rfl rfl)
theorem dX3_init_78 : decode cX3_init 78 = .ok (.sipush 625, 3) := dk_17 2 113 (dk_at dksX3_init_3 8 rfl rfl)
theorem dX3_init_81 : decode cX3_init 81 = .ok (.newarray .int, 2) := dk_188_10 (dk_at dksX3_init_3 11 rfl rfl)
theorem dX3_init_83 : decode cX3_init 83 = .ok (.putfield 40, 3) := dk_181 0 40 (dk_at dksX3_init_3 13 rfl rfl)
theorem dX3_init_86 : decode cX3_init 86 = .ok (.aload_n 0, 1) := dk_42 (dk_at dksX3_init_3 16 rfl rfl)
theorem dX3_init_87 : decode cX3_init 87 = .ok (.sipush 625, 3) := dk_17 2 113 (dk_at dksX3_init_3 17 rfl rfl)
theorem dX3_init_90 : decode cX3_init 90 = .ok (.newarray .int, 2) := dk_188_10 (dk_at dksX3_init_3 20 rfl rfl)
theorem dX3_init_92 : decode cX3_init 92 = .ok (.putfield 43, 3) := dk_181 0 43 (dk_at dksX3_init_4 0 rfl rfl)
theorem dX3_init_95 : decode cX3_init 95 = .ok (.aload_n 0, 1) := dk_42 (dk_at dksX3_init_4 3 rfl rfl)
theorem dX3_init_96 : decode cX3_init 96 = .ok (.bipush 7, 2) := dk_16 7 (dk_at dksX3_init_4 4 rfl rfl)
theorem dX3_init_98 : decode cX3_init 98 = .ok (.newarray .int, 2) := dk_188_10 (dk_at dksX3_init_4 6 rfl rfl)
theorem dX3_init_100 : decode cX3_init 100 = .ok (.putfield 46, 3) := dk_181 0 46 (dk_at dksX3_init_4 8 rfl rfl)
theorem dX3_init_103 : decode cX3_init 103 = .ok (.aload_n 0, 1) := dk_42 (dk_at dksX3_init_4 11 rfl rfl)
theorem dX3_init_104 : decode cX3_init 104 = .ok (.bipush 7, 2) := dk_16 7 (dk_at dksX3_init_4 12 rfl rfl)
theorem dX3_init_106 : decode cX3_init 106 = .ok (.newarray .int, 2) := dk_188_10 (dk_at dksX3_init_4 14 rfl rfl)
theorem dX3_init_108 : decode cX3_init 108 = .ok (.putfield 49, 3) := dk_181 0 49 (dk_at dksX3_init_4 16 rfl rfl)
theorem dX3_init_111 : decode cX3_init 111 = .ok (.aload_n 0, 1) := dk_42 (dk_at dksX3_init_4 19 rfl rfl)
theorem dX3_init_112 : decode cX3_init 112 = .ok (.getfield 7, 3) := dk_180 0 7 (dk_at dksX3_init_4 20 rfl rfl)
theorem dX3_init_115 : decode cX3_init 115 = .ok (.iconst 2, 1) := dk_5 (dk_at dksX3_init_4 23 rfl rfl)
theorem dX3_init_116 : decode cX3_init 116 = .ok (.bipush 20, 2) := dk_16 20 (dk_at dksX3_init_5 0 rfl rfl)
theorem dX3_init_118 : decode cX3_init 118 = .ok (.iastore, 1) := dk_79 (dk_at dksX3_init_5 2 rfl rfl)
theorem dX3_init_119 : decode cX3_init 119 = .ok (.return_, 1) := dk_177 (dk_at dksX3_init_5 3 rfl rfl)
abbrev cX3_thrown : ByteArray := prog_11_method_2_code
def yX3_thrown : MethodName := ⟨RX3, "thrown", "()I"⟩
theorem dX3_thrown_0 : decode cX3_thrown 0 = .ok (.aload_n 0, 1) := by decide +kernel
theorem dX3_thrown_1 : decode cX3_thrown 1 = .ok (.getfield 52, 3) := by decide +kernel
theorem dX3_thrown_4 : decode cX3_thrown 4 = .ok (.ireturn, 1) := by decide +kernel
abbrev cX3_addCourtier : ByteArray := prog_11_method_16_code
def yX3_addCourtier : MethodName := ⟨RX3, "addCourtier", "(I)I"⟩
def dkwX3_addCourtier_3 : List UInt8 := [16, 20, 79, 42, 180, 0, 7, 3, 92, 46, 4, 96, 79, 42, 180, 0, 7, 3, 46, 4, 100, 172]
abbrev dktX3_addCourtier_3 : List UInt8 := dkwX3_addCourtier_3 ++ []
def dkwX3_addCourtier_2 : List UInt8 := [16, 8, 42, 180, 0, 7, 3, 46, 96, 27, 79, 42, 180, 0, 7, 16, 16, 42, 180, 0, 7, 3, 46, 96]
abbrev dktX3_addCourtier_2 : List UInt8 := dkwX3_addCourtier_2 ++ dktX3_addCourtier_3
def dkwX3_addCourtier_1 : List UInt8 := [160, 0, 7, 5, 167, 0, 4, 3, 182, 0, 70, 153, 0, 5, 3, 172, 42, 182, 0, 77, 42, 180, 0, 7]
abbrev dktX3_addCourtier_1 : List UInt8 := dkwX3_addCourtier_1 ++ dktX3_addCourtier_2
def dkwX3_addCourtier_0 : List UInt8 := [42, 27, 4, 16, 99, 184, 0, 62, 154, 0, 7, 4, 167, 0, 19, 42, 180, 0, 7, 3, 46, 16, 8]
abbrev dktX3_addCourtier_0 : List UInt8 := dkwX3_addCourtier_0 ++ dktX3_addCourtier_1
theorem dksX3_addCourtier_0 : cX3_addCourtier.data.toList.drop 0 = dktX3_addCourtier_0 := by decide +kernel
theorem dksX3_addCourtier_1 : cX3_addCourtier.data.toList.drop 23 = dktX3_addCourtier_1 := dk_seg dksX3_addCourtier_0 23 rfl rfl
theorem dksX3_addCourtier_2 : cX3_addCourtier.data.toList.drop 47 = dktX3_addCourtier_2 := dk_seg dksX3_addCourtier_1 24 rfl rfl
theorem dksX3_addCourtier_3 : cX3_addCourtier.data.toList.drop 71 = dktX3_addCourtier_3 := dk_seg dksX3_addCourtier_2 24 rfl rfl
theorem dX3_addCourtier_0 : decode cX3_addCourtier 0 = .ok (.aload_n 0, 1) := dk_42 (dk_at dksX3_addCourtier_0 0 rfl rfl)
theorem dX3_addCourtier_1 : decode cX3_addCourtier 1 = .ok (.iload_n 1, 1) := dk_27 (dk_at dksX3_addCourtier_0 1 rfl rfl)
theorem dX3_addCourtier_2 : decode cX3_addCourtier 2 = .ok (.iconst 1, 1) := dk_4 (dk_at dksX3_addCourtier_0 2 rfl rfl)
theorem dX3_addCourtier_3 : decode cX3_addCourtier 3 = .ok (.bipush 99, 2) := dk_16 99 (dk_at dksX3_addCourtier_0 3 rfl rfl)
theorem dX3_addCourtier_5 : decode cX3_addCourtier 5 = .ok (.invokestatic 62, 3) := dk_184 0 62 (dk_at dksX3_addCourtier_0 5 rfl rfl)
theorem dX3_addCourtier_8 : decode cX3_addCourtier 8 = .ok (.ifCond .ne 7, 3) := dk_154 0 7 (dk_at dksX3_addCourtier_0 8 rfl rfl)
theorem dX3_addCourtier_11 : decode cX3_addCourtier 11 = .ok (.iconst 1, 1) := dk_4 (dk_at dksX3_addCourtier_0 11 rfl rfl)
theorem dX3_addCourtier_12 : decode cX3_addCourtier 12 = .ok (.goto 19, 3) := dk_167 0 19 (dk_at dksX3_addCourtier_0 12 rfl rfl)
theorem dX3_addCourtier_15 : decode cX3_addCourtier 15 = .ok (.aload_n 0, 1) := dk_42 (dk_at dksX3_addCourtier_0 15 rfl rfl)
theorem dX3_addCourtier_16 : decode cX3_addCourtier 16 = .ok (.getfield 7, 3) := dk_180 0 7 (dk_at dksX3_addCourtier_0 16 rfl rfl)
theorem dX3_addCourtier_19 : decode cX3_addCourtier 19 = .ok (.iconst 0, 1) := dk_3 (dk_at dksX3_addCourtier_0 19 rfl rfl)
theorem dX3_addCourtier_20 : decode cX3_addCourtier 20 = .ok (.iaload, 1) := dk_46 (dk_at dksX3_addCourtier_0 20 rfl rfl)
theorem dX3_addCourtier_21 : decode cX3_addCourtier 21 = .ok (.bipush 8, 2) := dk_16 8 (dk_at dksX3_addCourtier_0 21 rfl rfl)
theorem dX3_addCourtier_23 : decode cX3_addCourtier 23 = .ok (.if_icmp .ne 7, 3) := dk_160 0 7 (dk_at dksX3_addCourtier_1 0 rfl rfl)
theorem dX3_addCourtier_26 : decode cX3_addCourtier 26 = .ok (.iconst 2, 1) := dk_5 (dk_at dksX3_addCourtier_1 3 rfl rfl)
theorem dX3_addCourtier_27 : decode cX3_addCourtier 27 = .ok (.goto 4, 3) := dk_167 0 4 (dk_at dksX3_addCourtier_1 4 rfl rfl)
theorem dX3_addCourtier_30 : decode cX3_addCourtier 30 = .ok (.iconst 0, 1) := dk_3 (dk_at dksX3_addCourtier_1 7 rfl rfl)
theorem dX3_addCourtier_31 : decode cX3_addCourtier 31 = .ok (.invokevirtual 70, 3) := dk_182 0 70 (dk_at dksX3_addCourtier_1 8 rfl rfl)
theorem dX3_addCourtier_34 : decode cX3_addCourtier 34 = .ok (.ifCond .eq 5, 3) := dk_153 0 5 (dk_at dksX3_addCourtier_1 11 rfl rfl)
theorem dX3_addCourtier_37 : decode cX3_addCourtier 37 = .ok (.iconst 0, 1) := dk_3 (dk_at dksX3_addCourtier_1 14 rfl rfl)
theorem dX3_addCourtier_38 : decode cX3_addCourtier 38 = .ok (.ireturn, 1) := dk_172 (dk_at dksX3_addCourtier_1 15 rfl rfl)
theorem dX3_addCourtier_39 : decode cX3_addCourtier 39 = .ok (.aload_n 0, 1) := dk_42 (dk_at dksX3_addCourtier_1 16 rfl rfl)
theorem dX3_addCourtier_40 : decode cX3_addCourtier 40 = .ok (.invokevirtual 77, 3) := dk_182 0 77 (dk_at dksX3_addCourtier_1 17 rfl rfl)
theorem dX3_addCourtier_43 : decode cX3_addCourtier 43 = .ok (.aload_n 0, 1) := dk_42 (dk_at dksX3_addCourtier_1 20 rfl rfl)
theorem dX3_addCourtier_44 : decode cX3_addCourtier 44 = .ok (.getfield 7, 3) := dk_180 0 7 (dk_at dksX3_addCourtier_1 21 rfl rfl)
theorem dX3_addCourtier_47 : decode cX3_addCourtier 47 = .ok (.bipush 8, 2) := dk_16 8 (dk_at dksX3_addCourtier_2 0 rfl rfl)
theorem dX3_addCourtier_49 : decode cX3_addCourtier 49 = .ok (.aload_n 0, 1) := dk_42 (dk_at dksX3_addCourtier_2 2 rfl rfl)
theorem dX3_addCourtier_50 : decode cX3_addCourtier 50 = .ok (.getfield 7, 3) := dk_180 0 7 (dk_at dksX3_addCourtier_2 3 rfl rfl)
theorem dX3_addCourtier_53 : decode cX3_addCourtier 53 = .ok (.iconst 0, 1) := dk_3 (dk_at dksX3_addCourtier_2 6 rfl rfl)
theorem dX3_addCourtier_54 : decode cX3_addCourtier 54 = .ok (.iaload, 1) := dk_46 (dk_at dksX3_addCourtier_2 7 rfl rfl)
theorem dX3_addCourtier_55 : decode cX3_addCourtier 55 = .ok (.iadd, 1) := dk_96 (dk_at dksX3_addCourtier_2 8 rfl rfl)
theorem dX3_addCourtier_56 : decode cX3_addCourtier 56 = .ok (.iload_n 1, 1) := dk_27 (dk_at dksX3_addCourtier_2 9 rfl rfl)
theorem dX3_addCourtier_57 : decode cX3_addCourtier 57 = .ok (.iastore, 1) := dk_79 (dk_at dksX3_addCourtier_2 10 rfl rfl)
theorem dX3_addCourtier_58 : decode cX3_addCourtier 58 = .ok (.aload_n 0, 1) := dk_42 (dk_at dksX3_addCourtier_2 11 rfl rfl)
theorem dX3_addCourtier_59 : decode cX3_addCourtier 59 = .ok (.getfield 7, 3) := dk_180 0 7 (dk_at dksX3_addCourtier_2 12 rfl rfl)
theorem dX3_addCourtier_62 : decode cX3_addCourtier 62 = .ok (.bipush 16, 2) := dk_16 16 (dk_at dksX3_addCourtier_2 15 rfl rfl)
theorem dX3_addCourtier_64 : decode cX3_addCourtier 64 = .ok (.aload_n 0, 1) := dk_42 (dk_at dksX3_addCourtier_2 17 rfl rfl)
theorem dX3_addCourtier_65 : decode cX3_addCourtier 65 = .ok (.getfield 7, 3) := dk_180 0 7 (dk_at dksX3_addCourtier_2 18 rfl rfl)
theorem dX3_addCourtier_68 : decode cX3_addCourtier 68 = .ok (.iconst 0, 1) := dk_3 (dk_at dksX3_addCourtier_2 21 rfl rfl)
theorem dX3_addCourtier_69 : decode cX3_addCourtier 69 = .ok (.iaload, 1) := dk_46 (dk_at dksX3_addCourtier_2 22 rfl rfl)
theorem dX3_addCourtier_70 : decode cX3_addCourtier 70 = .ok (.iadd, 1) := dk_96 (dk_at dksX3_addCourtier_2 23 rfl rfl)
theorem dX3_addCourtier_71 : decode cX3_addCourtier 71 = .ok (.bipush 20, 2) := dk_16 20 (dk_at dksX3_addCourtier_3 0 rfl rfl)
theorem dX3_addCourtier_73 : decode cX3_addCourtier 73 = .ok (.iastore, 1) := dk_79 (dk_at dksX3_addCourtier_3 2 rfl rfl)
theorem dX3_addCourtier_74 : decode cX3_addCourtier 74 = .ok (.aload_n 0, 1) := dk_42 (dk_at dksX3_addCourtier_3 3 rfl rfl)
theorem dX3_addCourtier_75 : decode cX3_addCourtier 75 = .ok (.getfield 7, 3) := dk_180 0 7 (dk_at dksX3_addCourtier_3 4 rfl rfl)
theorem dX3_addCourtier_78 : decode cX3_addCourtier 78 = .ok (.iconst 0, 1) := dk_3 (dk_at dksX3_addCourtier_3 7 rfl rfl)
theorem dX3_addCourtier_79 : decode cX3_addCourtier 79 = .ok (.dup2, 1) := dk_92 (dk_at dksX3_addCourtier_3 8 rfl rfl)
theorem dX3_addCourtier_80 : decode cX3_addCourtier 80 = .ok (.iaload, 1) := dk_46 (dk_at dksX3_addCourtier_3 9 rfl rfl)
theorem dX3_addCourtier_81 : decode cX3_addCourtier 81 = .ok (.iconst 1, 1) := dk_4 (dk_at dksX3_addCourtier_3 10 rfl rfl)
theorem dX3_addCourtier_82 : decode cX3_addCourtier 82 = .ok (.iadd, 1) := dk_96 (dk_at dksX3_addCourtier_3 11 rfl rfl)
theorem dX3_addCourtier_83 : decode cX3_addCourtier 83 = .ok (.iastore, 1) := dk_79 (dk_at dksX3_addCourtier_3 12 rfl rfl)
theorem dX3_addCourtier_84 : decode cX3_addCourtier 84 = .ok (.aload_n 0, 1) := dk_42 (dk_at dksX3_addCourtier_3 13 rfl rfl)
theorem dX3_addCourtier_85 : decode cX3_addCourtier 85 = .ok (.getfield 7, 3) := dk_180 0 7 (dk_at dksX3_addCourtier_3 14 rfl rfl)
theorem dX3_addCourtier_88 : decode cX3_addCourtier 88 = .ok (.iconst 0, 1) := dk_3 (dk_at dksX3_addCourtier_3 17 rfl rfl)
theorem dX3_addCourtier_89 : decode cX3_addCourtier 89 = .ok (.iaload, 1) := dk_46 (dk_at dksX3_addCourtier_3 18 rfl rfl)
theorem dX3_addCourtier_90 : decode cX3_addCourtier 90 = .ok (.iconst 1, 1) := dk_4 (dk_at dksX3_addCourtier_3 19 rfl rfl)
theorem dX3_addCourtier_91 : decode cX3_addCourtier 91 = .ok (.isub, 1) := dk_100 (dk_at dksX3_addCourtier_3 20 rfl rfl)
theorem dX3_addCourtier_92 : decode cX3_addCourtier 92 = .ok (.ireturn, 1) := dk_172 (dk_at dksX3_addCourtier_3 21 rfl rfl)
abbrev cX3_in : ByteArray := prog_11_method_4_code
def yX3_in : MethodName := ⟨RX3, "in", "(III)Z"⟩
def dkwX3_in_0 : List UInt8 := [26, 27, 161, 0, 12, 26, 28, 163, 0, 7, 4, 167, 0, 4, 3, 172]
abbrev dktX3_in_0 : List UInt8 := dkwX3_in_0 ++ []
theorem dksX3_in_0 : cX3_in.data.toList.drop 0 = dktX3_in_0 := by decide +kernel
theorem dX3_in_0 : decode cX3_in 0 = .ok (.iload_n 0, 1) := dk_26 (dk_at dksX3_in_0 0 rfl rfl)
theorem dX3_in_1 : decode cX3_in 1 = .ok (.iload_n 1, 1) := dk_27 (dk_at dksX3_in_0 1 rfl rfl)
theorem dX3_in_2 : decode cX3_in 2 = .ok (.if_icmp .lt 12, 3) := dk_161 0 12 (dk_at dksX3_in_0 2 rfl rfl)
theorem dX3_in_5 : decode cX3_in 5 = .ok (.iload_n 0, 1) := dk_26 (dk_at dksX3_in_0 5 rfl rfl)
theorem dX3_in_6 : decode cX3_in 6 = .ok (.iload_n 2, 1) := dk_28 (dk_at dksX3_in_0 6 rfl rfl)
theorem dX3_in_7 : decode cX3_in 7 = .ok (.if_icmp .gt 7, 3) := dk_163 0 7 (dk_at dksX3_in_0 7 rfl rfl)
theorem dX3_in_10 : decode cX3_in 10 = .ok (.iconst 1, 1) := dk_4 (dk_at dksX3_in_0 10 rfl rfl)
theorem dX3_in_11 : decode cX3_in 11 = .ok (.goto 4, 3) := dk_167 0 4 (dk_at dksX3_in_0 11 rfl rfl)
theorem dX3_in_14 : decode cX3_in 14 = .ok (.iconst 0, 1) := dk_3 (dk_at dksX3_in_0 14 rfl rfl)
theorem dX3_in_15 : decode cX3_in 15 = .ok (.ireturn, 1) := dk_172 (dk_at dksX3_in_0 15 rfl rfl)
abbrev cX3_fails : ByteArray := prog_11_method_3_code
def yX3_fails : MethodName := ⟨RX3, "fails", "(I)Z"⟩
def dkwX3_fails_0 : List UInt8 := [42, 27, 181, 0, 52, 27, 158, 0, 7, 4, 167, 0, 4, 3, 172]
abbrev dktX3_fails_0 : List UInt8 := dkwX3_fails_0 ++ []
theorem dksX3_fails_0 : cX3_fails.data.toList.drop 0 = dktX3_fails_0 := by decide +kernel
theorem dX3_fails_0 : decode cX3_fails 0 = .ok (.aload_n 0, 1) := dk_42 (dk_at dksX3_fails_0 0 rfl rfl)
theorem dX3_fails_1 : decode cX3_fails 1 = .ok (.iload_n 1, 1) := dk_27 (dk_at dksX3_fails_0 1 rfl rfl)
theorem dX3_fails_2 : decode cX3_fails 2 = .ok (.putfield 52, 3) := dk_181 0 52 (dk_at dksX3_fails_0 2 rfl rfl)
theorem dX3_fails_5 : decode cX3_fails 5 = .ok (.iload_n 1, 1) := dk_27 (dk_at dksX3_fails_0 5 rfl rfl)
theorem dX3_fails_6 : decode cX3_fails 6 = .ok (.ifCond .le 7, 3) := dk_158 0 7 (dk_at dksX3_fails_0 6 rfl rfl)
theorem dX3_fails_9 : decode cX3_fails 9 = .ok (.iconst 1, 1) := dk_4 (dk_at dksX3_fails_0 9 rfl rfl)
theorem dX3_fails_10 : decode cX3_fails 10 = .ok (.goto 4, 3) := dk_167 0 4 (dk_at dksX3_fails_0 10 rfl rfl)
theorem dX3_fails_13 : decode cX3_fails 13 = .ok (.iconst 0, 1) := dk_3 (dk_at dksX3_fails_0 13 rfl rfl)
theorem dX3_fails_14 : decode cX3_fails 14 = .ok (.ireturn, 1) := dk_172 (dk_at dksX3_fails_0 14 rfl rfl)
abbrev cX3_keeps : ByteArray := prog_11_method_8_code
def yX3_keeps : MethodName := ⟨RX3, "keeps", "()V"⟩
def dkwX3_keeps_3 : List UInt8 := [104, 184, 0, 58, 42, 89, 180, 0, 55, 4, 96, 181, 0, 55, 177]
abbrev dktX3_keeps_3 : List UInt8 := dkwX3_keeps_3 ++ []
def dkwX3_keeps_2 : List UInt8 := [180, 0, 55, 4, 100, 181, 0, 55, 42, 180, 0, 7, 3, 42, 180, 0, 13, 17, 0, 188, 42, 180, 0, 55]
abbrev dktX3_keeps_2 : List UInt8 := dkwX3_keeps_2 ++ dktX3_keeps_3
def dkwX3_keeps_1 : List UInt8 := [180, 0, 13, 27, 42, 180, 0, 13, 27, 17, 0, 188, 96, 46, 79, 132, 1, 1, 167, 255, 230, 42, 89]
abbrev dktX3_keeps_1 : List UInt8 := dkwX3_keeps_1 ++ dktX3_keeps_2
def dkwX3_keeps_0 : List UInt8 := [42, 3, 181, 0, 52, 42, 180, 0, 55, 16, 8, 160, 0, 44, 3, 60, 27, 17, 5, 36, 162, 0, 25, 42]
abbrev dktX3_keeps_0 : List UInt8 := dkwX3_keeps_0 ++ dktX3_keeps_1
theorem dksX3_keeps_0 : cX3_keeps.data.toList.drop 0 = dktX3_keeps_0 := by decide +kernel
theorem dksX3_keeps_1 : cX3_keeps.data.toList.drop 24 = dktX3_keeps_1 := dk_seg dksX3_keeps_0 24 rfl rfl
theorem dksX3_keeps_2 : cX3_keeps.data.toList.drop 47 = dktX3_keeps_2 := dk_seg dksX3_keeps_1 23 rfl rfl
theorem dksX3_keeps_3 : cX3_keeps.data.toList.drop 71 = dktX3_keeps_3 := dk_seg dksX3_keeps_2 24 rfl rfl
theorem dX3_keeps_0 : decode cX3_keeps 0 = .ok (.aload_n 0, 1) := dk_42 (dk_at dksX3_keeps_0 0 rfl rfl)
theorem dX3_keeps_1 : decode cX3_keeps 1 = .ok (.iconst 0, 1) := dk_3 (dk_at dksX3_keeps_0 1 rfl rfl)
theorem dX3_keeps_2 : decode cX3_keeps 2 = .ok (.putfield 52, 3) := dk_181 0 52 (dk_at dksX3_keeps_0 2 rfl rfl)
theorem dX3_keeps_5 : decode cX3_keeps 5 = .ok (.aload_n 0, 1) := dk_42 (dk_at dksX3_keeps_0 5 rfl rfl)
theorem dX3_keeps_6 : decode cX3_keeps 6 = .ok (.getfield 55, 3) := dk_180 0 55 (dk_at dksX3_keeps_0 6 rfl rfl)
theorem dX3_keeps_9 : decode cX3_keeps 9 = .ok (.bipush 8, 2) := dk_16 8 (dk_at dksX3_keeps_0 9 rfl rfl)
theorem dX3_keeps_11 : decode cX3_keeps 11 = .ok (.if_icmp .ne 44, 3) := dk_160 0 44 (dk_at dksX3_keeps_0 11 rfl rfl)
theorem dX3_keeps_14 : decode cX3_keeps 14 = .ok (.iconst 0, 1) := dk_3 (dk_at dksX3_keeps_0 14 rfl rfl)
theorem dX3_keeps_15 : decode cX3_keeps 15 = .ok (.istore_n 1, 1) := dk_60 (dk_at dksX3_keeps_0 15 rfl rfl)
theorem dX3_keeps_16 : decode cX3_keeps 16 = .ok (.iload_n 1, 1) := dk_27 (dk_at dksX3_keeps_0 16 rfl rfl)
theorem dX3_keeps_17 : decode cX3_keeps 17 = .ok (.sipush 1316, 3) := dk_17 5 36 (dk_at dksX3_keeps_0 17 rfl rfl)
theorem dX3_keeps_20 : decode cX3_keeps 20 = .ok (.if_icmp .ge 25, 3) := dk_162 0 25 (dk_at dksX3_keeps_0 20 rfl rfl)
theorem dX3_keeps_23 : decode cX3_keeps 23 = .ok (.aload_n 0, 1) := dk_42 (dk_at dksX3_keeps_0 23 rfl rfl)
theorem dX3_keeps_24 : decode cX3_keeps 24 = .ok (.getfield 13, 3) := dk_180 0 13 (dk_at dksX3_keeps_1 0 rfl rfl)
theorem dX3_keeps_27 : decode cX3_keeps 27 = .ok (.iload_n 1, 1) := dk_27 (dk_at dksX3_keeps_1 3 rfl rfl)
theorem dX3_keeps_28 : decode cX3_keeps 28 = .ok (.aload_n 0, 1) := dk_42 (dk_at dksX3_keeps_1 4 rfl rfl)
theorem dX3_keeps_29 : decode cX3_keeps 29 = .ok (.getfield 13, 3) := dk_180 0 13 (dk_at dksX3_keeps_1 5 rfl rfl)
theorem dX3_keeps_32 : decode cX3_keeps 32 = .ok (.iload_n 1, 1) := dk_27 (dk_at dksX3_keeps_1 8 rfl rfl)
theorem dX3_keeps_33 : decode cX3_keeps 33 = .ok (.sipush 188, 3) := dk_17 0 188 (dk_at dksX3_keeps_1 9 rfl rfl)
theorem dX3_keeps_36 : decode cX3_keeps 36 = .ok (.iadd, 1) := dk_96 (dk_at dksX3_keeps_1 12 rfl rfl)
theorem dX3_keeps_37 : decode cX3_keeps 37 = .ok (.iaload, 1) := dk_46 (dk_at dksX3_keeps_1 13 rfl rfl)
theorem dX3_keeps_38 : decode cX3_keeps 38 = .ok (.iastore, 1) := dk_79 (dk_at dksX3_keeps_1 14 rfl rfl)
theorem dX3_keeps_39 : decode cX3_keeps 39 = .ok (.iinc 1 1, 3) := dk_132 1 1 (dk_at dksX3_keeps_1 15 rfl rfl)
theorem dX3_keeps_42 : decode cX3_keeps 42 = .ok (.goto (-26), 3) := dk_167 255 230 (dk_at dksX3_keeps_1 18 rfl rfl)
theorem dX3_keeps_45 : decode cX3_keeps 45 = .ok (.aload_n 0, 1) := dk_42 (dk_at dksX3_keeps_1 21 rfl rfl)
theorem dX3_keeps_46 : decode cX3_keeps 46 = .ok (.dup, 1) := dk_89 (dk_at dksX3_keeps_1 22 rfl rfl)
theorem dX3_keeps_47 : decode cX3_keeps 47 = .ok (.getfield 55, 3) := dk_180 0 55 (dk_at dksX3_keeps_2 0 rfl rfl)
theorem dX3_keeps_50 : decode cX3_keeps 50 = .ok (.iconst 1, 1) := dk_4 (dk_at dksX3_keeps_2 3 rfl rfl)
theorem dX3_keeps_51 : decode cX3_keeps 51 = .ok (.isub, 1) := dk_100 (dk_at dksX3_keeps_2 4 rfl rfl)
theorem dX3_keeps_52 : decode cX3_keeps 52 = .ok (.putfield 55, 3) := dk_181 0 55 (dk_at dksX3_keeps_2 5 rfl rfl)
theorem dX3_keeps_55 : decode cX3_keeps 55 = .ok (.aload_n 0, 1) := dk_42 (dk_at dksX3_keeps_2 8 rfl rfl)
theorem dX3_keeps_56 : decode cX3_keeps 56 = .ok (.getfield 7, 3) := dk_180 0 7 (dk_at dksX3_keeps_2 9 rfl rfl)
theorem dX3_keeps_59 : decode cX3_keeps 59 = .ok (.iconst 0, 1) := dk_3 (dk_at dksX3_keeps_2 12 rfl rfl)
theorem dX3_keeps_60 : decode cX3_keeps 60 = .ok (.aload_n 0, 1) := dk_42 (dk_at dksX3_keeps_2 13 rfl rfl)
theorem dX3_keeps_61 : decode cX3_keeps 61 = .ok (.getfield 13, 3) := dk_180 0 13 (dk_at dksX3_keeps_2 14 rfl rfl)
theorem dX3_keeps_64 : decode cX3_keeps 64 = .ok (.sipush 188, 3) := dk_17 0 188 (dk_at dksX3_keeps_2 17 rfl rfl)
theorem dX3_keeps_67 : decode cX3_keeps 67 = .ok (.aload_n 0, 1) := dk_42 (dk_at dksX3_keeps_2 20 rfl rfl)
theorem dX3_keeps_68 : decode cX3_keeps 68 = .ok (.getfield 55, 3) := dk_180 0 55 (dk_at dksX3_keeps_2 21 rfl rfl)
theorem dX3_keeps_71 : decode cX3_keeps 71 = .ok (.imul, 1) := dk_104 (dk_at dksX3_keeps_3 0 rfl rfl)
theorem dX3_keeps_72 : decode cX3_keeps 72 = .ok (.invokestatic 58, 3) := dk_184 0 58 (dk_at dksX3_keeps_3 1 rfl rfl)
theorem dX3_keeps_75 : decode cX3_keeps 75 = .ok (.aload_n 0, 1) := dk_42 (dk_at dksX3_keeps_3 4 rfl rfl)
theorem dX3_keeps_76 : decode cX3_keeps 76 = .ok (.dup, 1) := dk_89 (dk_at dksX3_keeps_3 5 rfl rfl)
theorem dX3_keeps_77 : decode cX3_keeps 77 = .ok (.getfield 55, 3) := dk_180 0 55 (dk_at dksX3_keeps_3 6 rfl rfl)
theorem dX3_keeps_80 : decode cX3_keeps 80 = .ok (.iconst 1, 1) := dk_4 (dk_at dksX3_keeps_3 9 rfl rfl)
theorem dX3_keeps_81 : decode cX3_keeps 81 = .ok (.iadd, 1) := dk_96 (dk_at dksX3_keeps_3 10 rfl rfl)
theorem dX3_keeps_82 : decode cX3_keeps 82 = .ok (.putfield 55, 3) := dk_181 0 55 (dk_at dksX3_keeps_3 11 rfl rfl)
theorem dX3_keeps_85 : decode cX3_keeps 85 = .ok (.return_, 1) := dk_177 (dk_at dksX3_keeps_3 14 rfl rfl)
abbrev cX3_copies : ByteArray := prog_11_method_7_code
def yX3_copies : MethodName := ⟨RX3, "copies", "([II[II)V"⟩
def dkwX3_copies_1 : List UInt8 := [132, 4, 1, 167, 255, 233, 177]
abbrev dktX3_copies_1 : List UInt8 := dkwX3_copies_1 ++ []
def dkwX3_copies_0 : List UInt8 := [3, 54, 4, 21, 4, 17, 0, 188, 162, 0, 21, 44, 29, 21, 4, 96, 42, 27, 21, 4, 96, 46, 79]
abbrev dktX3_copies_0 : List UInt8 := dkwX3_copies_0 ++ dktX3_copies_1
theorem dksX3_copies_0 : cX3_copies.data.toList.drop 0 = dktX3_copies_0 := by decide +kernel
theorem dksX3_copies_1 : cX3_copies.data.toList.drop 23 = dktX3_copies_1 := dk_seg dksX3_copies_0 23 rfl rfl
theorem dX3_copies_0 : decode cX3_copies 0 = .ok (.iconst 0, 1) := dk_3 (dk_at dksX3_copies_0 0 rfl rfl)
theorem dX3_copies_1 : decode cX3_copies 1 = .ok (.istore 4, 2) := dk_54 4 (dk_at dksX3_copies_0 1 rfl rfl)
theorem dX3_copies_3 : decode cX3_copies 3 = .ok (.iload 4, 2) := dk_21 4 (dk_at dksX3_copies_0 3 rfl rfl)
theorem dX3_copies_5 : decode cX3_copies 5 = .ok (.sipush 188, 3) := dk_17 0 188 (dk_at dksX3_copies_0 5 rfl rfl)
theorem dX3_copies_8 : decode cX3_copies 8 = .ok (.if_icmp .ge 21, 3) := dk_162 0 21 (dk_at dksX3_copies_0 8 rfl rfl)
theorem dX3_copies_11 : decode cX3_copies 11 = .ok (.aload_n 2, 1) := dk_44 (dk_at dksX3_copies_0 11 rfl rfl)
theorem dX3_copies_12 : decode cX3_copies 12 = .ok (.iload_n 3, 1) := dk_29 (dk_at dksX3_copies_0 12 rfl rfl)
theorem dX3_copies_13 : decode cX3_copies 13 = .ok (.iload 4, 2) := dk_21 4 (dk_at dksX3_copies_0 13 rfl rfl)
theorem dX3_copies_15 : decode cX3_copies 15 = .ok (.iadd, 1) := dk_96 (dk_at dksX3_copies_0 15 rfl rfl)
theorem dX3_copies_16 : decode cX3_copies 16 = .ok (.aload_n 0, 1) := dk_42 (dk_at dksX3_copies_0 16 rfl rfl)
theorem dX3_copies_17 : decode cX3_copies 17 = .ok (.iload_n 1, 1) := dk_27 (dk_at dksX3_copies_0 17 rfl rfl)
theorem dX3_copies_18 : decode cX3_copies 18 = .ok (.iload 4, 2) := dk_21 4 (dk_at dksX3_copies_0 18 rfl rfl)
theorem dX3_copies_20 : decode cX3_copies 20 = .ok (.iadd, 1) := dk_96 (dk_at dksX3_copies_0 20 rfl rfl)
theorem dX3_copies_21 : decode cX3_copies 21 = .ok (.iaload, 1) := dk_46 (dk_at dksX3_copies_0 21 rfl rfl)
theorem dX3_copies_22 : decode cX3_copies 22 = .ok (.iastore, 1) := dk_79 (dk_at dksX3_copies_0 22 rfl rfl)
theorem dX3_copies_23 : decode cX3_copies 23 = .ok (.iinc 4 1, 3) := dk_132 4 1 (dk_at dksX3_copies_1 0 rfl rfl)
theorem dX3_copies_26 : decode cX3_copies 26 = .ok (.goto (-23), 3) := dk_167 255 233 (dk_at dksX3_copies_1 3 rfl rfl)
theorem dX3_copies_29 : decode cX3_copies 29 = .ok (.return_, 1) := dk_177 (dk_at dksX3_copies_1 6 rfl rfl)
abbrev cX3_addRule : ByteArray := prog_11_method_18_code
def yX3_addRule : MethodName := ⟨RX3, "addRule", "(II)I"⟩
def dkwX3_addRule_3 : List UInt8 := [120, 128, 79, 42, 182, 0, 90, 172]
abbrev dktX3_addRule_3 : List UInt8 := dkwX3_addRule_3 ++ []
def dkwX3_addRule_2 : List UInt8 := [182, 0, 70, 153, 0, 5, 3, 172, 42, 182, 0, 77, 42, 180, 0, 7, 16, 24, 27, 96, 92, 46, 4, 28]
abbrev dktX3_addRule_2 : List UInt8 := dkwX3_addRule_2 ++ dktX3_addRule_3
def dkwX3_addRule_1 : List UInt8 := [182, 0, 87, 154, 0, 16, 42, 28, 182, 0, 73, 27, 122, 4, 126, 4, 160, 0, 7, 6, 167, 0, 4, 3]
abbrev dktX3_addRule_1 : List UInt8 := dkwX3_addRule_1 ++ dktX3_addRule_2
def dkwX3_addRule_0 : List UInt8 := [42, 27, 28, 182, 0, 83, 154, 0, 46, 42, 27, 28, 160, 0, 7, 5, 167, 0, 30, 42, 27, 28]
abbrev dktX3_addRule_0 : List UInt8 := dkwX3_addRule_0 ++ dktX3_addRule_1
theorem dksX3_addRule_0 : cX3_addRule.data.toList.drop 0 = dktX3_addRule_0 := by decide +kernel
theorem dksX3_addRule_1 : cX3_addRule.data.toList.drop 22 = dktX3_addRule_1 := dk_seg dksX3_addRule_0 22 rfl rfl
theorem dksX3_addRule_2 : cX3_addRule.data.toList.drop 46 = dktX3_addRule_2 := dk_seg dksX3_addRule_1 24 rfl rfl
theorem dksX3_addRule_3 : cX3_addRule.data.toList.drop 70 = dktX3_addRule_3 := dk_seg dksX3_addRule_2 24 rfl rfl
theorem dX3_addRule_0 : decode cX3_addRule 0 = .ok (.aload_n 0, 1) := dk_42 (dk_at dksX3_addRule_0 0 rfl rfl)
theorem dX3_addRule_1 : decode cX3_addRule 1 = .ok (.iload_n 1, 1) := dk_27 (dk_at dksX3_addRule_0 1 rfl rfl)
theorem dX3_addRule_2 : decode cX3_addRule 2 = .ok (.iload_n 2, 1) := dk_28 (dk_at dksX3_addRule_0 2 rfl rfl)
theorem dX3_addRule_3 : decode cX3_addRule 3 = .ok (.invokevirtual 83, 3) := dk_182 0 83 (dk_at dksX3_addRule_0 3 rfl rfl)
theorem dX3_addRule_6 : decode cX3_addRule 6 = .ok (.ifCond .ne 46, 3) := dk_154 0 46 (dk_at dksX3_addRule_0 6 rfl rfl)
theorem dX3_addRule_9 : decode cX3_addRule 9 = .ok (.aload_n 0, 1) := dk_42 (dk_at dksX3_addRule_0 9 rfl rfl)
theorem dX3_addRule_10 : decode cX3_addRule 10 = .ok (.iload_n 1, 1) := dk_27 (dk_at dksX3_addRule_0 10 rfl rfl)
theorem dX3_addRule_11 : decode cX3_addRule 11 = .ok (.iload_n 2, 1) := dk_28 (dk_at dksX3_addRule_0 11 rfl rfl)
theorem dX3_addRule_12 : decode cX3_addRule 12 = .ok (.if_icmp .ne 7, 3) := dk_160 0 7 (dk_at dksX3_addRule_0 12 rfl rfl)
theorem dX3_addRule_15 : decode cX3_addRule 15 = .ok (.iconst 2, 1) := dk_5 (dk_at dksX3_addRule_0 15 rfl rfl)
theorem dX3_addRule_16 : decode cX3_addRule 16 = .ok (.goto 30, 3) := dk_167 0 30 (dk_at dksX3_addRule_0 16 rfl rfl)
theorem dX3_addRule_19 : decode cX3_addRule 19 = .ok (.aload_n 0, 1) := dk_42 (dk_at dksX3_addRule_0 19 rfl rfl)
theorem dX3_addRule_20 : decode cX3_addRule 20 = .ok (.iload_n 1, 1) := dk_27 (dk_at dksX3_addRule_0 20 rfl rfl)
theorem dX3_addRule_21 : decode cX3_addRule 21 = .ok (.iload_n 2, 1) := dk_28 (dk_at dksX3_addRule_0 21 rfl rfl)
theorem dX3_addRule_22 : decode cX3_addRule 22 = .ok (.invokevirtual 87, 3) := dk_182 0 87 (dk_at dksX3_addRule_1 0 rfl rfl)
theorem dX3_addRule_25 : decode cX3_addRule 25 = .ok (.ifCond .ne 16, 3) := dk_154 0 16 (dk_at dksX3_addRule_1 3 rfl rfl)
theorem dX3_addRule_28 : decode cX3_addRule 28 = .ok (.aload_n 0, 1) := dk_42 (dk_at dksX3_addRule_1 6 rfl rfl)
theorem dX3_addRule_29 : decode cX3_addRule 29 = .ok (.iload_n 2, 1) := dk_28 (dk_at dksX3_addRule_1 7 rfl rfl)
theorem dX3_addRule_30 : decode cX3_addRule 30 = .ok (.invokevirtual 73, 3) := dk_182 0 73 (dk_at dksX3_addRule_1 8 rfl rfl)
theorem dX3_addRule_33 : decode cX3_addRule 33 = .ok (.iload_n 1, 1) := dk_27 (dk_at dksX3_addRule_1 11 rfl rfl)
theorem dX3_addRule_34 : decode cX3_addRule 34 = .ok (.ishr, 1) := dk_122 (dk_at dksX3_addRule_1 12 rfl rfl)
theorem dX3_addRule_35 : decode cX3_addRule 35 = .ok (.iconst 1, 1) := dk_4 (dk_at dksX3_addRule_1 13 rfl rfl)
theorem dX3_addRule_36 : decode cX3_addRule 36 = .ok (.iand, 1) := dk_126 (dk_at dksX3_addRule_1 14 rfl rfl)
theorem dX3_addRule_37 : decode cX3_addRule 37 = .ok (.iconst 1, 1) := dk_4 (dk_at dksX3_addRule_1 15 rfl rfl)
theorem dX3_addRule_38 : decode cX3_addRule 38 = .ok (.if_icmp .ne 7, 3) := dk_160 0 7 (dk_at dksX3_addRule_1 16 rfl rfl)
theorem dX3_addRule_41 : decode cX3_addRule 41 = .ok (.iconst 3, 1) := dk_6 (dk_at dksX3_addRule_1 19 rfl rfl)
theorem dX3_addRule_42 : decode cX3_addRule 42 = .ok (.goto 4, 3) := dk_167 0 4 (dk_at dksX3_addRule_1 20 rfl rfl)
theorem dX3_addRule_45 : decode cX3_addRule 45 = .ok (.iconst 0, 1) := dk_3 (dk_at dksX3_addRule_1 23 rfl rfl)
theorem dX3_addRule_46 : decode cX3_addRule 46 = .ok (.invokevirtual 70, 3) := dk_182 0 70 (dk_at dksX3_addRule_2 0 rfl rfl)
theorem dX3_addRule_49 : decode cX3_addRule 49 = .ok (.ifCond .eq 5, 3) := dk_153 0 5 (dk_at dksX3_addRule_2 3 rfl rfl)
theorem dX3_addRule_52 : decode cX3_addRule 52 = .ok (.iconst 0, 1) := dk_3 (dk_at dksX3_addRule_2 6 rfl rfl)
theorem dX3_addRule_53 : decode cX3_addRule 53 = .ok (.ireturn, 1) := dk_172 (dk_at dksX3_addRule_2 7 rfl rfl)
theorem dX3_addRule_54 : decode cX3_addRule 54 = .ok (.aload_n 0, 1) := dk_42 (dk_at dksX3_addRule_2 8 rfl rfl)
theorem dX3_addRule_55 : decode cX3_addRule 55 = .ok (.invokevirtual 77, 3) := dk_182 0 77 (dk_at dksX3_addRule_2 9 rfl rfl)
theorem dX3_addRule_58 : decode cX3_addRule 58 = .ok (.aload_n 0, 1) := dk_42 (dk_at dksX3_addRule_2 12 rfl rfl)
theorem dX3_addRule_59 : decode cX3_addRule 59 = .ok (.getfield 7, 3) := dk_180 0 7 (dk_at dksX3_addRule_2 13 rfl rfl)
theorem dX3_addRule_62 : decode cX3_addRule 62 = .ok (.bipush 24, 2) := dk_16 24 (dk_at dksX3_addRule_2 16 rfl rfl)
theorem dX3_addRule_64 : decode cX3_addRule 64 = .ok (.iload_n 1, 1) := dk_27 (dk_at dksX3_addRule_2 18 rfl rfl)
theorem dX3_addRule_65 : decode cX3_addRule 65 = .ok (.iadd, 1) := dk_96 (dk_at dksX3_addRule_2 19 rfl rfl)
theorem dX3_addRule_66 : decode cX3_addRule 66 = .ok (.dup2, 1) := dk_92 (dk_at dksX3_addRule_2 20 rfl rfl)
theorem dX3_addRule_67 : decode cX3_addRule 67 = .ok (.iaload, 1) := dk_46 (dk_at dksX3_addRule_2 21 rfl rfl)
theorem dX3_addRule_68 : decode cX3_addRule 68 = .ok (.iconst 1, 1) := dk_4 (dk_at dksX3_addRule_2 22 rfl rfl)
theorem dX3_addRule_69 : decode cX3_addRule 69 = .ok (.iload_n 2, 1) := dk_28 (dk_at dksX3_addRule_2 23 rfl rfl)
theorem dX3_addRule_70 : decode cX3_addRule 70 = .ok (.ishl, 1) := dk_120 (dk_at dksX3_addRule_3 0 rfl rfl)
theorem dX3_addRule_71 : decode cX3_addRule 71 = .ok (.ior, 1) := dk_128 (dk_at dksX3_addRule_3 1 rfl rfl)
theorem dX3_addRule_72 : decode cX3_addRule 72 = .ok (.iastore, 1) := dk_79 (dk_at dksX3_addRule_3 2 rfl rfl)
theorem dX3_addRule_73 : decode cX3_addRule 73 = .ok (.aload_n 0, 1) := dk_42 (dk_at dksX3_addRule_3 3 rfl rfl)
theorem dX3_addRule_74 : decode cX3_addRule 74 = .ok (.invokevirtual 90, 3) := dk_182 0 90 (dk_at dksX3_addRule_3 4 rfl rfl)
theorem dX3_addRule_77 : decode cX3_addRule 77 = .ok (.ireturn, 1) := dk_172 (dk_at dksX3_addRule_3 7 rfl rfl)
abbrev cX3_areNone : ByteArray := prog_11_method_11_code
def yX3_areNone : MethodName := ⟨RX3, "areNone", "(II)Z"⟩
def dkwX3_areNone_1 : List UInt8 := [182, 0, 70, 172]
abbrev dktX3_areNone_1 : List UInt8 := dkwX3_areNone_1 ++ []
def dkwX3_areNone_0 : List UInt8 := [42, 42, 27, 182, 0, 66, 153, 0, 15, 42, 28, 182, 0, 66, 153, 0, 7, 3, 167, 0, 4, 4]
abbrev dktX3_areNone_0 : List UInt8 := dkwX3_areNone_0 ++ dktX3_areNone_1
theorem dksX3_areNone_0 : cX3_areNone.data.toList.drop 0 = dktX3_areNone_0 := by decide +kernel
theorem dksX3_areNone_1 : cX3_areNone.data.toList.drop 22 = dktX3_areNone_1 := dk_seg dksX3_areNone_0 22 rfl rfl
theorem dX3_areNone_0 : decode cX3_areNone 0 = .ok (.aload_n 0, 1) := dk_42 (dk_at dksX3_areNone_0 0 rfl rfl)
theorem dX3_areNone_1 : decode cX3_areNone 1 = .ok (.aload_n 0, 1) := dk_42 (dk_at dksX3_areNone_0 1 rfl rfl)
theorem dX3_areNone_2 : decode cX3_areNone 2 = .ok (.iload_n 1, 1) := dk_27 (dk_at dksX3_areNone_0 2 rfl rfl)
theorem dX3_areNone_3 : decode cX3_areNone 3 = .ok (.invokevirtual 66, 3) := dk_182 0 66 (dk_at dksX3_areNone_0 3 rfl rfl)
theorem dX3_areNone_6 : decode cX3_areNone 6 = .ok (.ifCond .eq 15, 3) := dk_153 0 15 (dk_at dksX3_areNone_0 6 rfl rfl)
theorem dX3_areNone_9 : decode cX3_areNone 9 = .ok (.aload_n 0, 1) := dk_42 (dk_at dksX3_areNone_0 9 rfl rfl)
theorem dX3_areNone_10 : decode cX3_areNone 10 = .ok (.iload_n 2, 1) := dk_28 (dk_at dksX3_areNone_0 10 rfl rfl)
theorem dX3_areNone_11 : decode cX3_areNone 11 = .ok (.invokevirtual 66, 3) := dk_182 0 66 (dk_at dksX3_areNone_0 11 rfl rfl)
theorem dX3_areNone_14 : decode cX3_areNone 14 = .ok (.ifCond .eq 7, 3) := dk_153 0 7 (dk_at dksX3_areNone_0 14 rfl rfl)
theorem dX3_areNone_17 : decode cX3_areNone 17 = .ok (.iconst 0, 1) := dk_3 (dk_at dksX3_areNone_0 17 rfl rfl)
theorem dX3_areNone_18 : decode cX3_areNone 18 = .ok (.goto 4, 3) := dk_167 0 4 (dk_at dksX3_areNone_0 18 rfl rfl)
theorem dX3_areNone_21 : decode cX3_areNone 21 = .ok (.iconst 1, 1) := dk_4 (dk_at dksX3_areNone_0 21 rfl rfl)
theorem dX3_areNone_22 : decode cX3_areNone 22 = .ok (.invokevirtual 70, 3) := dk_182 0 70 (dk_at dksX3_areNone_1 0 rfl rfl)
theorem dX3_areNone_25 : decode cX3_areNone 25 = .ok (.ireturn, 1) := dk_172 (dk_at dksX3_areNone_1 3 rfl rfl)
abbrev cX3_isCourtier : ByteArray := prog_11_method_9_code
def yX3_isCourtier : MethodName := ⟨RX3, "isCourtier", "(I)Z"⟩
def dkwX3_isCourtier_0 : List UInt8 := [27, 3, 42, 180, 0, 7, 3, 46, 4, 100, 184, 0, 62, 172]
abbrev dktX3_isCourtier_0 : List UInt8 := dkwX3_isCourtier_0 ++ []
theorem dksX3_isCourtier_0 : cX3_isCourtier.data.toList.drop 0 = dktX3_isCourtier_0 := by decide +kernel
theorem dX3_isCourtier_0 : decode cX3_isCourtier 0 = .ok (.iload_n 1, 1) := dk_27 (dk_at dksX3_isCourtier_0 0 rfl rfl)
theorem dX3_isCourtier_1 : decode cX3_isCourtier 1 = .ok (.iconst 0, 1) := dk_3 (dk_at dksX3_isCourtier_0 1 rfl rfl)
theorem dX3_isCourtier_2 : decode cX3_isCourtier 2 = .ok (.aload_n 0, 1) := dk_42 (dk_at dksX3_isCourtier_0 2 rfl rfl)
theorem dX3_isCourtier_3 : decode cX3_isCourtier 3 = .ok (.getfield 7, 3) := dk_180 0 7 (dk_at dksX3_isCourtier_0 3 rfl rfl)
theorem dX3_isCourtier_6 : decode cX3_isCourtier 6 = .ok (.iconst 0, 1) := dk_3 (dk_at dksX3_isCourtier_0 6 rfl rfl)
theorem dX3_isCourtier_7 : decode cX3_isCourtier 7 = .ok (.iaload, 1) := dk_46 (dk_at dksX3_isCourtier_0 7 rfl rfl)
theorem dX3_isCourtier_8 : decode cX3_isCourtier 8 = .ok (.iconst 1, 1) := dk_4 (dk_at dksX3_isCourtier_0 8 rfl rfl)
theorem dX3_isCourtier_9 : decode cX3_isCourtier 9 = .ok (.isub, 1) := dk_100 (dk_at dksX3_isCourtier_0 9 rfl rfl)
theorem dX3_isCourtier_10 : decode cX3_isCourtier 10 = .ok (.invokestatic 62, 3) := dk_184 0 62 (dk_at dksX3_isCourtier_0 10 rfl rfl)
theorem dX3_isCourtier_13 : decode cX3_isCourtier 13 = .ok (.ireturn, 1) := dk_172 (dk_at dksX3_isCourtier_0 13 rfl rfl)
abbrev cX3_isRule : ByteArray := prog_11_method_12_code
def yX3_isRule : MethodName := ⟨RX3, "isRule", "(II)Z"⟩
def dkwX3_isRule_0 : List UInt8 := [42, 180, 0, 7, 16, 24, 27, 96, 46, 28, 122, 4, 126, 4, 160, 0, 7, 4, 167, 0, 4, 3, 172]
abbrev dktX3_isRule_0 : List UInt8 := dkwX3_isRule_0 ++ []
theorem dksX3_isRule_0 : cX3_isRule.data.toList.drop 0 = dktX3_isRule_0 := by decide +kernel
theorem dX3_isRule_0 : decode cX3_isRule 0 = .ok (.aload_n 0, 1) := dk_42 (dk_at dksX3_isRule_0 0 rfl rfl)
theorem dX3_isRule_1 : decode cX3_isRule 1 = .ok (.getfield 7, 3) := dk_180 0 7 (dk_at dksX3_isRule_0 1 rfl rfl)
theorem dX3_isRule_4 : decode cX3_isRule 4 = .ok (.bipush 24, 2) := dk_16 24 (dk_at dksX3_isRule_0 4 rfl rfl)
theorem dX3_isRule_6 : decode cX3_isRule 6 = .ok (.iload_n 1, 1) := dk_27 (dk_at dksX3_isRule_0 6 rfl rfl)
theorem dX3_isRule_7 : decode cX3_isRule 7 = .ok (.iadd, 1) := dk_96 (dk_at dksX3_isRule_0 7 rfl rfl)
theorem dX3_isRule_8 : decode cX3_isRule 8 = .ok (.iaload, 1) := dk_46 (dk_at dksX3_isRule_0 8 rfl rfl)
theorem dX3_isRule_9 : decode cX3_isRule 9 = .ok (.iload_n 2, 1) := dk_28 (dk_at dksX3_isRule_0 9 rfl rfl)
theorem dX3_isRule_10 : decode cX3_isRule 10 = .ok (.ishr, 1) := dk_122 (dk_at dksX3_isRule_0 10 rfl rfl)
theorem dX3_isRule_11 : decode cX3_isRule 11 = .ok (.iconst 1, 1) := dk_4 (dk_at dksX3_isRule_0 11 rfl rfl)
theorem dX3_isRule_12 : decode cX3_isRule 12 = .ok (.iand, 1) := dk_126 (dk_at dksX3_isRule_0 12 rfl rfl)
theorem dX3_isRule_13 : decode cX3_isRule 13 = .ok (.iconst 1, 1) := dk_4 (dk_at dksX3_isRule_0 13 rfl rfl)
theorem dX3_isRule_14 : decode cX3_isRule 14 = .ok (.if_icmp .ne 7, 3) := dk_160 0 7 (dk_at dksX3_isRule_0 14 rfl rfl)
theorem dX3_isRule_17 : decode cX3_isRule 17 = .ok (.iconst 1, 1) := dk_4 (dk_at dksX3_isRule_0 17 rfl rfl)
theorem dX3_isRule_18 : decode cX3_isRule 18 = .ok (.goto 4, 3) := dk_167 0 4 (dk_at dksX3_isRule_0 18 rfl rfl)
theorem dX3_isRule_21 : decode cX3_isRule 21 = .ok (.iconst 0, 1) := dk_3 (dk_at dksX3_isRule_0 21 rfl rfl)
theorem dX3_isRule_22 : decode cX3_isRule 22 = .ok (.ireturn, 1) := dk_172 (dk_at dksX3_isRule_0 22 rfl rfl)
abbrev cX3_behind : ByteArray := prog_11_method_13_code
def yX3_behind : MethodName := ⟨RX3, "behind", "(I)I"⟩
def dkwX3_behind_2 : List UInt8 := [96, 46, 128, 61, 132, 4, 1, 167, 255, 223, 167, 255, 210, 28, 172]
abbrev dktX3_behind_2 : List UInt8 := dkwX3_behind_2 ++ []
def dkwX3_behind_1 : List UInt8 := [16, 8, 162, 0, 32, 29, 21, 4, 122, 4, 126, 4, 160, 0, 16, 28, 42, 180, 0, 7, 16, 24, 21, 4]
abbrev dktX3_behind_1 : List UInt8 := dkwX3_behind_1 ++ dktX3_behind_2
def dkwX3_behind_0 : List UInt8 := [42, 180, 0, 7, 16, 24, 27, 96, 46, 61, 2, 62, 28, 29, 159, 0, 47, 28, 62, 3, 54, 4, 21, 4]
abbrev dktX3_behind_0 : List UInt8 := dkwX3_behind_0 ++ dktX3_behind_1
theorem dksX3_behind_0 : cX3_behind.data.toList.drop 0 = dktX3_behind_0 := by decide +kernel
theorem dksX3_behind_1 : cX3_behind.data.toList.drop 24 = dktX3_behind_1 := dk_seg dksX3_behind_0 24 rfl rfl
theorem dksX3_behind_2 : cX3_behind.data.toList.drop 48 = dktX3_behind_2 := dk_seg dksX3_behind_1 24 rfl rfl
theorem dX3_behind_0 : decode cX3_behind 0 = .ok (.aload_n 0, 1) := dk_42 (dk_at dksX3_behind_0 0 rfl rfl)
theorem dX3_behind_1 : decode cX3_behind 1 = .ok (.getfield 7, 3) := dk_180 0 7 (dk_at dksX3_behind_0 1 rfl rfl)
theorem dX3_behind_4 : decode cX3_behind 4 = .ok (.bipush 24, 2) := dk_16 24 (dk_at dksX3_behind_0 4 rfl rfl)
theorem dX3_behind_6 : decode cX3_behind 6 = .ok (.iload_n 1, 1) := dk_27 (dk_at dksX3_behind_0 6 rfl rfl)
theorem dX3_behind_7 : decode cX3_behind 7 = .ok (.iadd, 1) := dk_96 (dk_at dksX3_behind_0 7 rfl rfl)
theorem dX3_behind_8 : decode cX3_behind 8 = .ok (.iaload, 1) := dk_46 (dk_at dksX3_behind_0 8 rfl rfl)
theorem dX3_behind_9 : decode cX3_behind 9 = .ok (.istore_n 2, 1) := dk_61 (dk_at dksX3_behind_0 9 rfl rfl)
theorem dX3_behind_10 : decode cX3_behind 10 = .ok (.iconst (-1), 1) := dk_2 (dk_at dksX3_behind_0 10 rfl rfl)
theorem dX3_behind_11 : decode cX3_behind 11 = .ok (.istore_n 3, 1) := dk_62 (dk_at dksX3_behind_0 11 rfl rfl)
theorem dX3_behind_12 : decode cX3_behind 12 = .ok (.iload_n 2, 1) := dk_28 (dk_at dksX3_behind_0 12 rfl rfl)
theorem dX3_behind_13 : decode cX3_behind 13 = .ok (.iload_n 3, 1) := dk_29 (dk_at dksX3_behind_0 13 rfl rfl)
theorem dX3_behind_14 : decode cX3_behind 14 = .ok (.if_icmp .eq 47, 3) := dk_159 0 47 (dk_at dksX3_behind_0 14 rfl rfl)
theorem dX3_behind_17 : decode cX3_behind 17 = .ok (.iload_n 2, 1) := dk_28 (dk_at dksX3_behind_0 17 rfl rfl)
theorem dX3_behind_18 : decode cX3_behind 18 = .ok (.istore_n 3, 1) := dk_62 (dk_at dksX3_behind_0 18 rfl rfl)
theorem dX3_behind_19 : decode cX3_behind 19 = .ok (.iconst 0, 1) := dk_3 (dk_at dksX3_behind_0 19 rfl rfl)
theorem dX3_behind_20 : decode cX3_behind 20 = .ok (.istore 4, 2) := dk_54 4 (dk_at dksX3_behind_0 20 rfl rfl)
theorem dX3_behind_22 : decode cX3_behind 22 = .ok (.iload 4, 2) := dk_21 4 (dk_at dksX3_behind_0 22 rfl rfl)
theorem dX3_behind_24 : decode cX3_behind 24 = .ok (.bipush 8, 2) := dk_16 8 (dk_at dksX3_behind_1 0 rfl rfl)
theorem dX3_behind_26 : decode cX3_behind 26 = .ok (.if_icmp .ge 32, 3) := dk_162 0 32 (dk_at dksX3_behind_1 2 rfl rfl)
theorem dX3_behind_29 : decode cX3_behind 29 = .ok (.iload_n 3, 1) := dk_29 (dk_at dksX3_behind_1 5 rfl rfl)
theorem dX3_behind_30 : decode cX3_behind 30 = .ok (.iload 4, 2) := dk_21 4 (dk_at dksX3_behind_1 6 rfl rfl)
theorem dX3_behind_32 : decode cX3_behind 32 = .ok (.ishr, 1) := dk_122 (dk_at dksX3_behind_1 8 rfl rfl)
theorem dX3_behind_33 : decode cX3_behind 33 = .ok (.iconst 1, 1) := dk_4 (dk_at dksX3_behind_1 9 rfl rfl)
theorem dX3_behind_34 : decode cX3_behind 34 = .ok (.iand, 1) := dk_126 (dk_at dksX3_behind_1 10 rfl rfl)
theorem dX3_behind_35 : decode cX3_behind 35 = .ok (.iconst 1, 1) := dk_4 (dk_at dksX3_behind_1 11 rfl rfl)
theorem dX3_behind_36 : decode cX3_behind 36 = .ok (.if_icmp .ne 16, 3) := dk_160 0 16 (dk_at dksX3_behind_1 12 rfl rfl)
theorem dX3_behind_39 : decode cX3_behind 39 = .ok (.iload_n 2, 1) := dk_28 (dk_at dksX3_behind_1 15 rfl rfl)
theorem dX3_behind_40 : decode cX3_behind 40 = .ok (.aload_n 0, 1) := dk_42 (dk_at dksX3_behind_1 16 rfl rfl)
theorem dX3_behind_41 : decode cX3_behind 41 = .ok (.getfield 7, 3) := dk_180 0 7 (dk_at dksX3_behind_1 17 rfl rfl)
theorem dX3_behind_44 : decode cX3_behind 44 = .ok (.bipush 24, 2) := dk_16 24 (dk_at dksX3_behind_1 20 rfl rfl)
theorem dX3_behind_46 : decode cX3_behind 46 = .ok (.iload 4, 2) := dk_21 4 (dk_at dksX3_behind_1 22 rfl rfl)
theorem dX3_behind_48 : decode cX3_behind 48 = .ok (.iadd, 1) := dk_96 (dk_at dksX3_behind_2 0 rfl rfl)
theorem dX3_behind_49 : decode cX3_behind 49 = .ok (.iaload, 1) := dk_46 (dk_at dksX3_behind_2 1 rfl rfl)
theorem dX3_behind_50 : decode cX3_behind 50 = .ok (.ior, 1) := dk_128 (dk_at dksX3_behind_2 2 rfl rfl)
theorem dX3_behind_51 : decode cX3_behind 51 = .ok (.istore_n 2, 1) := dk_61 (dk_at dksX3_behind_2 3 rfl rfl)
theorem dX3_behind_52 : decode cX3_behind 52 = .ok (.iinc 4 1, 3) := dk_132 4 1 (dk_at dksX3_behind_2 4 rfl rfl)
theorem dX3_behind_55 : decode cX3_behind 55 = .ok (.goto (-33), 3) := dk_167 255 223 (dk_at dksX3_behind_2 7 rfl rfl)
theorem dX3_behind_58 : decode cX3_behind 58 = .ok (.goto (-46), 3) := dk_167 255 210 (dk_at dksX3_behind_2 10 rfl rfl)
theorem dX3_behind_61 : decode cX3_behind 61 = .ok (.iload_n 2, 1) := dk_28 (dk_at dksX3_behind_2 13 rfl rfl)
theorem dX3_behind_62 : decode cX3_behind 62 = .ok (.ireturn, 1) := dk_172 (dk_at dksX3_behind_2 14 rfl rfl)
abbrev cX3_rules : ByteArray := prog_11_method_17_code
def yX3_rules : MethodName := ⟨RX3, "rules", "()I"⟩
def dkwX3_rules_1 : List UInt8 := [60, 132, 2, 1, 167, 255, 232, 27, 172]
abbrev dktX3_rules_1 : List UInt8 := dkwX3_rules_1 ++ []
def dkwX3_rules_0 : List UInt8 := [3, 60, 3, 61, 28, 16, 8, 162, 0, 24, 27, 42, 180, 0, 7, 16, 24, 28, 96, 46, 184, 0, 80, 96]
abbrev dktX3_rules_0 : List UInt8 := dkwX3_rules_0 ++ dktX3_rules_1
theorem dksX3_rules_0 : cX3_rules.data.toList.drop 0 = dktX3_rules_0 := by decide +kernel
theorem dksX3_rules_1 : cX3_rules.data.toList.drop 24 = dktX3_rules_1 := dk_seg dksX3_rules_0 24 rfl rfl
theorem dX3_rules_0 : decode cX3_rules 0 = .ok (.iconst 0, 1) := dk_3 (dk_at dksX3_rules_0 0 rfl rfl)
theorem dX3_rules_1 : decode cX3_rules 1 = .ok (.istore_n 1, 1) := dk_60 (dk_at dksX3_rules_0 1 rfl rfl)
theorem dX3_rules_2 : decode cX3_rules 2 = .ok (.iconst 0, 1) := dk_3 (dk_at dksX3_rules_0 2 rfl rfl)
theorem dX3_rules_3 : decode cX3_rules 3 = .ok (.istore_n 2, 1) := dk_61 (dk_at dksX3_rules_0 3 rfl rfl)
theorem dX3_rules_4 : decode cX3_rules 4 = .ok (.iload_n 2, 1) := dk_28 (dk_at dksX3_rules_0 4 rfl rfl)
theorem dX3_rules_5 : decode cX3_rules 5 = .ok (.bipush 8, 2) := dk_16 8 (dk_at dksX3_rules_0 5 rfl rfl)
theorem dX3_rules_7 : decode cX3_rules 7 = .ok (.if_icmp .ge 24, 3) := dk_162 0 24 (dk_at dksX3_rules_0 7 rfl rfl)
theorem dX3_rules_10 : decode cX3_rules 10 = .ok (.iload_n 1, 1) := dk_27 (dk_at dksX3_rules_0 10 rfl rfl)
theorem dX3_rules_11 : decode cX3_rules 11 = .ok (.aload_n 0, 1) := dk_42 (dk_at dksX3_rules_0 11 rfl rfl)
theorem dX3_rules_12 : decode cX3_rules 12 = .ok (.getfield 7, 3) := dk_180 0 7 (dk_at dksX3_rules_0 12 rfl rfl)
theorem dX3_rules_15 : decode cX3_rules 15 = .ok (.bipush 24, 2) := dk_16 24 (dk_at dksX3_rules_0 15 rfl rfl)
theorem dX3_rules_17 : decode cX3_rules 17 = .ok (.iload_n 2, 1) := dk_28 (dk_at dksX3_rules_0 17 rfl rfl)
theorem dX3_rules_18 : decode cX3_rules 18 = .ok (.iadd, 1) := dk_96 (dk_at dksX3_rules_0 18 rfl rfl)
theorem dX3_rules_19 : decode cX3_rules 19 = .ok (.iaload, 1) := dk_46 (dk_at dksX3_rules_0 19 rfl rfl)
theorem dX3_rules_20 : decode cX3_rules 20 = .ok (.invokestatic 80, 3) := dk_184 0 80 (dk_at dksX3_rules_0 20 rfl rfl)
theorem dX3_rules_23 : decode cX3_rules 23 = .ok (.iadd, 1) := dk_96 (dk_at dksX3_rules_0 23 rfl rfl)
theorem dX3_rules_24 : decode cX3_rules 24 = .ok (.istore_n 1, 1) := dk_60 (dk_at dksX3_rules_1 0 rfl rfl)
theorem dX3_rules_25 : decode cX3_rules 25 = .ok (.iinc 2 1, 3) := dk_132 2 1 (dk_at dksX3_rules_1 1 rfl rfl)
theorem dX3_rules_28 : decode cX3_rules 28 = .ok (.goto (-24), 3) := dk_167 255 232 (dk_at dksX3_rules_1 4 rfl rfl)
theorem dX3_rules_31 : decode cX3_rules 31 = .ok (.iload_n 1, 1) := dk_27 (dk_at dksX3_rules_1 7 rfl rfl)
theorem dX3_rules_32 : decode cX3_rules 32 = .ok (.ireturn, 1) := dk_172 (dk_at dksX3_rules_1 8 rfl rfl)
abbrev cX3_bits : ByteArray := prog_11_method_15_code
def yX3_bits : MethodName := ⟨RX3, "bits", "(I)I"⟩
def dkwX3_bits_1 : List UInt8 := [27, 172]
abbrev dktX3_bits_1 : List UInt8 := dkwX3_bits_1 ++ []
def dkwX3_bits_0 : List UInt8 := [3, 60, 3, 61, 28, 16, 8, 162, 0, 17, 27, 26, 28, 122, 4, 126, 96, 60, 132, 2, 1, 167, 255, 239]
abbrev dktX3_bits_0 : List UInt8 := dkwX3_bits_0 ++ dktX3_bits_1
theorem dksX3_bits_0 : cX3_bits.data.toList.drop 0 = dktX3_bits_0 := by decide +kernel
theorem dksX3_bits_1 : cX3_bits.data.toList.drop 24 = dktX3_bits_1 := dk_seg dksX3_bits_0 24 rfl rfl
theorem dX3_bits_0 : decode cX3_bits 0 = .ok (.iconst 0, 1) := dk_3 (dk_at dksX3_bits_0 0 rfl rfl)
theorem dX3_bits_1 : decode cX3_bits 1 = .ok (.istore_n 1, 1) := dk_60 (dk_at dksX3_bits_0 1 rfl rfl)
theorem dX3_bits_2 : decode cX3_bits 2 = .ok (.iconst 0, 1) := dk_3 (dk_at dksX3_bits_0 2 rfl rfl)
theorem dX3_bits_3 : decode cX3_bits 3 = .ok (.istore_n 2, 1) := dk_61 (dk_at dksX3_bits_0 3 rfl rfl)
theorem dX3_bits_4 : decode cX3_bits 4 = .ok (.iload_n 2, 1) := dk_28 (dk_at dksX3_bits_0 4 rfl rfl)
theorem dX3_bits_5 : decode cX3_bits 5 = .ok (.bipush 8, 2) := dk_16 8 (dk_at dksX3_bits_0 5 rfl rfl)
theorem dX3_bits_7 : decode cX3_bits 7 = .ok (.if_icmp .ge 17, 3) := dk_162 0 17 (dk_at dksX3_bits_0 7 rfl rfl)
theorem dX3_bits_10 : decode cX3_bits 10 = .ok (.iload_n 1, 1) := dk_27 (dk_at dksX3_bits_0 10 rfl rfl)
theorem dX3_bits_11 : decode cX3_bits 11 = .ok (.iload_n 0, 1) := dk_26 (dk_at dksX3_bits_0 11 rfl rfl)
theorem dX3_bits_12 : decode cX3_bits 12 = .ok (.iload_n 2, 1) := dk_28 (dk_at dksX3_bits_0 12 rfl rfl)
theorem dX3_bits_13 : decode cX3_bits 13 = .ok (.ishr, 1) := dk_122 (dk_at dksX3_bits_0 13 rfl rfl)
theorem dX3_bits_14 : decode cX3_bits 14 = .ok (.iconst 1, 1) := dk_4 (dk_at dksX3_bits_0 14 rfl rfl)
theorem dX3_bits_15 : decode cX3_bits 15 = .ok (.iand, 1) := dk_126 (dk_at dksX3_bits_0 15 rfl rfl)
theorem dX3_bits_16 : decode cX3_bits 16 = .ok (.iadd, 1) := dk_96 (dk_at dksX3_bits_0 16 rfl rfl)
theorem dX3_bits_17 : decode cX3_bits 17 = .ok (.istore_n 1, 1) := dk_60 (dk_at dksX3_bits_0 17 rfl rfl)
theorem dX3_bits_18 : decode cX3_bits 18 = .ok (.iinc 2 1, 3) := dk_132 2 1 (dk_at dksX3_bits_0 18 rfl rfl)
theorem dX3_bits_21 : decode cX3_bits 21 = .ok (.goto (-17), 3) := dk_167 255 239 (dk_at dksX3_bits_0 21 rfl rfl)
theorem dX3_bits_24 : decode cX3_bits 24 = .ok (.iload_n 1, 1) := dk_27 (dk_at dksX3_bits_1 0 rfl rfl)
theorem dX3_bits_25 : decode cX3_bits 25 = .ok (.ireturn, 1) := dk_172 (dk_at dksX3_bits_1 1 rfl rfl)
abbrev cX3_removeRule : ByteArray := prog_11_method_19_code
def yX3_removeRule : MethodName := ⟨RX3, "removeRule", "(II)I"⟩
def dkwX3_removeRule_2 : List UInt8 := [120, 130, 79, 42, 182, 0, 90, 172]
abbrev dktX3_removeRule_2 : List UInt8 := dkwX3_removeRule_2 ++ []
def dkwX3_removeRule_1 : List UInt8 := [182, 0, 70, 153, 0, 5, 3, 172, 42, 182, 0, 77, 42, 180, 0, 7, 16, 24, 27, 96, 92, 46, 4, 28]
abbrev dktX3_removeRule_1 : List UInt8 := dkwX3_removeRule_1 ++ dktX3_removeRule_2
def dkwX3_removeRule_0 : List UInt8 := [42, 27, 28, 182, 0, 83, 154, 0, 24, 42, 42, 27, 28, 182, 0, 87, 153, 0, 7, 3, 167, 0, 4, 5]
abbrev dktX3_removeRule_0 : List UInt8 := dkwX3_removeRule_0 ++ dktX3_removeRule_1
theorem dksX3_removeRule_0 : cX3_removeRule.data.toList.drop 0 = dktX3_removeRule_0 := by decide +kernel
theorem dksX3_removeRule_1 : cX3_removeRule.data.toList.drop 24 = dktX3_removeRule_1 := dk_seg dksX3_removeRule_0 24 rfl rfl
theorem dksX3_removeRule_2 : cX3_removeRule.data.toList.drop 48 = dktX3_removeRule_2 := dk_seg dksX3_removeRule_1 24 rfl rfl
theorem dX3_removeRule_0 : decode cX3_removeRule 0 = .ok (.aload_n 0, 1) := dk_42 (dk_at dksX3_removeRule_0 0 rfl rfl)
theorem dX3_removeRule_1 : decode cX3_removeRule 1 = .ok (.iload_n 1, 1) := dk_27 (dk_at dksX3_removeRule_0 1 rfl rfl)
theorem dX3_removeRule_2 : decode cX3_removeRule 2 = .ok (.iload_n 2, 1) := dk_28 (dk_at dksX3_removeRule_0 2 rfl rfl)
theorem dX3_removeRule_3 : decode cX3_removeRule 3 = .ok (.invokevirtual 83, 3) := dk_182 0 83 (dk_at dksX3_removeRule_0 3 rfl rfl)
theorem dX3_removeRule_6 : decode cX3_removeRule 6 = .ok (.ifCond .ne 24, 3) := dk_154 0 24 (dk_at dksX3_removeRule_0 6 rfl rfl)
theorem dX3_removeRule_9 : decode cX3_removeRule 9 = .ok (.aload_n 0, 1) := dk_42 (dk_at dksX3_removeRule_0 9 rfl rfl)
theorem dX3_removeRule_10 : decode cX3_removeRule 10 = .ok (.aload_n 0, 1) := dk_42 (dk_at dksX3_removeRule_0 10 rfl rfl)
theorem dX3_removeRule_11 : decode cX3_removeRule 11 = .ok (.iload_n 1, 1) := dk_27 (dk_at dksX3_removeRule_0 11 rfl rfl)
theorem dX3_removeRule_12 : decode cX3_removeRule 12 = .ok (.iload_n 2, 1) := dk_28 (dk_at dksX3_removeRule_0 12 rfl rfl)
theorem dX3_removeRule_13 : decode cX3_removeRule 13 = .ok (.invokevirtual 87, 3) := dk_182 0 87 (dk_at dksX3_removeRule_0 13 rfl rfl)
theorem dX3_removeRule_16 : decode cX3_removeRule 16 = .ok (.ifCond .eq 7, 3) := dk_153 0 7 (dk_at dksX3_removeRule_0 16 rfl rfl)
theorem dX3_removeRule_19 : decode cX3_removeRule 19 = .ok (.iconst 0, 1) := dk_3 (dk_at dksX3_removeRule_0 19 rfl rfl)
theorem dX3_removeRule_20 : decode cX3_removeRule 20 = .ok (.goto 4, 3) := dk_167 0 4 (dk_at dksX3_removeRule_0 20 rfl rfl)
theorem dX3_removeRule_23 : decode cX3_removeRule 23 = .ok (.iconst 2, 1) := dk_5 (dk_at dksX3_removeRule_0 23 rfl rfl)
theorem dX3_removeRule_24 : decode cX3_removeRule 24 = .ok (.invokevirtual 70, 3) := dk_182 0 70 (dk_at dksX3_removeRule_1 0 rfl rfl)
theorem dX3_removeRule_27 : decode cX3_removeRule 27 = .ok (.ifCond .eq 5, 3) := dk_153 0 5 (dk_at dksX3_removeRule_1 3 rfl rfl)
theorem dX3_removeRule_30 : decode cX3_removeRule 30 = .ok (.iconst 0, 1) := dk_3 (dk_at dksX3_removeRule_1 6 rfl rfl)
theorem dX3_removeRule_31 : decode cX3_removeRule 31 = .ok (.ireturn, 1) := dk_172 (dk_at dksX3_removeRule_1 7 rfl rfl)
theorem dX3_removeRule_32 : decode cX3_removeRule 32 = .ok (.aload_n 0, 1) := dk_42 (dk_at dksX3_removeRule_1 8 rfl rfl)
theorem dX3_removeRule_33 : decode cX3_removeRule 33 = .ok (.invokevirtual 77, 3) := dk_182 0 77 (dk_at dksX3_removeRule_1 9 rfl rfl)
theorem dX3_removeRule_36 : decode cX3_removeRule 36 = .ok (.aload_n 0, 1) := dk_42 (dk_at dksX3_removeRule_1 12 rfl rfl)
theorem dX3_removeRule_37 : decode cX3_removeRule 37 = .ok (.getfield 7, 3) := dk_180 0 7 (dk_at dksX3_removeRule_1 13 rfl rfl)
theorem dX3_removeRule_40 : decode cX3_removeRule 40 = .ok (.bipush 24, 2) := dk_16 24 (dk_at dksX3_removeRule_1 16 rfl rfl)
theorem dX3_removeRule_42 : decode cX3_removeRule 42 = .ok (.iload_n 1, 1) := dk_27 (dk_at dksX3_removeRule_1 18 rfl rfl)
theorem dX3_removeRule_43 : decode cX3_removeRule 43 = .ok (.iadd, 1) := dk_96 (dk_at dksX3_removeRule_1 19 rfl rfl)
theorem dX3_removeRule_44 : decode cX3_removeRule 44 = .ok (.dup2, 1) := dk_92 (dk_at dksX3_removeRule_1 20 rfl rfl)
theorem dX3_removeRule_45 : decode cX3_removeRule 45 = .ok (.iaload, 1) := dk_46 (dk_at dksX3_removeRule_1 21 rfl rfl)
theorem dX3_removeRule_46 : decode cX3_removeRule 46 = .ok (.iconst 1, 1) := dk_4 (dk_at dksX3_removeRule_1 22 rfl rfl)
theorem dX3_removeRule_47 : decode cX3_removeRule 47 = .ok (.iload_n 2, 1) := dk_28 (dk_at dksX3_removeRule_1 23 rfl rfl)
theorem dX3_removeRule_48 : decode cX3_removeRule 48 = .ok (.ishl, 1) := dk_120 (dk_at dksX3_removeRule_2 0 rfl rfl)
theorem dX3_removeRule_49 : decode cX3_removeRule 49 = .ok (.ixor, 1) := dk_130 (dk_at dksX3_removeRule_2 1 rfl rfl)
theorem dX3_removeRule_50 : decode cX3_removeRule 50 = .ok (.iastore, 1) := dk_79 (dk_at dksX3_removeRule_2 2 rfl rfl)
theorem dX3_removeRule_51 : decode cX3_removeRule 51 = .ok (.aload_n 0, 1) := dk_42 (dk_at dksX3_removeRule_2 3 rfl rfl)
theorem dX3_removeRule_52 : decode cX3_removeRule 52 = .ok (.invokevirtual 90, 3) := dk_182 0 90 (dk_at dksX3_removeRule_2 4 rfl rfl)
theorem dX3_removeRule_55 : decode cX3_removeRule 55 = .ok (.ireturn, 1) := dk_172 (dk_at dksX3_removeRule_2 7 rfl rfl)
abbrev cX3_courtierCount : ByteArray := prog_11_method_20_code
def yX3_courtierCount : MethodName := ⟨RX3, "courtierCount", "()I"⟩
def dkwX3_courtierCount_0 : List UInt8 := [42, 3, 181, 0, 52, 42, 180, 0, 7, 3, 46, 172]
abbrev dktX3_courtierCount_0 : List UInt8 := dkwX3_courtierCount_0 ++ []
theorem dksX3_courtierCount_0 : cX3_courtierCount.data.toList.drop 0 = dktX3_courtierCount_0 := by decide +kernel
theorem dX3_courtierCount_0 : decode cX3_courtierCount 0 = .ok (.aload_n 0, 1) := dk_42 (dk_at dksX3_courtierCount_0 0 rfl rfl)
theorem dX3_courtierCount_1 : decode cX3_courtierCount 1 = .ok (.iconst 0, 1) := dk_3 (dk_at dksX3_courtierCount_0 1 rfl rfl)
theorem dX3_courtierCount_2 : decode cX3_courtierCount 2 = .ok (.putfield 52, 3) := dk_181 0 52 (dk_at dksX3_courtierCount_0 2 rfl rfl)
theorem dX3_courtierCount_5 : decode cX3_courtierCount 5 = .ok (.aload_n 0, 1) := dk_42 (dk_at dksX3_courtierCount_0 5 rfl rfl)
theorem dX3_courtierCount_6 : decode cX3_courtierCount 6 = .ok (.getfield 7, 3) := dk_180 0 7 (dk_at dksX3_courtierCount_0 6 rfl rfl)
theorem dX3_courtierCount_9 : decode cX3_courtierCount 9 = .ok (.iconst 0, 1) := dk_3 (dk_at dksX3_courtierCount_0 9 rfl rfl)
theorem dX3_courtierCount_10 : decode cX3_courtierCount 10 = .ok (.iaload, 1) := dk_46 (dk_at dksX3_courtierCount_0 10 rfl rfl)
theorem dX3_courtierCount_11 : decode cX3_courtierCount 11 = .ok (.ireturn, 1) := dk_172 (dk_at dksX3_courtierCount_0 11 rfl rfl)
abbrev cX3_dignityOf : ByteArray := prog_11_method_21_code
def yX3_dignityOf : MethodName := ⟨RX3, "dignityOf", "(I)I"⟩
def dkwX3_dignityOf_0 : List UInt8 := [42, 27, 182, 0, 94, 153, 0, 7, 3, 167, 0, 12, 42, 180, 0, 7, 16, 8, 27, 96, 46, 172]
abbrev dktX3_dignityOf_0 : List UInt8 := dkwX3_dignityOf_0 ++ []
theorem dksX3_dignityOf_0 : cX3_dignityOf.data.toList.drop 0 = dktX3_dignityOf_0 := by decide +kernel
theorem dX3_dignityOf_0 : decode cX3_dignityOf 0 = .ok (.aload_n 0, 1) := dk_42 (dk_at dksX3_dignityOf_0 0 rfl rfl)
theorem dX3_dignityOf_1 : decode cX3_dignityOf 1 = .ok (.iload_n 1, 1) := dk_27 (dk_at dksX3_dignityOf_0 1 rfl rfl)
theorem dX3_dignityOf_2 : decode cX3_dignityOf 2 = .ok (.invokevirtual 94, 3) := dk_182 0 94 (dk_at dksX3_dignityOf_0 2 rfl rfl)
theorem dX3_dignityOf_5 : decode cX3_dignityOf 5 = .ok (.ifCond .eq 7, 3) := dk_153 0 7 (dk_at dksX3_dignityOf_0 5 rfl rfl)
theorem dX3_dignityOf_8 : decode cX3_dignityOf 8 = .ok (.iconst 0, 1) := dk_3 (dk_at dksX3_dignityOf_0 8 rfl rfl)
theorem dX3_dignityOf_9 : decode cX3_dignityOf 9 = .ok (.goto 12, 3) := dk_167 0 12 (dk_at dksX3_dignityOf_0 9 rfl rfl)
theorem dX3_dignityOf_12 : decode cX3_dignityOf 12 = .ok (.aload_n 0, 1) := dk_42 (dk_at dksX3_dignityOf_0 12 rfl rfl)
theorem dX3_dignityOf_13 : decode cX3_dignityOf 13 = .ok (.getfield 7, 3) := dk_180 0 7 (dk_at dksX3_dignityOf_0 13 rfl rfl)
theorem dX3_dignityOf_16 : decode cX3_dignityOf 16 = .ok (.bipush 8, 2) := dk_16 8 (dk_at dksX3_dignityOf_0 16 rfl rfl)
theorem dX3_dignityOf_18 : decode cX3_dignityOf 18 = .ok (.iload_n 1, 1) := dk_27 (dk_at dksX3_dignityOf_0 18 rfl rfl)
theorem dX3_dignityOf_19 : decode cX3_dignityOf 19 = .ok (.iadd, 1) := dk_96 (dk_at dksX3_dignityOf_0 19 rfl rfl)
theorem dX3_dignityOf_20 : decode cX3_dignityOf 20 = .ok (.iaload, 1) := dk_46 (dk_at dksX3_dignityOf_0 20 rfl rfl)
theorem dX3_dignityOf_21 : decode cX3_dignityOf 21 = .ok (.ireturn, 1) := dk_172 (dk_at dksX3_dignityOf_0 21 rfl rfl)
abbrev cX3_isNone : ByteArray := prog_11_method_10_code
def yX3_isNone : MethodName := ⟨RX3, "isNone", "(I)Z"⟩
def dkwX3_isNone_0 : List UInt8 := [42, 42, 27, 182, 0, 66, 153, 0, 7, 3, 167, 0, 4, 4, 182, 0, 70, 172]
abbrev dktX3_isNone_0 : List UInt8 := dkwX3_isNone_0 ++ []
theorem dksX3_isNone_0 : cX3_isNone.data.toList.drop 0 = dktX3_isNone_0 := by decide +kernel
theorem dX3_isNone_0 : decode cX3_isNone 0 = .ok (.aload_n 0, 1) := dk_42 (dk_at dksX3_isNone_0 0 rfl rfl)
theorem dX3_isNone_1 : decode cX3_isNone 1 = .ok (.aload_n 0, 1) := dk_42 (dk_at dksX3_isNone_0 1 rfl rfl)
theorem dX3_isNone_2 : decode cX3_isNone 2 = .ok (.iload_n 1, 1) := dk_27 (dk_at dksX3_isNone_0 2 rfl rfl)
theorem dX3_isNone_3 : decode cX3_isNone 3 = .ok (.invokevirtual 66, 3) := dk_182 0 66 (dk_at dksX3_isNone_0 3 rfl rfl)
theorem dX3_isNone_6 : decode cX3_isNone 6 = .ok (.ifCond .eq 7, 3) := dk_153 0 7 (dk_at dksX3_isNone_0 6 rfl rfl)
theorem dX3_isNone_9 : decode cX3_isNone 9 = .ok (.iconst 0, 1) := dk_3 (dk_at dksX3_isNone_0 9 rfl rfl)
theorem dX3_isNone_10 : decode cX3_isNone 10 = .ok (.goto 4, 3) := dk_167 0 4 (dk_at dksX3_isNone_0 10 rfl rfl)
theorem dX3_isNone_13 : decode cX3_isNone 13 = .ok (.iconst 1, 1) := dk_4 (dk_at dksX3_isNone_0 13 rfl rfl)
theorem dX3_isNone_14 : decode cX3_isNone 14 = .ok (.invokevirtual 70, 3) := dk_182 0 70 (dk_at dksX3_isNone_0 14 rfl rfl)
theorem dX3_isNone_17 : decode cX3_isNone 17 = .ok (.ireturn, 1) := dk_172 (dk_at dksX3_isNone_0 17 rfl rfl)
abbrev cX3_favorOf : ByteArray := prog_11_method_22_code
def yX3_favorOf : MethodName := ⟨RX3, "favorOf", "(I)I"⟩
def dkwX3_favorOf_0 : List UInt8 := [42, 27, 182, 0, 94, 153, 0, 7, 3, 167, 0, 12, 42, 180, 0, 7, 16, 16, 27, 96, 46, 172]
abbrev dktX3_favorOf_0 : List UInt8 := dkwX3_favorOf_0 ++ []
theorem dksX3_favorOf_0 : cX3_favorOf.data.toList.drop 0 = dktX3_favorOf_0 := by decide +kernel
theorem dX3_favorOf_0 : decode cX3_favorOf 0 = .ok (.aload_n 0, 1) := dk_42 (dk_at dksX3_favorOf_0 0 rfl rfl)
theorem dX3_favorOf_1 : decode cX3_favorOf 1 = .ok (.iload_n 1, 1) := dk_27 (dk_at dksX3_favorOf_0 1 rfl rfl)
theorem dX3_favorOf_2 : decode cX3_favorOf 2 = .ok (.invokevirtual 94, 3) := dk_182 0 94 (dk_at dksX3_favorOf_0 2 rfl rfl)
theorem dX3_favorOf_5 : decode cX3_favorOf 5 = .ok (.ifCond .eq 7, 3) := dk_153 0 7 (dk_at dksX3_favorOf_0 5 rfl rfl)
theorem dX3_favorOf_8 : decode cX3_favorOf 8 = .ok (.iconst 0, 1) := dk_3 (dk_at dksX3_favorOf_0 8 rfl rfl)
theorem dX3_favorOf_9 : decode cX3_favorOf 9 = .ok (.goto 12, 3) := dk_167 0 12 (dk_at dksX3_favorOf_0 9 rfl rfl)
theorem dX3_favorOf_12 : decode cX3_favorOf 12 = .ok (.aload_n 0, 1) := dk_42 (dk_at dksX3_favorOf_0 12 rfl rfl)
theorem dX3_favorOf_13 : decode cX3_favorOf 13 = .ok (.getfield 7, 3) := dk_180 0 7 (dk_at dksX3_favorOf_0 13 rfl rfl)
theorem dX3_favorOf_16 : decode cX3_favorOf 16 = .ok (.bipush 16, 2) := dk_16 16 (dk_at dksX3_favorOf_0 16 rfl rfl)
theorem dX3_favorOf_18 : decode cX3_favorOf 18 = .ok (.iload_n 1, 1) := dk_27 (dk_at dksX3_favorOf_0 18 rfl rfl)
theorem dX3_favorOf_19 : decode cX3_favorOf 19 = .ok (.iadd, 1) := dk_96 (dk_at dksX3_favorOf_0 19 rfl rfl)
theorem dX3_favorOf_20 : decode cX3_favorOf 20 = .ok (.iaload, 1) := dk_46 (dk_at dksX3_favorOf_0 20 rfl rfl)
theorem dX3_favorOf_21 : decode cX3_favorOf 21 = .ok (.ireturn, 1) := dk_172 (dk_at dksX3_favorOf_0 21 rfl rfl)
abbrev cX3_ruleCount : ByteArray := prog_11_method_23_code
def yX3_ruleCount : MethodName := ⟨RX3, "ruleCount", "()I"⟩
def dkwX3_ruleCount_0 : List UInt8 := [42, 3, 181, 0, 52, 42, 182, 0, 90, 172]
abbrev dktX3_ruleCount_0 : List UInt8 := dkwX3_ruleCount_0 ++ []
theorem dksX3_ruleCount_0 : cX3_ruleCount.data.toList.drop 0 = dktX3_ruleCount_0 := by decide +kernel
theorem dX3_ruleCount_0 : decode cX3_ruleCount 0 = .ok (.aload_n 0, 1) := dk_42 (dk_at dksX3_ruleCount_0 0 rfl rfl)
theorem dX3_ruleCount_1 : decode cX3_ruleCount 1 = .ok (.iconst 0, 1) := dk_3 (dk_at dksX3_ruleCount_0 1 rfl rfl)
theorem dX3_ruleCount_2 : decode cX3_ruleCount 2 = .ok (.putfield 52, 3) := dk_181 0 52 (dk_at dksX3_ruleCount_0 2 rfl rfl)
theorem dX3_ruleCount_5 : decode cX3_ruleCount 5 = .ok (.aload_n 0, 1) := dk_42 (dk_at dksX3_ruleCount_0 5 rfl rfl)
theorem dX3_ruleCount_6 : decode cX3_ruleCount 6 = .ok (.invokevirtual 90, 3) := dk_182 0 90 (dk_at dksX3_ruleCount_0 6 rfl rfl)
theorem dX3_ruleCount_9 : decode cX3_ruleCount 9 = .ok (.ireturn, 1) := dk_172 (dk_at dksX3_ruleCount_0 9 rfl rfl)
abbrev cX3_precedes : ByteArray := prog_11_method_24_code
def yX3_precedes : MethodName := ⟨RX3, "precedes", "(II)Z"⟩
def dkwX3_precedes_1 : List UInt8 := [167, 0, 4, 3, 172]
abbrev dktX3_precedes_1 : List UInt8 := dkwX3_precedes_1 ++ []
def dkwX3_precedes_0 : List UInt8 := [42, 27, 28, 182, 0, 83, 154, 0, 20, 42, 27, 182, 0, 73, 28, 122, 4, 126, 4, 160, 0, 7, 4]
abbrev dktX3_precedes_0 : List UInt8 := dkwX3_precedes_0 ++ dktX3_precedes_1
theorem dksX3_precedes_0 : cX3_precedes.data.toList.drop 0 = dktX3_precedes_0 := by decide +kernel
theorem dksX3_precedes_1 : cX3_precedes.data.toList.drop 23 = dktX3_precedes_1 := dk_seg dksX3_precedes_0 23 rfl rfl
theorem dX3_precedes_0 : decode cX3_precedes 0 = .ok (.aload_n 0, 1) := dk_42 (dk_at dksX3_precedes_0 0 rfl rfl)
theorem dX3_precedes_1 : decode cX3_precedes 1 = .ok (.iload_n 1, 1) := dk_27 (dk_at dksX3_precedes_0 1 rfl rfl)
theorem dX3_precedes_2 : decode cX3_precedes 2 = .ok (.iload_n 2, 1) := dk_28 (dk_at dksX3_precedes_0 2 rfl rfl)
theorem dX3_precedes_3 : decode cX3_precedes 3 = .ok (.invokevirtual 83, 3) := dk_182 0 83 (dk_at dksX3_precedes_0 3 rfl rfl)
theorem dX3_precedes_6 : decode cX3_precedes 6 = .ok (.ifCond .ne 20, 3) := dk_154 0 20 (dk_at dksX3_precedes_0 6 rfl rfl)
theorem dX3_precedes_9 : decode cX3_precedes 9 = .ok (.aload_n 0, 1) := dk_42 (dk_at dksX3_precedes_0 9 rfl rfl)
theorem dX3_precedes_10 : decode cX3_precedes 10 = .ok (.iload_n 1, 1) := dk_27 (dk_at dksX3_precedes_0 10 rfl rfl)
theorem dX3_precedes_11 : decode cX3_precedes 11 = .ok (.invokevirtual 73, 3) := dk_182 0 73 (dk_at dksX3_precedes_0 11 rfl rfl)
theorem dX3_precedes_14 : decode cX3_precedes 14 = .ok (.iload_n 2, 1) := dk_28 (dk_at dksX3_precedes_0 14 rfl rfl)
theorem dX3_precedes_15 : decode cX3_precedes 15 = .ok (.ishr, 1) := dk_122 (dk_at dksX3_precedes_0 15 rfl rfl)
theorem dX3_precedes_16 : decode cX3_precedes 16 = .ok (.iconst 1, 1) := dk_4 (dk_at dksX3_precedes_0 16 rfl rfl)
theorem dX3_precedes_17 : decode cX3_precedes 17 = .ok (.iand, 1) := dk_126 (dk_at dksX3_precedes_0 17 rfl rfl)
theorem dX3_precedes_18 : decode cX3_precedes 18 = .ok (.iconst 1, 1) := dk_4 (dk_at dksX3_precedes_0 18 rfl rfl)
theorem dX3_precedes_19 : decode cX3_precedes 19 = .ok (.if_icmp .ne 7, 3) := dk_160 0 7 (dk_at dksX3_precedes_0 19 rfl rfl)
theorem dX3_precedes_22 : decode cX3_precedes 22 = .ok (.iconst 1, 1) := dk_4 (dk_at dksX3_precedes_0 22 rfl rfl)
theorem dX3_precedes_23 : decode cX3_precedes 23 = .ok (.goto 4, 3) := dk_167 0 4 (dk_at dksX3_precedes_1 0 rfl rfl)
theorem dX3_precedes_26 : decode cX3_precedes 26 = .ok (.iconst 0, 1) := dk_3 (dk_at dksX3_precedes_1 3 rfl rfl)
theorem dX3_precedes_27 : decode cX3_precedes 27 = .ok (.ireturn, 1) := dk_172 (dk_at dksX3_precedes_1 4 rfl rfl)
abbrev cX3_courtierByDignity : ByteArray := prog_11_method_25_code
def yX3_courtierByDignity : MethodName := ⟨RX3, "courtierByDignity", "(I)I"⟩
def dkwX3_courtierByDignity_5 : List UInt8 := [3, 172]
abbrev dktX3_courtierByDignity_5 : List UInt8 := dkwX3_courtierByDignity_5 ++ []
def dkwX3_courtierByDignity_4 : List UInt8 := [159, 0, 6, 167, 0, 10, 42, 3, 181, 0, 52, 28, 172, 132, 2, 1, 167, 255, 148, 42, 4, 181, 0, 52]
abbrev dktX3_courtierByDignity_4 : List UInt8 := dkwX3_courtierByDignity_4 ++ dktX3_courtierByDignity_5
def dkwX3_courtierByDignity_3 : List UInt8 := [160, 0, 13, 21, 4, 28, 162, 0, 7, 4, 167, 0, 4, 3, 96, 62, 132, 4, 1, 167, 255, 184, 29, 27]
abbrev dktX3_courtierByDignity_3 : List UInt8 := dkwX3_courtierByDignity_3 ++ dktX3_courtierByDignity_4
def dkwX3_courtierByDignity_2 : List UInt8 := [163, 0, 31, 42, 180, 0, 7, 16, 8, 21, 4, 96, 46, 42, 180, 0, 7, 16, 8, 28, 96, 46]
abbrev dktX3_courtierByDignity_2 : List UInt8 := dkwX3_courtierByDignity_2 ++ dktX3_courtierByDignity_3
def dkwX3_courtierByDignity_1 : List UInt8 := [46, 162, 0, 67, 29, 42, 180, 0, 7, 16, 8, 21, 4, 96, 46, 42, 180, 0, 7, 16, 8, 28, 96, 46]
abbrev dktX3_courtierByDignity_1 : List UInt8 := dkwX3_courtierByDignity_1 ++ dktX3_courtierByDignity_2
def dkwX3_courtierByDignity_0 : List UInt8 := [3, 61, 28, 42, 180, 0, 7, 3, 46, 162, 0, 104, 3, 62, 3, 54, 4, 21, 4, 42, 180, 0, 7, 3]
abbrev dktX3_courtierByDignity_0 : List UInt8 := dkwX3_courtierByDignity_0 ++ dktX3_courtierByDignity_1
theorem dksX3_courtierByDignity_0 : cX3_courtierByDignity.data.toList.drop 0 = dktX3_courtierByDignity_0 := by decide +kernel
theorem dksX3_courtierByDignity_1 : cX3_courtierByDignity.data.toList.drop 24 = dktX3_courtierByDignity_1 := dk_seg dksX3_courtierByDignity_0 24 rfl rfl
theorem dksX3_courtierByDignity_2 : cX3_courtierByDignity.data.toList.drop 48 = dktX3_courtierByDignity_2 := dk_seg dksX3_courtierByDignity_1 24 rfl rfl
theorem dksX3_courtierByDignity_3 : cX3_courtierByDignity.data.toList.drop 70 = dktX3_courtierByDignity_3 := dk_seg dksX3_courtierByDignity_2 22 rfl rfl
theorem dksX3_courtierByDignity_4 : cX3_courtierByDignity.data.toList.drop 94 = dktX3_courtierByDignity_4 := dk_seg dksX3_courtierByDignity_3 24 rfl rfl
theorem dksX3_courtierByDignity_5 : cX3_courtierByDignity.data.toList.drop 118 = dktX3_courtierByDignity_5 := dk_seg dksX3_courtierByDignity_4 24 rfl rfl
theorem dX3_courtierByDignity_0 : decode cX3_courtierByDignity 0 = .ok (.iconst 0, 1) := dk_3 (dk_at dksX3_courtierByDignity_0 0 rfl rfl)
theorem dX3_courtierByDignity_1 : decode cX3_courtierByDignity 1 = .ok (.istore_n 2, 1) := dk_61 (dk_at dksX3_courtierByDignity_0 1 rfl rfl)
theorem dX3_courtierByDignity_2 : decode cX3_courtierByDignity 2 = .ok (.iload_n 2, 1) := dk_28 (dk_at dksX3_courtierByDignity_0 2 rfl rfl)
theorem dX3_courtierByDignity_3 : decode cX3_courtierByDignity 3 = .ok (.aload_n 0, 1) := dk_42 (dk_at dksX3_courtierByDignity_0 3 rfl rfl)
theorem dX3_courtierByDignity_4 : decode cX3_courtierByDignity 4 = .ok (.getfield 7, 3) := dk_180 0 7 (dk_at dksX3_courtierByDignity_0 4 rfl rfl)
theorem dX3_courtierByDignity_7 : decode cX3_courtierByDignity 7 = .ok (.iconst 0, 1) := dk_3 (dk_at dksX3_courtierByDignity_0 7 rfl rfl)
theorem dX3_courtierByDignity_8 : decode cX3_courtierByDignity 8 = .ok (.iaload, 1) := dk_46 (dk_at dksX3_courtierByDignity_0 8 rfl rfl)
theorem dX3_courtierByDignity_9 : decode cX3_courtierByDignity 9 = .ok (.if_icmp .ge 104, 3) := dk_162 0 104 (dk_at dksX3_courtierByDignity_0 9 rfl rfl)
theorem dX3_courtierByDignity_12 : decode cX3_courtierByDignity 12 = .ok (.iconst 0, 1) := dk_3 (dk_at dksX3_courtierByDignity_0 12 rfl rfl)
theorem dX3_courtierByDignity_13 : decode cX3_courtierByDignity 13 = .ok (.istore_n 3, 1) := dk_62 (dk_at dksX3_courtierByDignity_0 13 rfl rfl)
theorem dX3_courtierByDignity_14 : decode cX3_courtierByDignity 14 = .ok (.iconst 0, 1) := dk_3 (dk_at dksX3_courtierByDignity_0 14 rfl rfl)
theorem dX3_courtierByDignity_15 : decode cX3_courtierByDignity 15 = .ok (.istore 4, 2) := dk_54 4 (dk_at dksX3_courtierByDignity_0 15 rfl rfl)
theorem dX3_courtierByDignity_17 : decode cX3_courtierByDignity 17 = .ok (.iload 4, 2) := dk_21 4 (dk_at dksX3_courtierByDignity_0 17 rfl rfl)
theorem dX3_courtierByDignity_19 : decode cX3_courtierByDignity 19 = .ok (.aload_n 0, 1) := dk_42 (dk_at dksX3_courtierByDignity_0 19 rfl rfl)
theorem dX3_courtierByDignity_20 : decode cX3_courtierByDignity 20 = .ok (.getfield 7, 3) := dk_180 0 7 (dk_at dksX3_courtierByDignity_0 20 rfl rfl)
theorem dX3_courtierByDignity_23 : decode cX3_courtierByDignity 23 = .ok (.iconst 0, 1) := dk_3 (dk_at dksX3_courtierByDignity_0 23 rfl rfl)
theorem dX3_courtierByDignity_24 : decode cX3_courtierByDignity 24 = .ok (.iaload, 1) := dk_46 (dk_at dksX3_courtierByDignity_1 0 rfl rfl)
theorem dX3_courtierByDignity_25 : decode cX3_courtierByDignity 25 = .ok (.if_icmp .ge 67, 3) := dk_162 0 67 (dk_at dksX3_courtierByDignity_1 1 rfl rfl)
theorem dX3_courtierByDignity_28 : decode cX3_courtierByDignity 28 = .ok (.iload_n 3, 1) := dk_29 (dk_at dksX3_courtierByDignity_1 4 rfl rfl)
theorem dX3_courtierByDignity_29 : decode cX3_courtierByDignity 29 = .ok (.aload_n 0, 1) := dk_42 (dk_at dksX3_courtierByDignity_1 5 rfl rfl)
theorem dX3_courtierByDignity_30 : decode cX3_courtierByDignity 30 = .ok (.getfield 7, 3) := dk_180 0 7 (dk_at dksX3_courtierByDignity_1 6 rfl rfl)
theorem dX3_courtierByDignity_33 : decode cX3_courtierByDignity 33 = .ok (.bipush 8, 2) := dk_16 8 (dk_at dksX3_courtierByDignity_1 9 rfl rfl)
theorem dX3_courtierByDignity_35 : decode cX3_courtierByDignity 35 = .ok (.iload 4, 2) := dk_21 4 (dk_at dksX3_courtierByDignity_1 11 rfl rfl)
theorem dX3_courtierByDignity_37 : decode cX3_courtierByDignity 37 = .ok (.iadd, 1) := dk_96 (dk_at dksX3_courtierByDignity_1 13 rfl rfl)
theorem dX3_courtierByDignity_38 : decode cX3_courtierByDignity 38 = .ok (.iaload, 1) := dk_46 (dk_at dksX3_courtierByDignity_1 14 rfl rfl)
theorem dX3_courtierByDignity_39 : decode cX3_courtierByDignity 39 = .ok (.aload_n 0, 1) := dk_42 (dk_at dksX3_courtierByDignity_1 15 rfl rfl)
theorem dX3_courtierByDignity_40 : decode cX3_courtierByDignity 40 = .ok (.getfield 7, 3) := dk_180 0 7 (dk_at dksX3_courtierByDignity_1 16 rfl rfl)
theorem dX3_courtierByDignity_43 : decode cX3_courtierByDignity 43 = .ok (.bipush 8, 2) := dk_16 8 (dk_at dksX3_courtierByDignity_1 19 rfl rfl)
theorem dX3_courtierByDignity_45 : decode cX3_courtierByDignity 45 = .ok (.iload_n 2, 1) := dk_28 (dk_at dksX3_courtierByDignity_1 21 rfl rfl)
theorem dX3_courtierByDignity_46 : decode cX3_courtierByDignity 46 = .ok (.iadd, 1) := dk_96 (dk_at dksX3_courtierByDignity_1 22 rfl rfl)
theorem dX3_courtierByDignity_47 : decode cX3_courtierByDignity 47 = .ok (.iaload, 1) := dk_46 (dk_at dksX3_courtierByDignity_1 23 rfl rfl)
theorem dX3_courtierByDignity_48 : decode cX3_courtierByDignity 48 = .ok (.if_icmp .gt 31, 3) := dk_163 0 31 (dk_at dksX3_courtierByDignity_2 0 rfl rfl)
theorem dX3_courtierByDignity_51 : decode cX3_courtierByDignity 51 = .ok (.aload_n 0, 1) := dk_42 (dk_at dksX3_courtierByDignity_2 3 rfl rfl)
theorem dX3_courtierByDignity_52 : decode cX3_courtierByDignity 52 = .ok (.getfield 7, 3) := dk_180 0 7 (dk_at dksX3_courtierByDignity_2 4 rfl rfl)
theorem dX3_courtierByDignity_55 : decode cX3_courtierByDignity 55 = .ok (.bipush 8, 2) := dk_16 8 (dk_at dksX3_courtierByDignity_2 7 rfl rfl)
theorem dX3_courtierByDignity_57 : decode cX3_courtierByDignity 57 = .ok (.iload 4, 2) := dk_21 4 (dk_at dksX3_courtierByDignity_2 9 rfl rfl)
theorem dX3_courtierByDignity_59 : decode cX3_courtierByDignity 59 = .ok (.iadd, 1) := dk_96 (dk_at dksX3_courtierByDignity_2 11 rfl rfl)
theorem dX3_courtierByDignity_60 : decode cX3_courtierByDignity 60 = .ok (.iaload, 1) := dk_46 (dk_at dksX3_courtierByDignity_2 12 rfl rfl)
theorem dX3_courtierByDignity_61 : decode cX3_courtierByDignity 61 = .ok (.aload_n 0, 1) := dk_42 (dk_at dksX3_courtierByDignity_2 13 rfl rfl)
theorem dX3_courtierByDignity_62 : decode cX3_courtierByDignity 62 = .ok (.getfield 7, 3) := dk_180 0 7 (dk_at dksX3_courtierByDignity_2 14 rfl rfl)
theorem dX3_courtierByDignity_65 : decode cX3_courtierByDignity 65 = .ok (.bipush 8, 2) := dk_16 8 (dk_at dksX3_courtierByDignity_2 17 rfl rfl)
theorem dX3_courtierByDignity_67 : decode cX3_courtierByDignity 67 = .ok (.iload_n 2, 1) := dk_28 (dk_at dksX3_courtierByDignity_2 19 rfl rfl)
theorem dX3_courtierByDignity_68 : decode cX3_courtierByDignity 68 = .ok (.iadd, 1) := dk_96 (dk_at dksX3_courtierByDignity_2 20 rfl rfl)
theorem dX3_courtierByDignity_69 : decode cX3_courtierByDignity 69 = .ok (.iaload, 1) := dk_46 (dk_at dksX3_courtierByDignity_2 21 rfl rfl)
theorem dX3_courtierByDignity_70 : decode cX3_courtierByDignity 70 = .ok (.if_icmp .ne 13, 3) := dk_160 0 13 (dk_at dksX3_courtierByDignity_3 0 rfl rfl)
theorem dX3_courtierByDignity_73 : decode cX3_courtierByDignity 73 = .ok (.iload 4, 2) := dk_21 4 (dk_at dksX3_courtierByDignity_3 3 rfl rfl)
theorem dX3_courtierByDignity_75 : decode cX3_courtierByDignity 75 = .ok (.iload_n 2, 1) := dk_28 (dk_at dksX3_courtierByDignity_3 5 rfl rfl)
theorem dX3_courtierByDignity_76 : decode cX3_courtierByDignity 76 = .ok (.if_icmp .ge 7, 3) := dk_162 0 7 (dk_at dksX3_courtierByDignity_3 6 rfl rfl)
theorem dX3_courtierByDignity_79 : decode cX3_courtierByDignity 79 = .ok (.iconst 1, 1) := dk_4 (dk_at dksX3_courtierByDignity_3 9 rfl rfl)
theorem dX3_courtierByDignity_80 : decode cX3_courtierByDignity 80 = .ok (.goto 4, 3) := dk_167 0 4 (dk_at dksX3_courtierByDignity_3 10 rfl rfl)
theorem dX3_courtierByDignity_83 : decode cX3_courtierByDignity 83 = .ok (.iconst 0, 1) := dk_3 (dk_at dksX3_courtierByDignity_3 13 rfl rfl)
theorem dX3_courtierByDignity_84 : decode cX3_courtierByDignity 84 = .ok (.iadd, 1) := dk_96 (dk_at dksX3_courtierByDignity_3 14 rfl rfl)
theorem dX3_courtierByDignity_85 : decode cX3_courtierByDignity 85 = .ok (.istore_n 3, 1) := dk_62 (dk_at dksX3_courtierByDignity_3 15 rfl rfl)
theorem dX3_courtierByDignity_86 : decode cX3_courtierByDignity 86 = .ok (.iinc 4 1, 3) := dk_132 4 1 (dk_at dksX3_courtierByDignity_3 16 rfl rfl)
theorem dX3_courtierByDignity_89 : decode cX3_courtierByDignity 89 = .ok (.goto (-72), 3) := dk_167 255 184 (dk_at dksX3_courtierByDignity_3 19 rfl rfl)
theorem dX3_courtierByDignity_92 : decode cX3_courtierByDignity 92 = .ok (.iload_n 3, 1) := dk_29 (dk_at dksX3_courtierByDignity_3 22 rfl rfl)
theorem dX3_courtierByDignity_93 : decode cX3_courtierByDignity 93 = .ok (.iload_n 1, 1) := dk_27 (dk_at dksX3_courtierByDignity_3 23 rfl rfl)
theorem dX3_courtierByDignity_94 : decode cX3_courtierByDignity 94 = .ok (.if_icmp .eq 6, 3) := dk_159 0 6 (dk_at dksX3_courtierByDignity_4 0 rfl rfl)
theorem dX3_courtierByDignity_97 : decode cX3_courtierByDignity 97 = .ok (.goto 10, 3) := dk_167 0 10 (dk_at dksX3_courtierByDignity_4 3 rfl rfl)
theorem dX3_courtierByDignity_100 : decode cX3_courtierByDignity 100 = .ok (.aload_n 0, 1) := dk_42 (dk_at dksX3_courtierByDignity_4 6 rfl rfl)
theorem dX3_courtierByDignity_101 : decode cX3_courtierByDignity 101 = .ok (.iconst 0, 1) := dk_3 (dk_at dksX3_courtierByDignity_4 7 rfl rfl)
theorem dX3_courtierByDignity_102 : decode cX3_courtierByDignity 102 = .ok (.putfield 52, 3) := dk_181 0 52 (dk_at dksX3_courtierByDignity_4 8 rfl rfl)
theorem dX3_courtierByDignity_105 : decode cX3_courtierByDignity 105 = .ok (.iload_n 2, 1) := dk_28 (dk_at dksX3_courtierByDignity_4 11 rfl rfl)
theorem dX3_courtierByDignity_106 : decode cX3_courtierByDignity 106 = .ok (.ireturn, 1) := dk_172 (dk_at dksX3_courtierByDignity_4 12 rfl rfl)
theorem dX3_courtierByDignity_107 : decode cX3_courtierByDignity 107 = .ok (.iinc 2 1, 3) := dk_132 2 1 (dk_at dksX3_courtierByDignity_4 13 rfl rfl)
theorem dX3_courtierByDignity_110 : decode cX3_courtierByDignity 110 = .ok (.goto (-108), 3) := dk_167 255 148 (dk_at dksX3_courtierByDignity_4 16 rfl rfl)
theorem dX3_courtierByDignity_113 : decode cX3_courtierByDignity 113 = .ok (.aload_n 0, 1) := dk_42 (dk_at dksX3_courtierByDignity_4 19 rfl rfl)
theorem dX3_courtierByDignity_114 : decode cX3_courtierByDignity 114 = .ok (.iconst 1, 1) := dk_4 (dk_at dksX3_courtierByDignity_4 20 rfl rfl)
theorem dX3_courtierByDignity_115 : decode cX3_courtierByDignity 115 = .ok (.putfield 52, 3) := dk_181 0 52 (dk_at dksX3_courtierByDignity_4 21 rfl rfl)
theorem dX3_courtierByDignity_118 : decode cX3_courtierByDignity 118 = .ok (.iconst 0, 1) := dk_3 (dk_at dksX3_courtierByDignity_5 0 rfl rfl)
theorem dX3_courtierByDignity_119 : decode cX3_courtierByDignity 119 = .ok (.ireturn, 1) := dk_172 (dk_at dksX3_courtierByDignity_5 1 rfl rfl)
abbrev cX3_processions : ByteArray := prog_11_method_28_code
def yX3_processions : MethodName := ⟨RX3, "processions", "()J"⟩
theorem dX3_processions_0 : decode cX3_processions 0 = .ok (.aload_n 0, 1) := by decide +kernel
theorem dX3_processions_1 : decode cX3_processions 1 = .ok (.invokevirtual 103, 3) := by decide +kernel
theorem dX3_processions_4 : decode cX3_processions 4 = .ok (.lreturn, 1) := by decide +kernel
abbrev cX3_counts : ByteArray := prog_11_method_27_code
def yX3_counts : MethodName := ⟨RX3, "counts", "()J"⟩
def dkwX3_counts_4 : List UInt8 := [97, 80, 132, 3, 1, 167, 255, 198, 132, 2, 1, 167, 255, 178, 42, 180, 0, 30, 27, 47, 173]
abbrev dktX3_counts_4 : List UInt8 := dkwX3_counts_4 ++ []
def dkwX3_counts_3 : List UInt8 := [130, 2, 130, 126, 154, 0, 22, 42, 180, 0, 30, 28, 92, 47, 42, 180, 0, 30, 28, 4, 29, 120, 130, 47]
abbrev dktX3_counts_3 : List UInt8 := dkwX3_counts_3 ++ dktX3_counts_4
def dkwX3_counts_2 : List UInt8 := [3, 46, 162, 0, 54, 28, 29, 122, 4, 126, 4, 160, 0, 39, 42, 180, 0, 34, 29, 46, 28, 4, 29, 120]
abbrev dktX3_counts_2 : List UInt8 := dkwX3_counts_2 ++ dktX3_counts_3
def dkwX3_counts_1 : List UInt8 := [3, 10, 80, 4, 61, 28, 27, 163, 0, 79, 42, 180, 0, 30, 28, 9, 80, 3, 62, 29, 42, 180, 0, 7]
abbrev dktX3_counts_1 : List UInt8 := dkwX3_counts_1 ++ dktX3_counts_2
def dkwX3_counts_0 : List UInt8 := [42, 3, 181, 0, 52, 42, 182, 0, 100, 4, 42, 180, 0, 7, 3, 46, 120, 4, 100, 60, 42, 180, 0, 30]
abbrev dktX3_counts_0 : List UInt8 := dkwX3_counts_0 ++ dktX3_counts_1
theorem dksX3_counts_0 : cX3_counts.data.toList.drop 0 = dktX3_counts_0 := by decide +kernel
theorem dksX3_counts_1 : cX3_counts.data.toList.drop 24 = dktX3_counts_1 := dk_seg dksX3_counts_0 24 rfl rfl
theorem dksX3_counts_2 : cX3_counts.data.toList.drop 48 = dktX3_counts_2 := dk_seg dksX3_counts_1 24 rfl rfl
theorem dksX3_counts_3 : cX3_counts.data.toList.drop 72 = dktX3_counts_3 := dk_seg dksX3_counts_2 24 rfl rfl
theorem dksX3_counts_4 : cX3_counts.data.toList.drop 96 = dktX3_counts_4 := dk_seg dksX3_counts_3 24 rfl rfl
theorem dX3_counts_0 : decode cX3_counts 0 = .ok (.aload_n 0, 1) := dk_42 (dk_at dksX3_counts_0 0 rfl rfl)
theorem dX3_counts_1 : decode cX3_counts 1 = .ok (.iconst 0, 1) := dk_3 (dk_at dksX3_counts_0 1 rfl rfl)
theorem dX3_counts_2 : decode cX3_counts 2 = .ok (.putfield 52, 3) := dk_181 0 52 (dk_at dksX3_counts_0 2 rfl rfl)
theorem dX3_counts_5 : decode cX3_counts 5 = .ok (.aload_n 0, 1) := dk_42 (dk_at dksX3_counts_0 5 rfl rfl)
theorem dX3_counts_6 : decode cX3_counts 6 = .ok (.invokevirtual 100, 3) := dk_182 0 100 (dk_at dksX3_counts_0 6 rfl rfl)
theorem dX3_counts_9 : decode cX3_counts 9 = .ok (.iconst 1, 1) := dk_4 (dk_at dksX3_counts_0 9 rfl rfl)
theorem dX3_counts_10 : decode cX3_counts 10 = .ok (.aload_n 0, 1) := dk_42 (dk_at dksX3_counts_0 10 rfl rfl)
theorem dX3_counts_11 : decode cX3_counts 11 = .ok (.getfield 7, 3) := dk_180 0 7 (dk_at dksX3_counts_0 11 rfl rfl)
theorem dX3_counts_14 : decode cX3_counts 14 = .ok (.iconst 0, 1) := dk_3 (dk_at dksX3_counts_0 14 rfl rfl)
theorem dX3_counts_15 : decode cX3_counts 15 = .ok (.iaload, 1) := dk_46 (dk_at dksX3_counts_0 15 rfl rfl)
theorem dX3_counts_16 : decode cX3_counts 16 = .ok (.ishl, 1) := dk_120 (dk_at dksX3_counts_0 16 rfl rfl)
theorem dX3_counts_17 : decode cX3_counts 17 = .ok (.iconst 1, 1) := dk_4 (dk_at dksX3_counts_0 17 rfl rfl)
theorem dX3_counts_18 : decode cX3_counts 18 = .ok (.isub, 1) := dk_100 (dk_at dksX3_counts_0 18 rfl rfl)
theorem dX3_counts_19 : decode cX3_counts 19 = .ok (.istore_n 1, 1) := dk_60 (dk_at dksX3_counts_0 19 rfl rfl)
theorem dX3_counts_20 : decode cX3_counts 20 = .ok (.aload_n 0, 1) := dk_42 (dk_at dksX3_counts_0 20 rfl rfl)
theorem dX3_counts_21 : decode cX3_counts 21 = .ok (.getfield 30, 3) := dk_180 0 30 (dk_at dksX3_counts_0 21 rfl rfl)
theorem dX3_counts_24 : decode cX3_counts 24 = .ok (.iconst 0, 1) := dk_3 (dk_at dksX3_counts_1 0 rfl rfl)
theorem dX3_counts_25 : decode cX3_counts 25 = .ok (.lconst 1, 1) := dk_10 (dk_at dksX3_counts_1 1 rfl rfl)
theorem dX3_counts_26 : decode cX3_counts 26 = .ok (.lastore, 1) := dk_80 (dk_at dksX3_counts_1 2 rfl rfl)
theorem dX3_counts_27 : decode cX3_counts 27 = .ok (.iconst 1, 1) := dk_4 (dk_at dksX3_counts_1 3 rfl rfl)
theorem dX3_counts_28 : decode cX3_counts 28 = .ok (.istore_n 2, 1) := dk_61 (dk_at dksX3_counts_1 4 rfl rfl)
theorem dX3_counts_29 : decode cX3_counts 29 = .ok (.iload_n 2, 1) := dk_28 (dk_at dksX3_counts_1 5 rfl rfl)
theorem dX3_counts_30 : decode cX3_counts 30 = .ok (.iload_n 1, 1) := dk_27 (dk_at dksX3_counts_1 6 rfl rfl)
theorem dX3_counts_31 : decode cX3_counts 31 = .ok (.if_icmp .gt 79, 3) := dk_163 0 79 (dk_at dksX3_counts_1 7 rfl rfl)
theorem dX3_counts_34 : decode cX3_counts 34 = .ok (.aload_n 0, 1) := dk_42 (dk_at dksX3_counts_1 10 rfl rfl)
theorem dX3_counts_35 : decode cX3_counts 35 = .ok (.getfield 30, 3) := dk_180 0 30 (dk_at dksX3_counts_1 11 rfl rfl)
theorem dX3_counts_38 : decode cX3_counts 38 = .ok (.iload_n 2, 1) := dk_28 (dk_at dksX3_counts_1 14 rfl rfl)
theorem dX3_counts_39 : decode cX3_counts 39 = .ok (.lconst 0, 1) := dk_9 (dk_at dksX3_counts_1 15 rfl rfl)
theorem dX3_counts_40 : decode cX3_counts 40 = .ok (.lastore, 1) := dk_80 (dk_at dksX3_counts_1 16 rfl rfl)
theorem dX3_counts_41 : decode cX3_counts 41 = .ok (.iconst 0, 1) := dk_3 (dk_at dksX3_counts_1 17 rfl rfl)
theorem dX3_counts_42 : decode cX3_counts 42 = .ok (.istore_n 3, 1) := dk_62 (dk_at dksX3_counts_1 18 rfl rfl)
theorem dX3_counts_43 : decode cX3_counts 43 = .ok (.iload_n 3, 1) := dk_29 (dk_at dksX3_counts_1 19 rfl rfl)
theorem dX3_counts_44 : decode cX3_counts 44 = .ok (.aload_n 0, 1) := dk_42 (dk_at dksX3_counts_1 20 rfl rfl)
theorem dX3_counts_45 : decode cX3_counts 45 = .ok (.getfield 7, 3) := dk_180 0 7 (dk_at dksX3_counts_1 21 rfl rfl)
theorem dX3_counts_48 : decode cX3_counts 48 = .ok (.iconst 0, 1) := dk_3 (dk_at dksX3_counts_2 0 rfl rfl)
theorem dX3_counts_49 : decode cX3_counts 49 = .ok (.iaload, 1) := dk_46 (dk_at dksX3_counts_2 1 rfl rfl)
theorem dX3_counts_50 : decode cX3_counts 50 = .ok (.if_icmp .ge 54, 3) := dk_162 0 54 (dk_at dksX3_counts_2 2 rfl rfl)
theorem dX3_counts_53 : decode cX3_counts 53 = .ok (.iload_n 2, 1) := dk_28 (dk_at dksX3_counts_2 5 rfl rfl)
theorem dX3_counts_54 : decode cX3_counts 54 = .ok (.iload_n 3, 1) := dk_29 (dk_at dksX3_counts_2 6 rfl rfl)
theorem dX3_counts_55 : decode cX3_counts 55 = .ok (.ishr, 1) := dk_122 (dk_at dksX3_counts_2 7 rfl rfl)
theorem dX3_counts_56 : decode cX3_counts 56 = .ok (.iconst 1, 1) := dk_4 (dk_at dksX3_counts_2 8 rfl rfl)
theorem dX3_counts_57 : decode cX3_counts 57 = .ok (.iand, 1) := dk_126 (dk_at dksX3_counts_2 9 rfl rfl)
theorem dX3_counts_58 : decode cX3_counts 58 = .ok (.iconst 1, 1) := dk_4 (dk_at dksX3_counts_2 10 rfl rfl)
theorem dX3_counts_59 : decode cX3_counts 59 = .ok (.if_icmp .ne 39, 3) := dk_160 0 39 (dk_at dksX3_counts_2 11 rfl rfl)
theorem dX3_counts_62 : decode cX3_counts 62 = .ok (.aload_n 0, 1) := dk_42 (dk_at dksX3_counts_2 14 rfl rfl)
theorem dX3_counts_63 : decode cX3_counts 63 = .ok (.getfield 34, 3) := dk_180 0 34 (dk_at dksX3_counts_2 15 rfl rfl)
theorem dX3_counts_66 : decode cX3_counts 66 = .ok (.iload_n 3, 1) := dk_29 (dk_at dksX3_counts_2 18 rfl rfl)
theorem dX3_counts_67 : decode cX3_counts 67 = .ok (.iaload, 1) := dk_46 (dk_at dksX3_counts_2 19 rfl rfl)
theorem dX3_counts_68 : decode cX3_counts 68 = .ok (.iload_n 2, 1) := dk_28 (dk_at dksX3_counts_2 20 rfl rfl)
theorem dX3_counts_69 : decode cX3_counts 69 = .ok (.iconst 1, 1) := dk_4 (dk_at dksX3_counts_2 21 rfl rfl)
theorem dX3_counts_70 : decode cX3_counts 70 = .ok (.iload_n 3, 1) := dk_29 (dk_at dksX3_counts_2 22 rfl rfl)
theorem dX3_counts_71 : decode cX3_counts 71 = .ok (.ishl, 1) := dk_120 (dk_at dksX3_counts_2 23 rfl rfl)
theorem dX3_counts_72 : decode cX3_counts 72 = .ok (.ixor, 1) := dk_130 (dk_at dksX3_counts_3 0 rfl rfl)
theorem dX3_counts_73 : decode cX3_counts 73 = .ok (.iconst (-1), 1) := dk_2 (dk_at dksX3_counts_3 1 rfl rfl)
theorem dX3_counts_74 : decode cX3_counts 74 = .ok (.ixor, 1) := dk_130 (dk_at dksX3_counts_3 2 rfl rfl)
theorem dX3_counts_75 : decode cX3_counts 75 = .ok (.iand, 1) := dk_126 (dk_at dksX3_counts_3 3 rfl rfl)
theorem dX3_counts_76 : decode cX3_counts 76 = .ok (.ifCond .ne 22, 3) := dk_154 0 22 (dk_at dksX3_counts_3 4 rfl rfl)
theorem dX3_counts_79 : decode cX3_counts 79 = .ok (.aload_n 0, 1) := dk_42 (dk_at dksX3_counts_3 7 rfl rfl)
theorem dX3_counts_80 : decode cX3_counts 80 = .ok (.getfield 30, 3) := dk_180 0 30 (dk_at dksX3_counts_3 8 rfl rfl)
theorem dX3_counts_83 : decode cX3_counts 83 = .ok (.iload_n 2, 1) := dk_28 (dk_at dksX3_counts_3 11 rfl rfl)
theorem dX3_counts_84 : decode cX3_counts 84 = .ok (.dup2, 1) := dk_92 (dk_at dksX3_counts_3 12 rfl rfl)
theorem dX3_counts_85 : decode cX3_counts 85 = .ok (.laload, 1) := dk_47 (dk_at dksX3_counts_3 13 rfl rfl)
theorem dX3_counts_86 : decode cX3_counts 86 = .ok (.aload_n 0, 1) := dk_42 (dk_at dksX3_counts_3 14 rfl rfl)
theorem dX3_counts_87 : decode cX3_counts 87 = .ok (.getfield 30, 3) := dk_180 0 30 (dk_at dksX3_counts_3 15 rfl rfl)
theorem dX3_counts_90 : decode cX3_counts 90 = .ok (.iload_n 2, 1) := dk_28 (dk_at dksX3_counts_3 18 rfl rfl)
theorem dX3_counts_91 : decode cX3_counts 91 = .ok (.iconst 1, 1) := dk_4 (dk_at dksX3_counts_3 19 rfl rfl)
theorem dX3_counts_92 : decode cX3_counts 92 = .ok (.iload_n 3, 1) := dk_29 (dk_at dksX3_counts_3 20 rfl rfl)
theorem dX3_counts_93 : decode cX3_counts 93 = .ok (.ishl, 1) := dk_120 (dk_at dksX3_counts_3 21 rfl rfl)
theorem dX3_counts_94 : decode cX3_counts 94 = .ok (.ixor, 1) := dk_130 (dk_at dksX3_counts_3 22 rfl rfl)
theorem dX3_counts_95 : decode cX3_counts 95 = .ok (.laload, 1) := dk_47 (dk_at dksX3_counts_3 23 rfl rfl)
theorem dX3_counts_96 : decode cX3_counts 96 = .ok (.ladd, 1) := dk_97 (dk_at dksX3_counts_4 0 rfl rfl)
theorem dX3_counts_97 : decode cX3_counts 97 = .ok (.lastore, 1) := dk_80 (dk_at dksX3_counts_4 1 rfl rfl)
theorem dX3_counts_98 : decode cX3_counts 98 = .ok (.iinc 3 1, 3) := dk_132 3 1 (dk_at dksX3_counts_4 2 rfl rfl)
theorem dX3_counts_101 : decode cX3_counts 101 = .ok (.goto (-58), 3) := dk_167 255 198 (dk_at dksX3_counts_4 5 rfl rfl)
theorem dX3_counts_104 : decode cX3_counts 104 = .ok (.iinc 2 1, 3) := dk_132 2 1 (dk_at dksX3_counts_4 8 rfl rfl)
theorem dX3_counts_107 : decode cX3_counts 107 = .ok (.goto (-78), 3) := dk_167 255 178 (dk_at dksX3_counts_4 11 rfl rfl)
theorem dX3_counts_110 : decode cX3_counts 110 = .ok (.aload_n 0, 1) := dk_42 (dk_at dksX3_counts_4 14 rfl rfl)
theorem dX3_counts_111 : decode cX3_counts 111 = .ok (.getfield 30, 3) := dk_180 0 30 (dk_at dksX3_counts_4 15 rfl rfl)
theorem dX3_counts_114 : decode cX3_counts 114 = .ok (.iload_n 1, 1) := dk_27 (dk_at dksX3_counts_4 18 rfl rfl)
theorem dX3_counts_115 : decode cX3_counts 115 = .ok (.laload, 1) := dk_47 (dk_at dksX3_counts_4 19 rfl rfl)
theorem dX3_counts_116 : decode cX3_counts 116 = .ok (.lreturn, 1) := dk_173 (dk_at dksX3_counts_4 20 rfl rfl)
abbrev cX3_layNeeds : ByteArray := prog_11_method_26_code
def yX3_layNeeds : MethodName := ⟨RX3, "layNeeds", "()V"⟩
def dkwX3_layNeeds_1 : List UInt8 := [132, 1, 1, 167, 255, 232, 177]
abbrev dktX3_layNeeds_1 : List UInt8 := dkwX3_layNeeds_1 ++ []
def dkwX3_layNeeds_0 : List UInt8 := [3, 60, 27, 42, 180, 0, 7, 3, 46, 162, 0, 20, 42, 180, 0, 34, 27, 42, 27, 182, 0, 97, 79]
abbrev dktX3_layNeeds_0 : List UInt8 := dkwX3_layNeeds_0 ++ dktX3_layNeeds_1
theorem dksX3_layNeeds_0 : cX3_layNeeds.data.toList.drop 0 = dktX3_layNeeds_0 := by decide +kernel
theorem dksX3_layNeeds_1 : cX3_layNeeds.data.toList.drop 23 = dktX3_layNeeds_1 := dk_seg dksX3_layNeeds_0 23 rfl rfl
theorem dX3_layNeeds_0 : decode cX3_layNeeds 0 = .ok (.iconst 0, 1) := dk_3 (dk_at dksX3_layNeeds_0 0 rfl rfl)
theorem dX3_layNeeds_1 : decode cX3_layNeeds 1 = .ok (.istore_n 1, 1) := dk_60 (dk_at dksX3_layNeeds_0 1 rfl rfl)
theorem dX3_layNeeds_2 : decode cX3_layNeeds 2 = .ok (.iload_n 1, 1) := dk_27 (dk_at dksX3_layNeeds_0 2 rfl rfl)
theorem dX3_layNeeds_3 : decode cX3_layNeeds 3 = .ok (.aload_n 0, 1) := dk_42 (dk_at dksX3_layNeeds_0 3 rfl rfl)
theorem dX3_layNeeds_4 : decode cX3_layNeeds 4 = .ok (.getfield 7, 3) := dk_180 0 7 (dk_at dksX3_layNeeds_0 4 rfl rfl)
theorem dX3_layNeeds_7 : decode cX3_layNeeds 7 = .ok (.iconst 0, 1) := dk_3 (dk_at dksX3_layNeeds_0 7 rfl rfl)
theorem dX3_layNeeds_8 : decode cX3_layNeeds 8 = .ok (.iaload, 1) := dk_46 (dk_at dksX3_layNeeds_0 8 rfl rfl)
theorem dX3_layNeeds_9 : decode cX3_layNeeds 9 = .ok (.if_icmp .ge 20, 3) := dk_162 0 20 (dk_at dksX3_layNeeds_0 9 rfl rfl)
theorem dX3_layNeeds_12 : decode cX3_layNeeds 12 = .ok (.aload_n 0, 1) := dk_42 (dk_at dksX3_layNeeds_0 12 rfl rfl)
theorem dX3_layNeeds_13 : decode cX3_layNeeds 13 = .ok (.getfield 34, 3) := dk_180 0 34 (dk_at dksX3_layNeeds_0 13 rfl rfl)
theorem dX3_layNeeds_16 : decode cX3_layNeeds 16 = .ok (.iload_n 1, 1) := dk_27 (dk_at dksX3_layNeeds_0 16 rfl rfl)
theorem dX3_layNeeds_17 : decode cX3_layNeeds 17 = .ok (.aload_n 0, 1) := dk_42 (dk_at dksX3_layNeeds_0 17 rfl rfl)
theorem dX3_layNeeds_18 : decode cX3_layNeeds 18 = .ok (.iload_n 1, 1) := dk_27 (dk_at dksX3_layNeeds_0 18 rfl rfl)
theorem dX3_layNeeds_19 : decode cX3_layNeeds 19 = .ok (.invokevirtual 97, 3) := dk_182 0 97 (dk_at dksX3_layNeeds_0 19 rfl rfl)
theorem dX3_layNeeds_22 : decode cX3_layNeeds 22 = .ok (.iastore, 1) := dk_79 (dk_at dksX3_layNeeds_0 22 rfl rfl)
theorem dX3_layNeeds_23 : decode cX3_layNeeds 23 = .ok (.iinc 1 1, 3) := dk_132 1 1 (dk_at dksX3_layNeeds_1 0 rfl rfl)
theorem dX3_layNeeds_26 : decode cX3_layNeeds 26 = .ok (.goto (-24), 3) := dk_167 255 232 (dk_at dksX3_layNeeds_1 3 rfl rfl)
theorem dX3_layNeeds_29 : decode cX3_layNeeds 29 = .ok (.return_, 1) := dk_177 (dk_at dksX3_layNeeds_1 6 rfl rfl)
abbrev cX3_ahead : ByteArray := prog_11_method_14_code
def yX3_ahead : MethodName := ⟨RX3, "ahead", "(I)I"⟩
def dkwX3_ahead_1 : List UInt8 := [160, 0, 9, 28, 4, 29, 120, 128, 61, 132, 3, 1, 167, 255, 224, 28, 172]
abbrev dktX3_ahead_1 : List UInt8 := dkwX3_ahead_1 ++ []
def dkwX3_ahead_0 : List UInt8 := [3, 61, 3, 62, 29, 42, 180, 0, 7, 3, 46, 162, 0, 28, 42, 29, 182, 0, 73, 27, 122, 4, 126, 4]
abbrev dktX3_ahead_0 : List UInt8 := dkwX3_ahead_0 ++ dktX3_ahead_1
theorem dksX3_ahead_0 : cX3_ahead.data.toList.drop 0 = dktX3_ahead_0 := by decide +kernel
theorem dksX3_ahead_1 : cX3_ahead.data.toList.drop 24 = dktX3_ahead_1 := dk_seg dksX3_ahead_0 24 rfl rfl
theorem dX3_ahead_0 : decode cX3_ahead 0 = .ok (.iconst 0, 1) := dk_3 (dk_at dksX3_ahead_0 0 rfl rfl)
theorem dX3_ahead_1 : decode cX3_ahead 1 = .ok (.istore_n 2, 1) := dk_61 (dk_at dksX3_ahead_0 1 rfl rfl)
theorem dX3_ahead_2 : decode cX3_ahead 2 = .ok (.iconst 0, 1) := dk_3 (dk_at dksX3_ahead_0 2 rfl rfl)
theorem dX3_ahead_3 : decode cX3_ahead 3 = .ok (.istore_n 3, 1) := dk_62 (dk_at dksX3_ahead_0 3 rfl rfl)
theorem dX3_ahead_4 : decode cX3_ahead 4 = .ok (.iload_n 3, 1) := dk_29 (dk_at dksX3_ahead_0 4 rfl rfl)
theorem dX3_ahead_5 : decode cX3_ahead 5 = .ok (.aload_n 0, 1) := dk_42 (dk_at dksX3_ahead_0 5 rfl rfl)
theorem dX3_ahead_6 : decode cX3_ahead 6 = .ok (.getfield 7, 3) := dk_180 0 7 (dk_at dksX3_ahead_0 6 rfl rfl)
theorem dX3_ahead_9 : decode cX3_ahead 9 = .ok (.iconst 0, 1) := dk_3 (dk_at dksX3_ahead_0 9 rfl rfl)
theorem dX3_ahead_10 : decode cX3_ahead 10 = .ok (.iaload, 1) := dk_46 (dk_at dksX3_ahead_0 10 rfl rfl)
theorem dX3_ahead_11 : decode cX3_ahead 11 = .ok (.if_icmp .ge 28, 3) := dk_162 0 28 (dk_at dksX3_ahead_0 11 rfl rfl)
theorem dX3_ahead_14 : decode cX3_ahead 14 = .ok (.aload_n 0, 1) := dk_42 (dk_at dksX3_ahead_0 14 rfl rfl)
theorem dX3_ahead_15 : decode cX3_ahead 15 = .ok (.iload_n 3, 1) := dk_29 (dk_at dksX3_ahead_0 15 rfl rfl)
theorem dX3_ahead_16 : decode cX3_ahead 16 = .ok (.invokevirtual 73, 3) := dk_182 0 73 (dk_at dksX3_ahead_0 16 rfl rfl)
theorem dX3_ahead_19 : decode cX3_ahead 19 = .ok (.iload_n 1, 1) := dk_27 (dk_at dksX3_ahead_0 19 rfl rfl)
theorem dX3_ahead_20 : decode cX3_ahead 20 = .ok (.ishr, 1) := dk_122 (dk_at dksX3_ahead_0 20 rfl rfl)
theorem dX3_ahead_21 : decode cX3_ahead 21 = .ok (.iconst 1, 1) := dk_4 (dk_at dksX3_ahead_0 21 rfl rfl)
theorem dX3_ahead_22 : decode cX3_ahead 22 = .ok (.iand, 1) := dk_126 (dk_at dksX3_ahead_0 22 rfl rfl)
theorem dX3_ahead_23 : decode cX3_ahead 23 = .ok (.iconst 1, 1) := dk_4 (dk_at dksX3_ahead_0 23 rfl rfl)
theorem dX3_ahead_24 : decode cX3_ahead 24 = .ok (.if_icmp .ne 9, 3) := dk_160 0 9 (dk_at dksX3_ahead_1 0 rfl rfl)
theorem dX3_ahead_27 : decode cX3_ahead 27 = .ok (.iload_n 2, 1) := dk_28 (dk_at dksX3_ahead_1 3 rfl rfl)
theorem dX3_ahead_28 : decode cX3_ahead 28 = .ok (.iconst 1, 1) := dk_4 (dk_at dksX3_ahead_1 4 rfl rfl)
theorem dX3_ahead_29 : decode cX3_ahead 29 = .ok (.iload_n 3, 1) := dk_29 (dk_at dksX3_ahead_1 5 rfl rfl)
theorem dX3_ahead_30 : decode cX3_ahead 30 = .ok (.ishl, 1) := dk_120 (dk_at dksX3_ahead_1 6 rfl rfl)
theorem dX3_ahead_31 : decode cX3_ahead 31 = .ok (.ior, 1) := dk_128 (dk_at dksX3_ahead_1 7 rfl rfl)
theorem dX3_ahead_32 : decode cX3_ahead 32 = .ok (.istore_n 2, 1) := dk_61 (dk_at dksX3_ahead_1 8 rfl rfl)
theorem dX3_ahead_33 : decode cX3_ahead 33 = .ok (.iinc 3 1, 3) := dk_132 3 1 (dk_at dksX3_ahead_1 9 rfl rfl)
theorem dX3_ahead_36 : decode cX3_ahead 36 = .ok (.goto (-32), 3) := dk_167 255 224 (dk_at dksX3_ahead_1 12 rfl rfl)
theorem dX3_ahead_39 : decode cX3_ahead 39 = .ok (.iload_n 2, 1) := dk_28 (dk_at dksX3_ahead_1 15 rfl rfl)
theorem dX3_ahead_40 : decode cX3_ahead 40 = .ok (.ireturn, 1) := dk_172 (dk_at dksX3_ahead_1 16 rfl rfl)
abbrev cX3_processionsByTrying : ByteArray := prog_11_method_29_code
def yX3_processionsByTrying : MethodName := ⟨RX3, "processionsByTrying", "()J"⟩
theorem dX3_processionsByTrying_0 : decode cX3_processionsByTrying 0 = .ok (.aload_n 0, 1) := by decide +kernel
theorem dX3_processionsByTrying_1 : decode cX3_processionsByTrying 1 = .ok (.invokevirtual 103, 3) := by decide +kernel
theorem dX3_processionsByTrying_4 : decode cX3_processionsByTrying 4 = .ok (.lreturn, 1) := by decide +kernel
abbrev cX3_firstProcessionAt : ByteArray := prog_11_method_32_code
def yX3_firstProcessionAt : MethodName := ⟨RX3, "firstProcessionAt", "(I)I"⟩
def dkwX3_firstProcessionAt_0 : List UInt8 := [42, 27, 3, 182, 0, 111, 172]
abbrev dktX3_firstProcessionAt_0 : List UInt8 := dkwX3_firstProcessionAt_0 ++ []
theorem dksX3_firstProcessionAt_0 : cX3_firstProcessionAt.data.toList.drop 0 = dktX3_firstProcessionAt_0 := by decide +kernel
theorem dX3_firstProcessionAt_0 : decode cX3_firstProcessionAt 0 = .ok (.aload_n 0, 1) := dk_42 (dk_at dksX3_firstProcessionAt_0 0 rfl rfl)
theorem dX3_firstProcessionAt_1 : decode cX3_firstProcessionAt 1 = .ok (.iload_n 1, 1) := dk_27 (dk_at dksX3_firstProcessionAt_0 1 rfl rfl)
theorem dX3_firstProcessionAt_2 : decode cX3_firstProcessionAt 2 = .ok (.iconst 0, 1) := dk_3 (dk_at dksX3_firstProcessionAt_0 2 rfl rfl)
theorem dX3_firstProcessionAt_3 : decode cX3_firstProcessionAt 3 = .ok (.invokevirtual 111, 3) := dk_182 0 111 (dk_at dksX3_firstProcessionAt_0 3 rfl rfl)
theorem dX3_firstProcessionAt_6 : decode cX3_firstProcessionAt 6 = .ok (.ireturn, 1) := dk_172 (dk_at dksX3_firstProcessionAt_0 6 rfl rfl)
abbrev cX3_walker : ByteArray := prog_11_method_31_code
def yX3_walker : MethodName := ⟨RX3, "walker", "(IZ)I"⟩
def dkwX3_walker_1 : List UInt8 := [182, 0, 70, 153, 0, 5, 3, 172, 42, 28, 182, 0, 107, 42, 180, 0, 37, 27, 46, 172]
abbrev dktX3_walker_1 : List UInt8 := dkwX3_walker_1 ++ []
def dkwX3_walker_0 : List UInt8 := [42, 27, 3, 42, 180, 0, 7, 3, 46, 4, 100, 184, 0, 62, 153, 0, 7, 3, 167, 0, 4, 4]
abbrev dktX3_walker_0 : List UInt8 := dkwX3_walker_0 ++ dktX3_walker_1
theorem dksX3_walker_0 : cX3_walker.data.toList.drop 0 = dktX3_walker_0 := by decide +kernel
theorem dksX3_walker_1 : cX3_walker.data.toList.drop 22 = dktX3_walker_1 := dk_seg dksX3_walker_0 22 rfl rfl
theorem dX3_walker_0 : decode cX3_walker 0 = .ok (.aload_n 0, 1) := dk_42 (dk_at dksX3_walker_0 0 rfl rfl)
theorem dX3_walker_1 : decode cX3_walker 1 = .ok (.iload_n 1, 1) := dk_27 (dk_at dksX3_walker_0 1 rfl rfl)
theorem dX3_walker_2 : decode cX3_walker 2 = .ok (.iconst 0, 1) := dk_3 (dk_at dksX3_walker_0 2 rfl rfl)
theorem dX3_walker_3 : decode cX3_walker 3 = .ok (.aload_n 0, 1) := dk_42 (dk_at dksX3_walker_0 3 rfl rfl)
theorem dX3_walker_4 : decode cX3_walker 4 = .ok (.getfield 7, 3) := dk_180 0 7 (dk_at dksX3_walker_0 4 rfl rfl)
theorem dX3_walker_7 : decode cX3_walker 7 = .ok (.iconst 0, 1) := dk_3 (dk_at dksX3_walker_0 7 rfl rfl)
theorem dX3_walker_8 : decode cX3_walker 8 = .ok (.iaload, 1) := dk_46 (dk_at dksX3_walker_0 8 rfl rfl)
theorem dX3_walker_9 : decode cX3_walker 9 = .ok (.iconst 1, 1) := dk_4 (dk_at dksX3_walker_0 9 rfl rfl)
theorem dX3_walker_10 : decode cX3_walker 10 = .ok (.isub, 1) := dk_100 (dk_at dksX3_walker_0 10 rfl rfl)
theorem dX3_walker_11 : decode cX3_walker 11 = .ok (.invokestatic 62, 3) := dk_184 0 62 (dk_at dksX3_walker_0 11 rfl rfl)
theorem dX3_walker_14 : decode cX3_walker 14 = .ok (.ifCond .eq 7, 3) := dk_153 0 7 (dk_at dksX3_walker_0 14 rfl rfl)
theorem dX3_walker_17 : decode cX3_walker 17 = .ok (.iconst 0, 1) := dk_3 (dk_at dksX3_walker_0 17 rfl rfl)
theorem dX3_walker_18 : decode cX3_walker 18 = .ok (.goto 4, 3) := dk_167 0 4 (dk_at dksX3_walker_0 18 rfl rfl)
theorem dX3_walker_21 : decode cX3_walker 21 = .ok (.iconst 1, 1) := dk_4 (dk_at dksX3_walker_0 21 rfl rfl)
theorem dX3_walker_22 : decode cX3_walker 22 = .ok (.invokevirtual 70, 3) := dk_182 0 70 (dk_at dksX3_walker_1 0 rfl rfl)
theorem dX3_walker_25 : decode cX3_walker 25 = .ok (.ifCond .eq 5, 3) := dk_153 0 5 (dk_at dksX3_walker_1 3 rfl rfl)
theorem dX3_walker_28 : decode cX3_walker 28 = .ok (.iconst 0, 1) := dk_3 (dk_at dksX3_walker_1 6 rfl rfl)
theorem dX3_walker_29 : decode cX3_walker 29 = .ok (.ireturn, 1) := dk_172 (dk_at dksX3_walker_1 7 rfl rfl)
theorem dX3_walker_30 : decode cX3_walker 30 = .ok (.aload_n 0, 1) := dk_42 (dk_at dksX3_walker_1 8 rfl rfl)
theorem dX3_walker_31 : decode cX3_walker 31 = .ok (.iload_n 2, 1) := dk_28 (dk_at dksX3_walker_1 9 rfl rfl)
theorem dX3_walker_32 : decode cX3_walker 32 = .ok (.invokevirtual 107, 3) := dk_182 0 107 (dk_at dksX3_walker_1 10 rfl rfl)
theorem dX3_walker_35 : decode cX3_walker 35 = .ok (.aload_n 0, 1) := dk_42 (dk_at dksX3_walker_1 13 rfl rfl)
theorem dX3_walker_36 : decode cX3_walker 36 = .ok (.getfield 37, 3) := dk_180 0 37 (dk_at dksX3_walker_1 14 rfl rfl)
theorem dX3_walker_39 : decode cX3_walker 39 = .ok (.iload_n 1, 1) := dk_27 (dk_at dksX3_walker_1 17 rfl rfl)
theorem dX3_walker_40 : decode cX3_walker 40 = .ok (.iaload, 1) := dk_46 (dk_at dksX3_walker_1 18 rfl rfl)
theorem dX3_walker_41 : decode cX3_walker 41 = .ok (.ireturn, 1) := dk_172 (dk_at dksX3_walker_1 19 rfl rfl)
abbrev cX3_walks : ByteArray := prog_11_method_30_code
def yX3_walks : MethodName := ⟨RX3, "walks", "(Z)V"⟩
def dkwX3_walks_5 : List UInt8 := [21, 4, 120, 128, 61, 132, 3, 1, 167, 255, 142, 177]
abbrev dktX3_walks_5 : List UInt8 := dkwX3_walks_5 ++ []
def dkwX3_walks_4 : List UInt8 := [164, 0, 7, 21, 5, 54, 4, 132, 5, 1, 167, 255, 179, 42, 180, 0, 37, 29, 21, 4, 79, 28, 4]
abbrev dktX3_walks_4 : List UInt8 := dkwX3_walks_4 ++ dktX3_walks_5
def dkwX3_walks_3 : List UInt8 := [153, 0, 30, 42, 180, 0, 7, 16, 8, 21, 5, 96, 46, 42, 180, 0, 7, 16, 8, 21, 4, 96, 46]
abbrev dktX3_walks_3 : List UInt8 := dkwX3_walks_3 ++ dktX3_walks_4
def dkwX3_walks_2 : List UInt8 := [180, 0, 34, 21, 5, 46, 28, 2, 130, 126, 153, 0, 6, 167, 0, 39, 21, 4, 155, 0, 30, 27]
abbrev dktX3_walks_2 : List UInt8 := dkwX3_walks_2 ++ dktX3_walks_3
def dkwX3_walks_1 : List UInt8 := [21, 5, 42, 180, 0, 7, 3, 46, 162, 0, 72, 28, 21, 5, 122, 4, 126, 4, 159, 0, 56, 42]
abbrev dktX3_walks_1 : List UInt8 := dkwX3_walks_1 ++ dktX3_walks_2
def dkwX3_walks_0 : List UInt8 := [42, 182, 0, 100, 3, 61, 3, 62, 29, 42, 180, 0, 7, 3, 46, 162, 0, 110, 2, 54, 4, 3, 54, 5]
abbrev dktX3_walks_0 : List UInt8 := dkwX3_walks_0 ++ dktX3_walks_1
theorem dksX3_walks_0 : cX3_walks.data.toList.drop 0 = dktX3_walks_0 := by decide +kernel
theorem dksX3_walks_1 : cX3_walks.data.toList.drop 24 = dktX3_walks_1 := dk_seg dksX3_walks_0 24 rfl rfl
theorem dksX3_walks_2 : cX3_walks.data.toList.drop 46 = dktX3_walks_2 := dk_seg dksX3_walks_1 22 rfl rfl
theorem dksX3_walks_3 : cX3_walks.data.toList.drop 68 = dktX3_walks_3 := dk_seg dksX3_walks_2 22 rfl rfl
theorem dksX3_walks_4 : cX3_walks.data.toList.drop 91 = dktX3_walks_4 := dk_seg dksX3_walks_3 23 rfl rfl
theorem dksX3_walks_5 : cX3_walks.data.toList.drop 114 = dktX3_walks_5 := dk_seg dksX3_walks_4 23 rfl rfl
theorem dX3_walks_0 : decode cX3_walks 0 = .ok (.aload_n 0, 1) := dk_42 (dk_at dksX3_walks_0 0 rfl rfl)
theorem dX3_walks_1 : decode cX3_walks 1 = .ok (.invokevirtual 100, 3) := dk_182 0 100 (dk_at dksX3_walks_0 1 rfl rfl)
theorem dX3_walks_4 : decode cX3_walks 4 = .ok (.iconst 0, 1) := dk_3 (dk_at dksX3_walks_0 4 rfl rfl)
theorem dX3_walks_5 : decode cX3_walks 5 = .ok (.istore_n 2, 1) := dk_61 (dk_at dksX3_walks_0 5 rfl rfl)
theorem dX3_walks_6 : decode cX3_walks 6 = .ok (.iconst 0, 1) := dk_3 (dk_at dksX3_walks_0 6 rfl rfl)
theorem dX3_walks_7 : decode cX3_walks 7 = .ok (.istore_n 3, 1) := dk_62 (dk_at dksX3_walks_0 7 rfl rfl)
theorem dX3_walks_8 : decode cX3_walks 8 = .ok (.iload_n 3, 1) := dk_29 (dk_at dksX3_walks_0 8 rfl rfl)
theorem dX3_walks_9 : decode cX3_walks 9 = .ok (.aload_n 0, 1) := dk_42 (dk_at dksX3_walks_0 9 rfl rfl)
theorem dX3_walks_10 : decode cX3_walks 10 = .ok (.getfield 7, 3) := dk_180 0 7 (dk_at dksX3_walks_0 10 rfl rfl)
theorem dX3_walks_13 : decode cX3_walks 13 = .ok (.iconst 0, 1) := dk_3 (dk_at dksX3_walks_0 13 rfl rfl)
theorem dX3_walks_14 : decode cX3_walks 14 = .ok (.iaload, 1) := dk_46 (dk_at dksX3_walks_0 14 rfl rfl)
theorem dX3_walks_15 : decode cX3_walks 15 = .ok (.if_icmp .ge 110, 3) := dk_162 0 110 (dk_at dksX3_walks_0 15 rfl rfl)
theorem dX3_walks_18 : decode cX3_walks 18 = .ok (.iconst (-1), 1) := dk_2 (dk_at dksX3_walks_0 18 rfl rfl)
theorem dX3_walks_19 : decode cX3_walks 19 = .ok (.istore 4, 2) := dk_54 4 (dk_at dksX3_walks_0 19 rfl rfl)
theorem dX3_walks_21 : decode cX3_walks 21 = .ok (.iconst 0, 1) := dk_3 (dk_at dksX3_walks_0 21 rfl rfl)
theorem dX3_walks_22 : decode cX3_walks 22 = .ok (.istore 5, 2) := dk_54 5 (dk_at dksX3_walks_0 22 rfl rfl)
theorem dX3_walks_24 : decode cX3_walks 24 = .ok (.iload 5, 2) := dk_21 5 (dk_at dksX3_walks_1 0 rfl rfl)
theorem dX3_walks_26 : decode cX3_walks 26 = .ok (.aload_n 0, 1) := dk_42 (dk_at dksX3_walks_1 2 rfl rfl)
theorem dX3_walks_27 : decode cX3_walks 27 = .ok (.getfield 7, 3) := dk_180 0 7 (dk_at dksX3_walks_1 3 rfl rfl)
theorem dX3_walks_30 : decode cX3_walks 30 = .ok (.iconst 0, 1) := dk_3 (dk_at dksX3_walks_1 6 rfl rfl)
theorem dX3_walks_31 : decode cX3_walks 31 = .ok (.iaload, 1) := dk_46 (dk_at dksX3_walks_1 7 rfl rfl)
theorem dX3_walks_32 : decode cX3_walks 32 = .ok (.if_icmp .ge 72, 3) := dk_162 0 72 (dk_at dksX3_walks_1 8 rfl rfl)
theorem dX3_walks_35 : decode cX3_walks 35 = .ok (.iload_n 2, 1) := dk_28 (dk_at dksX3_walks_1 11 rfl rfl)
theorem dX3_walks_36 : decode cX3_walks 36 = .ok (.iload 5, 2) := dk_21 5 (dk_at dksX3_walks_1 12 rfl rfl)
theorem dX3_walks_38 : decode cX3_walks 38 = .ok (.ishr, 1) := dk_122 (dk_at dksX3_walks_1 14 rfl rfl)
theorem dX3_walks_39 : decode cX3_walks 39 = .ok (.iconst 1, 1) := dk_4 (dk_at dksX3_walks_1 15 rfl rfl)
theorem dX3_walks_40 : decode cX3_walks 40 = .ok (.iand, 1) := dk_126 (dk_at dksX3_walks_1 16 rfl rfl)
theorem dX3_walks_41 : decode cX3_walks 41 = .ok (.iconst 1, 1) := dk_4 (dk_at dksX3_walks_1 17 rfl rfl)
theorem dX3_walks_42 : decode cX3_walks 42 = .ok (.if_icmp .eq 56, 3) := dk_159 0 56 (dk_at dksX3_walks_1 18 rfl rfl)
theorem dX3_walks_45 : decode cX3_walks 45 = .ok (.aload_n 0, 1) := dk_42 (dk_at dksX3_walks_1 21 rfl rfl)
theorem dX3_walks_46 : decode cX3_walks 46 = .ok (.getfield 34, 3) := dk_180 0 34 (dk_at dksX3_walks_2 0 rfl rfl)
theorem dX3_walks_49 : decode cX3_walks 49 = .ok (.iload 5, 2) := dk_21 5 (dk_at dksX3_walks_2 3 rfl rfl)
theorem dX3_walks_51 : decode cX3_walks 51 = .ok (.iaload, 1) := dk_46 (dk_at dksX3_walks_2 5 rfl rfl)
theorem dX3_walks_52 : decode cX3_walks 52 = .ok (.iload_n 2, 1) := dk_28 (dk_at dksX3_walks_2 6 rfl rfl)
theorem dX3_walks_53 : decode cX3_walks 53 = .ok (.iconst (-1), 1) := dk_2 (dk_at dksX3_walks_2 7 rfl rfl)
theorem dX3_walks_54 : decode cX3_walks 54 = .ok (.ixor, 1) := dk_130 (dk_at dksX3_walks_2 8 rfl rfl)
theorem dX3_walks_55 : decode cX3_walks 55 = .ok (.iand, 1) := dk_126 (dk_at dksX3_walks_2 9 rfl rfl)
theorem dX3_walks_56 : decode cX3_walks 56 = .ok (.ifCond .eq 6, 3) := dk_153 0 6 (dk_at dksX3_walks_2 10 rfl rfl)
theorem dX3_walks_59 : decode cX3_walks 59 = .ok (.goto 39, 3) := dk_167 0 39 (dk_at dksX3_walks_2 13 rfl rfl)
theorem dX3_walks_62 : decode cX3_walks 62 = .ok (.iload 4, 2) := dk_21 4 (dk_at dksX3_walks_2 16 rfl rfl)
theorem dX3_walks_64 : decode cX3_walks 64 = .ok (.ifCond .lt 30, 3) := dk_155 0 30 (dk_at dksX3_walks_2 18 rfl rfl)
theorem dX3_walks_67 : decode cX3_walks 67 = .ok (.iload_n 1, 1) := dk_27 (dk_at dksX3_walks_2 21 rfl rfl)
theorem dX3_walks_68 : decode cX3_walks 68 = .ok (.ifCond .eq 30, 3) := dk_153 0 30 (dk_at dksX3_walks_3 0 rfl rfl)
theorem dX3_walks_71 : decode cX3_walks 71 = .ok (.aload_n 0, 1) := dk_42 (dk_at dksX3_walks_3 3 rfl rfl)
theorem dX3_walks_72 : decode cX3_walks 72 = .ok (.getfield 7, 3) := dk_180 0 7 (dk_at dksX3_walks_3 4 rfl rfl)
theorem dX3_walks_75 : decode cX3_walks 75 = .ok (.bipush 8, 2) := dk_16 8 (dk_at dksX3_walks_3 7 rfl rfl)
theorem dX3_walks_77 : decode cX3_walks 77 = .ok (.iload 5, 2) := dk_21 5 (dk_at dksX3_walks_3 9 rfl rfl)
theorem dX3_walks_79 : decode cX3_walks 79 = .ok (.iadd, 1) := dk_96 (dk_at dksX3_walks_3 11 rfl rfl)
theorem dX3_walks_80 : decode cX3_walks 80 = .ok (.iaload, 1) := dk_46 (dk_at dksX3_walks_3 12 rfl rfl)
theorem dX3_walks_81 : decode cX3_walks 81 = .ok (.aload_n 0, 1) := dk_42 (dk_at dksX3_walks_3 13 rfl rfl)
theorem dX3_walks_82 : decode cX3_walks 82 = .ok (.getfield 7, 3) := dk_180 0 7 (dk_at dksX3_walks_3 14 rfl rfl)
theorem dX3_walks_85 : decode cX3_walks 85 = .ok (.bipush 8, 2) := dk_16 8 (dk_at dksX3_walks_3 17 rfl rfl)
theorem dX3_walks_87 : decode cX3_walks 87 = .ok (.iload 4, 2) := dk_21 4 (dk_at dksX3_walks_3 19 rfl rfl)
theorem dX3_walks_89 : decode cX3_walks 89 = .ok (.iadd, 1) := dk_96 (dk_at dksX3_walks_3 21 rfl rfl)
theorem dX3_walks_90 : decode cX3_walks 90 = .ok (.iaload, 1) := dk_46 (dk_at dksX3_walks_3 22 rfl rfl)
theorem dX3_walks_91 : decode cX3_walks 91 = .ok (.if_icmp .le 7, 3) := dk_164 0 7 (dk_at dksX3_walks_4 0 rfl rfl)
theorem dX3_walks_94 : decode cX3_walks 94 = .ok (.iload 5, 2) := dk_21 5 (dk_at dksX3_walks_4 3 rfl rfl)
theorem dX3_walks_96 : decode cX3_walks 96 = .ok (.istore 4, 2) := dk_54 4 (dk_at dksX3_walks_4 5 rfl rfl)
theorem dX3_walks_98 : decode cX3_walks 98 = .ok (.iinc 5 1, 3) := dk_132 5 1 (dk_at dksX3_walks_4 7 rfl rfl)
theorem dX3_walks_101 : decode cX3_walks 101 = .ok (.goto (-77), 3) := dk_167 255 179 (dk_at dksX3_walks_4 10 rfl rfl)
theorem dX3_walks_104 : decode cX3_walks 104 = .ok (.aload_n 0, 1) := dk_42 (dk_at dksX3_walks_4 13 rfl rfl)
theorem dX3_walks_105 : decode cX3_walks 105 = .ok (.getfield 37, 3) := dk_180 0 37 (dk_at dksX3_walks_4 14 rfl rfl)
theorem dX3_walks_108 : decode cX3_walks 108 = .ok (.iload_n 3, 1) := dk_29 (dk_at dksX3_walks_4 17 rfl rfl)
theorem dX3_walks_109 : decode cX3_walks 109 = .ok (.iload 4, 2) := dk_21 4 (dk_at dksX3_walks_4 18 rfl rfl)
theorem dX3_walks_111 : decode cX3_walks 111 = .ok (.iastore, 1) := dk_79 (dk_at dksX3_walks_4 20 rfl rfl)
theorem dX3_walks_112 : decode cX3_walks 112 = .ok (.iload_n 2, 1) := dk_28 (dk_at dksX3_walks_4 21 rfl rfl)
theorem dX3_walks_113 : decode cX3_walks 113 = .ok (.iconst 1, 1) := dk_4 (dk_at dksX3_walks_4 22 rfl rfl)
theorem dX3_walks_114 : decode cX3_walks 114 = .ok (.iload 4, 2) := dk_21 4 (dk_at dksX3_walks_5 0 rfl rfl)
theorem dX3_walks_116 : decode cX3_walks 116 = .ok (.ishl, 1) := dk_120 (dk_at dksX3_walks_5 2 rfl rfl)
theorem dX3_walks_117 : decode cX3_walks 117 = .ok (.ior, 1) := dk_128 (dk_at dksX3_walks_5 3 rfl rfl)
theorem dX3_walks_118 : decode cX3_walks 118 = .ok (.istore_n 2, 1) := dk_61 (dk_at dksX3_walks_5 4 rfl rfl)
theorem dX3_walks_119 : decode cX3_walks 119 = .ok (.iinc 3 1, 3) := dk_132 3 1 (dk_at dksX3_walks_5 5 rfl rfl)
theorem dX3_walks_122 : decode cX3_walks 122 = .ok (.goto (-114), 3) := dk_167 255 142 (dk_at dksX3_walks_5 8 rfl rfl)
theorem dX3_walks_125 : decode cX3_walks 125 = .ok (.return_, 1) := dk_177 (dk_at dksX3_walks_5 11 rfl rfl)
abbrev cX3_grandProcessionAt : ByteArray := prog_11_method_33_code
def yX3_grandProcessionAt : MethodName := ⟨RX3, "grandProcessionAt", "(I)I"⟩
def dkwX3_grandProcessionAt_0 : List UInt8 := [42, 27, 4, 182, 0, 111, 172]
abbrev dktX3_grandProcessionAt_0 : List UInt8 := dkwX3_grandProcessionAt_0 ++ []
theorem dksX3_grandProcessionAt_0 : cX3_grandProcessionAt.data.toList.drop 0 = dktX3_grandProcessionAt_0 := by decide +kernel
theorem dX3_grandProcessionAt_0 : decode cX3_grandProcessionAt 0 = .ok (.aload_n 0, 1) := dk_42 (dk_at dksX3_grandProcessionAt_0 0 rfl rfl)
theorem dX3_grandProcessionAt_1 : decode cX3_grandProcessionAt 1 = .ok (.iload_n 1, 1) := dk_27 (dk_at dksX3_grandProcessionAt_0 1 rfl rfl)
theorem dX3_grandProcessionAt_2 : decode cX3_grandProcessionAt 2 = .ok (.iconst 1, 1) := dk_4 (dk_at dksX3_grandProcessionAt_0 2 rfl rfl)
theorem dX3_grandProcessionAt_3 : decode cX3_grandProcessionAt 3 = .ok (.invokevirtual 111, 3) := dk_182 0 111 (dk_at dksX3_grandProcessionAt_0 3 rfl rfl)
theorem dX3_grandProcessionAt_6 : decode cX3_grandProcessionAt 6 = .ok (.ireturn, 1) := dk_172 (dk_at dksX3_grandProcessionAt_0 6 rfl rfl)
abbrev cX3_lowestPlaceOf : ByteArray := prog_11_method_34_code
def yX3_lowestPlaceOf : MethodName := ⟨RX3, "lowestPlaceOf", "(I)I"⟩
def dkwX3_lowestPlaceOf_0 : List UInt8 := [42, 27, 182, 0, 94, 153, 0, 7, 3, 167, 0, 11, 42, 27, 182, 0, 97, 184, 0, 80, 172]
abbrev dktX3_lowestPlaceOf_0 : List UInt8 := dkwX3_lowestPlaceOf_0 ++ []
theorem dksX3_lowestPlaceOf_0 : cX3_lowestPlaceOf.data.toList.drop 0 = dktX3_lowestPlaceOf_0 := by decide +kernel
theorem dX3_lowestPlaceOf_0 : decode cX3_lowestPlaceOf 0 = .ok (.aload_n 0, 1) := dk_42 (dk_at dksX3_lowestPlaceOf_0 0 rfl rfl)
theorem dX3_lowestPlaceOf_1 : decode cX3_lowestPlaceOf 1 = .ok (.iload_n 1, 1) := dk_27 (dk_at dksX3_lowestPlaceOf_0 1 rfl rfl)
theorem dX3_lowestPlaceOf_2 : decode cX3_lowestPlaceOf 2 = .ok (.invokevirtual 94, 3) := dk_182 0 94 (dk_at dksX3_lowestPlaceOf_0 2 rfl rfl)
theorem dX3_lowestPlaceOf_5 : decode cX3_lowestPlaceOf 5 = .ok (.ifCond .eq 7, 3) := dk_153 0 7 (dk_at dksX3_lowestPlaceOf_0 5 rfl rfl)
theorem dX3_lowestPlaceOf_8 : decode cX3_lowestPlaceOf 8 = .ok (.iconst 0, 1) := dk_3 (dk_at dksX3_lowestPlaceOf_0 8 rfl rfl)
theorem dX3_lowestPlaceOf_9 : decode cX3_lowestPlaceOf 9 = .ok (.goto 11, 3) := dk_167 0 11 (dk_at dksX3_lowestPlaceOf_0 9 rfl rfl)
theorem dX3_lowestPlaceOf_12 : decode cX3_lowestPlaceOf 12 = .ok (.aload_n 0, 1) := dk_42 (dk_at dksX3_lowestPlaceOf_0 12 rfl rfl)
theorem dX3_lowestPlaceOf_13 : decode cX3_lowestPlaceOf 13 = .ok (.iload_n 1, 1) := dk_27 (dk_at dksX3_lowestPlaceOf_0 13 rfl rfl)
theorem dX3_lowestPlaceOf_14 : decode cX3_lowestPlaceOf 14 = .ok (.invokevirtual 97, 3) := dk_182 0 97 (dk_at dksX3_lowestPlaceOf_0 14 rfl rfl)
theorem dX3_lowestPlaceOf_17 : decode cX3_lowestPlaceOf 17 = .ok (.invokestatic 80, 3) := dk_184 0 80 (dk_at dksX3_lowestPlaceOf_0 17 rfl rfl)
theorem dX3_lowestPlaceOf_20 : decode cX3_lowestPlaceOf 20 = .ok (.ireturn, 1) := dk_172 (dk_at dksX3_lowestPlaceOf_0 20 rfl rfl)
abbrev cX3_type : ByteArray := prog_11_method_35_code
def yX3_type : MethodName := ⟨RX3, "type", "(C)I"⟩
def dkwX3_type_2 : List UInt8 := [27, 79, 42, 89, 180, 0, 115, 4, 96, 181, 0, 115, 42, 180, 0, 115, 172]
abbrev dktX3_type_2 : List UInt8 := dkwX3_type_2 ++ []
def dkwX3_type_1 : List UInt8 := [160, 0, 7, 5, 167, 0, 4, 3, 182, 0, 70, 153, 0, 5, 3, 172, 42, 180, 0, 19, 42, 180, 0, 115]
abbrev dktX3_type_1 : List UInt8 := dkwX3_type_1 ++ dktX3_type_2
def dkwX3_type_0 : List UInt8 := [42, 27, 16, 32, 16, 126, 184, 0, 62, 154, 0, 7, 4, 167, 0, 17, 42, 180, 0, 115, 16, 24]
abbrev dktX3_type_0 : List UInt8 := dkwX3_type_0 ++ dktX3_type_1
theorem dksX3_type_0 : cX3_type.data.toList.drop 0 = dktX3_type_0 := by decide +kernel
theorem dksX3_type_1 : cX3_type.data.toList.drop 22 = dktX3_type_1 := dk_seg dksX3_type_0 22 rfl rfl
theorem dksX3_type_2 : cX3_type.data.toList.drop 46 = dktX3_type_2 := dk_seg dksX3_type_1 24 rfl rfl
theorem dX3_type_0 : decode cX3_type 0 = .ok (.aload_n 0, 1) := dk_42 (dk_at dksX3_type_0 0 rfl rfl)
theorem dX3_type_1 : decode cX3_type 1 = .ok (.iload_n 1, 1) := dk_27 (dk_at dksX3_type_0 1 rfl rfl)
theorem dX3_type_2 : decode cX3_type 2 = .ok (.bipush 32, 2) := dk_16 32 (dk_at dksX3_type_0 2 rfl rfl)
theorem dX3_type_4 : decode cX3_type 4 = .ok (.bipush 126, 2) := dk_16 126 (dk_at dksX3_type_0 4 rfl rfl)
theorem dX3_type_6 : decode cX3_type 6 = .ok (.invokestatic 62, 3) := dk_184 0 62 (dk_at dksX3_type_0 6 rfl rfl)
theorem dX3_type_9 : decode cX3_type 9 = .ok (.ifCond .ne 7, 3) := dk_154 0 7 (dk_at dksX3_type_0 9 rfl rfl)
theorem dX3_type_12 : decode cX3_type 12 = .ok (.iconst 1, 1) := dk_4 (dk_at dksX3_type_0 12 rfl rfl)
theorem dX3_type_13 : decode cX3_type 13 = .ok (.goto 17, 3) := dk_167 0 17 (dk_at dksX3_type_0 13 rfl rfl)
theorem dX3_type_16 : decode cX3_type 16 = .ok (.aload_n 0, 1) := dk_42 (dk_at dksX3_type_0 16 rfl rfl)
theorem dX3_type_17 : decode cX3_type 17 = .ok (.getfield 115, 3) := dk_180 0 115 (dk_at dksX3_type_0 17 rfl rfl)
theorem dX3_type_20 : decode cX3_type 20 = .ok (.bipush 24, 2) := dk_16 24 (dk_at dksX3_type_0 20 rfl rfl)
theorem dX3_type_22 : decode cX3_type 22 = .ok (.if_icmp .ne 7, 3) := dk_160 0 7 (dk_at dksX3_type_1 0 rfl rfl)
theorem dX3_type_25 : decode cX3_type 25 = .ok (.iconst 2, 1) := dk_5 (dk_at dksX3_type_1 3 rfl rfl)
theorem dX3_type_26 : decode cX3_type 26 = .ok (.goto 4, 3) := dk_167 0 4 (dk_at dksX3_type_1 4 rfl rfl)
theorem dX3_type_29 : decode cX3_type 29 = .ok (.iconst 0, 1) := dk_3 (dk_at dksX3_type_1 7 rfl rfl)
theorem dX3_type_30 : decode cX3_type 30 = .ok (.invokevirtual 70, 3) := dk_182 0 70 (dk_at dksX3_type_1 8 rfl rfl)
theorem dX3_type_33 : decode cX3_type 33 = .ok (.ifCond .eq 5, 3) := dk_153 0 5 (dk_at dksX3_type_1 11 rfl rfl)
theorem dX3_type_36 : decode cX3_type 36 = .ok (.iconst 0, 1) := dk_3 (dk_at dksX3_type_1 14 rfl rfl)
theorem dX3_type_37 : decode cX3_type 37 = .ok (.ireturn, 1) := dk_172 (dk_at dksX3_type_1 15 rfl rfl)
theorem dX3_type_38 : decode cX3_type 38 = .ok (.aload_n 0, 1) := dk_42 (dk_at dksX3_type_1 16 rfl rfl)
theorem dX3_type_39 : decode cX3_type 39 = .ok (.getfield 19, 3) := dk_180 0 19 (dk_at dksX3_type_1 17 rfl rfl)
theorem dX3_type_42 : decode cX3_type 42 = .ok (.aload_n 0, 1) := dk_42 (dk_at dksX3_type_1 20 rfl rfl)
theorem dX3_type_43 : decode cX3_type 43 = .ok (.getfield 115, 3) := dk_180 0 115 (dk_at dksX3_type_1 21 rfl rfl)
theorem dX3_type_46 : decode cX3_type 46 = .ok (.iload_n 1, 1) := dk_27 (dk_at dksX3_type_2 0 rfl rfl)
theorem dX3_type_47 : decode cX3_type 47 = .ok (.iastore, 1) := dk_79 (dk_at dksX3_type_2 1 rfl rfl)
theorem dX3_type_48 : decode cX3_type 48 = .ok (.aload_n 0, 1) := dk_42 (dk_at dksX3_type_2 2 rfl rfl)
theorem dX3_type_49 : decode cX3_type 49 = .ok (.dup, 1) := dk_89 (dk_at dksX3_type_2 3 rfl rfl)
theorem dX3_type_50 : decode cX3_type 50 = .ok (.getfield 115, 3) := dk_180 0 115 (dk_at dksX3_type_2 4 rfl rfl)
theorem dX3_type_53 : decode cX3_type 53 = .ok (.iconst 1, 1) := dk_4 (dk_at dksX3_type_2 7 rfl rfl)
theorem dX3_type_54 : decode cX3_type 54 = .ok (.iadd, 1) := dk_96 (dk_at dksX3_type_2 8 rfl rfl)
theorem dX3_type_55 : decode cX3_type 55 = .ok (.putfield 115, 3) := dk_181 0 115 (dk_at dksX3_type_2 9 rfl rfl)
theorem dX3_type_58 : decode cX3_type 58 = .ok (.aload_n 0, 1) := dk_42 (dk_at dksX3_type_2 12 rfl rfl)
theorem dX3_type_59 : decode cX3_type 59 = .ok (.getfield 115, 3) := dk_180 0 115 (dk_at dksX3_type_2 13 rfl rfl)
theorem dX3_type_62 : decode cX3_type 62 = .ok (.ireturn, 1) := dk_172 (dk_at dksX3_type_2 16 rfl rfl)
abbrev cX3_clearText : ByteArray := prog_11_method_36_code
def yX3_clearText : MethodName := ⟨RX3, "clearText", "()I"⟩
def dkwX3_clearText_0 : List UInt8 := [42, 3, 181, 0, 52, 42, 180, 0, 115, 60, 42, 3, 181, 0, 115, 27, 172]
abbrev dktX3_clearText_0 : List UInt8 := dkwX3_clearText_0 ++ []
theorem dksX3_clearText_0 : cX3_clearText.data.toList.drop 0 = dktX3_clearText_0 := by decide +kernel
theorem dX3_clearText_0 : decode cX3_clearText 0 = .ok (.aload_n 0, 1) := dk_42 (dk_at dksX3_clearText_0 0 rfl rfl)
theorem dX3_clearText_1 : decode cX3_clearText 1 = .ok (.iconst 0, 1) := dk_3 (dk_at dksX3_clearText_0 1 rfl rfl)
theorem dX3_clearText_2 : decode cX3_clearText 2 = .ok (.putfield 52, 3) := dk_181 0 52 (dk_at dksX3_clearText_0 2 rfl rfl)
theorem dX3_clearText_5 : decode cX3_clearText 5 = .ok (.aload_n 0, 1) := dk_42 (dk_at dksX3_clearText_0 5 rfl rfl)
theorem dX3_clearText_6 : decode cX3_clearText 6 = .ok (.getfield 115, 3) := dk_180 0 115 (dk_at dksX3_clearText_0 6 rfl rfl)
theorem dX3_clearText_9 : decode cX3_clearText 9 = .ok (.istore_n 1, 1) := dk_60 (dk_at dksX3_clearText_0 9 rfl rfl)
theorem dX3_clearText_10 : decode cX3_clearText 10 = .ok (.aload_n 0, 1) := dk_42 (dk_at dksX3_clearText_0 10 rfl rfl)
theorem dX3_clearText_11 : decode cX3_clearText 11 = .ok (.iconst 0, 1) := dk_3 (dk_at dksX3_clearText_0 11 rfl rfl)
theorem dX3_clearText_12 : decode cX3_clearText 12 = .ok (.putfield 115, 3) := dk_181 0 115 (dk_at dksX3_clearText_0 12 rfl rfl)
theorem dX3_clearText_15 : decode cX3_clearText 15 = .ok (.iload_n 1, 1) := dk_27 (dk_at dksX3_clearText_0 15 rfl rfl)
theorem dX3_clearText_16 : decode cX3_clearText 16 = .ok (.ireturn, 1) := dk_172 (dk_at dksX3_clearText_0 16 rfl rfl)
abbrev cX3_isReadable : ByteArray := prog_11_method_41_code
def yX3_isReadable : MethodName := ⟨RX3, "isReadable", "()Z"⟩
def dkwX3_isReadable_0 : List UInt8 := [42, 3, 181, 0, 52, 42, 182, 0, 131, 172]
abbrev dktX3_isReadable_0 : List UInt8 := dkwX3_isReadable_0 ++ []
theorem dksX3_isReadable_0 : cX3_isReadable.data.toList.drop 0 = dktX3_isReadable_0 := by decide +kernel
theorem dX3_isReadable_0 : decode cX3_isReadable 0 = .ok (.aload_n 0, 1) := dk_42 (dk_at dksX3_isReadable_0 0 rfl rfl)
theorem dX3_isReadable_1 : decode cX3_isReadable 1 = .ok (.iconst 0, 1) := dk_3 (dk_at dksX3_isReadable_0 1 rfl rfl)
theorem dX3_isReadable_2 : decode cX3_isReadable 2 = .ok (.putfield 52, 3) := dk_181 0 52 (dk_at dksX3_isReadable_0 2 rfl rfl)
theorem dX3_isReadable_5 : decode cX3_isReadable 5 = .ok (.aload_n 0, 1) := dk_42 (dk_at dksX3_isReadable_0 5 rfl rfl)
theorem dX3_isReadable_6 : decode cX3_isReadable 6 = .ok (.invokevirtual 131, 3) := dk_182 0 131 (dk_at dksX3_isReadable_0 6 rfl rfl)
theorem dX3_isReadable_9 : decode cX3_isReadable 9 = .ok (.ireturn, 1) := dk_172 (dk_at dksX3_isReadable_0 9 rfl rfl)
abbrev cX3_reads : ByteArray := prog_11_method_40_code
def yX3_reads : MethodName := ⟨RX3, "reads", "()Z"⟩
def dkwX3_reads_1 : List UInt8 := [180, 0, 115, 160, 0, 7, 4, 167, 0, 4, 3, 172]
abbrev dktX3_reads_1 : List UInt8 := dkwX3_reads_1 ++ []
def dkwX3_reads_0 : List UInt8 := [42, 3, 181, 0, 118, 42, 182, 0, 127, 60, 42, 182, 0, 121, 27, 153, 0, 18, 42, 180, 0, 118, 42]
abbrev dktX3_reads_0 : List UInt8 := dkwX3_reads_0 ++ dktX3_reads_1
theorem dksX3_reads_0 : cX3_reads.data.toList.drop 0 = dktX3_reads_0 := by decide +kernel
theorem dksX3_reads_1 : cX3_reads.data.toList.drop 23 = dktX3_reads_1 := dk_seg dksX3_reads_0 23 rfl rfl
theorem dX3_reads_0 : decode cX3_reads 0 = .ok (.aload_n 0, 1) := dk_42 (dk_at dksX3_reads_0 0 rfl rfl)
theorem dX3_reads_1 : decode cX3_reads 1 = .ok (.iconst 0, 1) := dk_3 (dk_at dksX3_reads_0 1 rfl rfl)
theorem dX3_reads_2 : decode cX3_reads 2 = .ok (.putfield 118, 3) := dk_181 0 118 (dk_at dksX3_reads_0 2 rfl rfl)
theorem dX3_reads_5 : decode cX3_reads 5 = .ok (.aload_n 0, 1) := dk_42 (dk_at dksX3_reads_0 5 rfl rfl)
theorem dX3_reads_6 : decode cX3_reads 6 = .ok (.invokevirtual 127, 3) := dk_182 0 127 (dk_at dksX3_reads_0 6 rfl rfl)
theorem dX3_reads_9 : decode cX3_reads 9 = .ok (.istore_n 1, 1) := dk_60 (dk_at dksX3_reads_0 9 rfl rfl)
theorem dX3_reads_10 : decode cX3_reads 10 = .ok (.aload_n 0, 1) := dk_42 (dk_at dksX3_reads_0 10 rfl rfl)
theorem dX3_reads_11 : decode cX3_reads 11 = .ok (.invokevirtual 121, 3) := dk_182 0 121 (dk_at dksX3_reads_0 11 rfl rfl)
theorem dX3_reads_14 : decode cX3_reads 14 = .ok (.iload_n 1, 1) := dk_27 (dk_at dksX3_reads_0 14 rfl rfl)
theorem dX3_reads_15 : decode cX3_reads 15 = .ok (.ifCond .eq 18, 3) := dk_153 0 18 (dk_at dksX3_reads_0 15 rfl rfl)
theorem dX3_reads_18 : decode cX3_reads 18 = .ok (.aload_n 0, 1) := dk_42 (dk_at dksX3_reads_0 18 rfl rfl)
theorem dX3_reads_19 : decode cX3_reads 19 = .ok (.getfield 118, 3) := dk_180 0 118 (dk_at dksX3_reads_0 19 rfl rfl)
theorem dX3_reads_22 : decode cX3_reads 22 = .ok (.aload_n 0, 1) := dk_42 (dk_at dksX3_reads_0 22 rfl rfl)
theorem dX3_reads_23 : decode cX3_reads 23 = .ok (.getfield 115, 3) := dk_180 0 115 (dk_at dksX3_reads_1 0 rfl rfl)
theorem dX3_reads_26 : decode cX3_reads 26 = .ok (.if_icmp .ne 7, 3) := dk_160 0 7 (dk_at dksX3_reads_1 3 rfl rfl)
theorem dX3_reads_29 : decode cX3_reads 29 = .ok (.iconst 1, 1) := dk_4 (dk_at dksX3_reads_1 6 rfl rfl)
theorem dX3_reads_30 : decode cX3_reads 30 = .ok (.goto 4, 3) := dk_167 0 4 (dk_at dksX3_reads_1 7 rfl rfl)
theorem dX3_reads_33 : decode cX3_reads 33 = .ok (.iconst 0, 1) := dk_3 (dk_at dksX3_reads_1 10 rfl rfl)
theorem dX3_reads_34 : decode cX3_reads 34 = .ok (.ireturn, 1) := dk_172 (dk_at dksX3_reads_1 11 rfl rfl)
abbrev cX3_isRequest : ByteArray := prog_11_method_39_code
def yX3_isRequest : MethodName := ⟨RX3, "isRequest", "()Z"⟩
def dkwX3_isRequest_4 : List UInt8 := [42, 89, 180, 0, 118, 4, 96, 181, 0, 118, 4, 172]
abbrev dktX3_isRequest_4 : List UInt8 := dkwX3_isRequest_4 ++ []
def dkwX3_isRequest_3 : List UInt8 := [159, 0, 22, 42, 180, 0, 19, 42, 180, 0, 118, 46, 16, 48, 16, 57, 184, 0, 62, 154, 0, 5, 3, 172]
abbrev dktX3_isRequest_3 : List UInt8 := dkwX3_isRequest_3 ++ dktX3_isRequest_4
def dkwX3_isRequest_2 : List UInt8 := [154, 255, 241, 42, 16, 41, 182, 0, 124, 172, 42, 182, 0, 121, 42, 180, 0, 118, 42, 180, 0, 115]
abbrev dktX3_isRequest_2 : List UInt8 := dkwX3_isRequest_2 ++ dktX3_isRequest_3
def dkwX3_isRequest_1 : List UInt8 := [16, 40, 182, 0, 124, 153, 0, 28, 42, 182, 0, 127, 154, 0, 5, 3, 172, 42, 16, 44, 182, 0, 124]
abbrev dktX3_isRequest_1 : List UInt8 := dkwX3_isRequest_1 ++ dktX3_isRequest_2
def dkwX3_isRequest_0 : List UInt8 := [42, 16, 112, 182, 0, 124, 154, 0, 12, 42, 16, 98, 182, 0, 124, 153, 0, 8, 42, 182, 0, 127, 172, 42]
abbrev dktX3_isRequest_0 : List UInt8 := dkwX3_isRequest_0 ++ dktX3_isRequest_1
theorem dksX3_isRequest_0 : cX3_isRequest.data.toList.drop 0 = dktX3_isRequest_0 := by decide +kernel
theorem dksX3_isRequest_1 : cX3_isRequest.data.toList.drop 24 = dktX3_isRequest_1 := dk_seg dksX3_isRequest_0 24 rfl rfl
theorem dksX3_isRequest_2 : cX3_isRequest.data.toList.drop 47 = dktX3_isRequest_2 := dk_seg dksX3_isRequest_1 23 rfl rfl
theorem dksX3_isRequest_3 : cX3_isRequest.data.toList.drop 69 = dktX3_isRequest_3 := dk_seg dksX3_isRequest_2 22 rfl rfl
theorem dksX3_isRequest_4 : cX3_isRequest.data.toList.drop 93 = dktX3_isRequest_4 := dk_seg dksX3_isRequest_3 24 rfl rfl
theorem dX3_isRequest_0 : decode cX3_isRequest 0 = .ok (.aload_n 0, 1) := dk_42 (dk_at dksX3_isRequest_0 0 rfl rfl)
theorem dX3_isRequest_1 : decode cX3_isRequest 1 = .ok (.bipush 112, 2) := dk_16 112 (dk_at dksX3_isRequest_0 1 rfl rfl)
theorem dX3_isRequest_3 : decode cX3_isRequest 3 = .ok (.invokevirtual 124, 3) := dk_182 0 124 (dk_at dksX3_isRequest_0 3 rfl rfl)
theorem dX3_isRequest_6 : decode cX3_isRequest 6 = .ok (.ifCond .ne 12, 3) := dk_154 0 12 (dk_at dksX3_isRequest_0 6 rfl rfl)
theorem dX3_isRequest_9 : decode cX3_isRequest 9 = .ok (.aload_n 0, 1) := dk_42 (dk_at dksX3_isRequest_0 9 rfl rfl)
theorem dX3_isRequest_10 : decode cX3_isRequest 10 = .ok (.bipush 98, 2) := dk_16 98 (dk_at dksX3_isRequest_0 10 rfl rfl)
theorem dX3_isRequest_12 : decode cX3_isRequest 12 = .ok (.invokevirtual 124, 3) := dk_182 0 124 (dk_at dksX3_isRequest_0 12 rfl rfl)
theorem dX3_isRequest_15 : decode cX3_isRequest 15 = .ok (.ifCond .eq 8, 3) := dk_153 0 8 (dk_at dksX3_isRequest_0 15 rfl rfl)
theorem dX3_isRequest_18 : decode cX3_isRequest 18 = .ok (.aload_n 0, 1) := dk_42 (dk_at dksX3_isRequest_0 18 rfl rfl)
theorem dX3_isRequest_19 : decode cX3_isRequest 19 = .ok (.invokevirtual 127, 3) := dk_182 0 127 (dk_at dksX3_isRequest_0 19 rfl rfl)
theorem dX3_isRequest_22 : decode cX3_isRequest 22 = .ok (.ireturn, 1) := dk_172 (dk_at dksX3_isRequest_0 22 rfl rfl)
theorem dX3_isRequest_23 : decode cX3_isRequest 23 = .ok (.aload_n 0, 1) := dk_42 (dk_at dksX3_isRequest_0 23 rfl rfl)
theorem dX3_isRequest_24 : decode cX3_isRequest 24 = .ok (.bipush 40, 2) := dk_16 40 (dk_at dksX3_isRequest_1 0 rfl rfl)
theorem dX3_isRequest_26 : decode cX3_isRequest 26 = .ok (.invokevirtual 124, 3) := dk_182 0 124 (dk_at dksX3_isRequest_1 2 rfl rfl)
theorem dX3_isRequest_29 : decode cX3_isRequest 29 = .ok (.ifCond .eq 28, 3) := dk_153 0 28 (dk_at dksX3_isRequest_1 5 rfl rfl)
theorem dX3_isRequest_32 : decode cX3_isRequest 32 = .ok (.aload_n 0, 1) := dk_42 (dk_at dksX3_isRequest_1 8 rfl rfl)
theorem dX3_isRequest_33 : decode cX3_isRequest 33 = .ok (.invokevirtual 127, 3) := dk_182 0 127 (dk_at dksX3_isRequest_1 9 rfl rfl)
theorem dX3_isRequest_36 : decode cX3_isRequest 36 = .ok (.ifCond .ne 5, 3) := dk_154 0 5 (dk_at dksX3_isRequest_1 12 rfl rfl)
theorem dX3_isRequest_39 : decode cX3_isRequest 39 = .ok (.iconst 0, 1) := dk_3 (dk_at dksX3_isRequest_1 15 rfl rfl)
theorem dX3_isRequest_40 : decode cX3_isRequest 40 = .ok (.ireturn, 1) := dk_172 (dk_at dksX3_isRequest_1 16 rfl rfl)
theorem dX3_isRequest_41 : decode cX3_isRequest 41 = .ok (.aload_n 0, 1) := dk_42 (dk_at dksX3_isRequest_1 17 rfl rfl)
theorem dX3_isRequest_42 : decode cX3_isRequest 42 = .ok (.bipush 44, 2) := dk_16 44 (dk_at dksX3_isRequest_1 18 rfl rfl)
theorem dX3_isRequest_44 : decode cX3_isRequest 44 = .ok (.invokevirtual 124, 3) := dk_182 0 124 (dk_at dksX3_isRequest_1 20 rfl rfl)
theorem dX3_isRequest_47 : decode cX3_isRequest 47 = .ok (.ifCond .ne (-15), 3) := dk_154 255 241 (dk_at dksX3_isRequest_2 0 rfl rfl)
theorem dX3_isRequest_50 : decode cX3_isRequest 50 = .ok (.aload_n 0, 1) := dk_42 (dk_at dksX3_isRequest_2 3 rfl rfl)
theorem dX3_isRequest_51 : decode cX3_isRequest 51 = .ok (.bipush 41, 2) := dk_16 41 (dk_at dksX3_isRequest_2 4 rfl rfl)
theorem dX3_isRequest_53 : decode cX3_isRequest 53 = .ok (.invokevirtual 124, 3) := dk_182 0 124 (dk_at dksX3_isRequest_2 6 rfl rfl)
theorem dX3_isRequest_56 : decode cX3_isRequest 56 = .ok (.ireturn, 1) := dk_172 (dk_at dksX3_isRequest_2 9 rfl rfl)
theorem dX3_isRequest_57 : decode cX3_isRequest 57 = .ok (.aload_n 0, 1) := dk_42 (dk_at dksX3_isRequest_2 10 rfl rfl)
theorem dX3_isRequest_58 : decode cX3_isRequest 58 = .ok (.invokevirtual 121, 3) := dk_182 0 121 (dk_at dksX3_isRequest_2 11 rfl rfl)
theorem dX3_isRequest_61 : decode cX3_isRequest 61 = .ok (.aload_n 0, 1) := dk_42 (dk_at dksX3_isRequest_2 14 rfl rfl)
theorem dX3_isRequest_62 : decode cX3_isRequest 62 = .ok (.getfield 118, 3) := dk_180 0 118 (dk_at dksX3_isRequest_2 15 rfl rfl)
theorem dX3_isRequest_65 : decode cX3_isRequest 65 = .ok (.aload_n 0, 1) := dk_42 (dk_at dksX3_isRequest_2 18 rfl rfl)
theorem dX3_isRequest_66 : decode cX3_isRequest 66 = .ok (.getfield 115, 3) := dk_180 0 115 (dk_at dksX3_isRequest_2 19 rfl rfl)
theorem dX3_isRequest_69 : decode cX3_isRequest 69 = .ok (.if_icmp .eq 22, 3) := dk_159 0 22 (dk_at dksX3_isRequest_3 0 rfl rfl)
theorem dX3_isRequest_72 : decode cX3_isRequest 72 = .ok (.aload_n 0, 1) := dk_42 (dk_at dksX3_isRequest_3 3 rfl rfl)
theorem dX3_isRequest_73 : decode cX3_isRequest 73 = .ok (.getfield 19, 3) := dk_180 0 19 (dk_at dksX3_isRequest_3 4 rfl rfl)
theorem dX3_isRequest_76 : decode cX3_isRequest 76 = .ok (.aload_n 0, 1) := dk_42 (dk_at dksX3_isRequest_3 7 rfl rfl)
theorem dX3_isRequest_77 : decode cX3_isRequest 77 = .ok (.getfield 118, 3) := dk_180 0 118 (dk_at dksX3_isRequest_3 8 rfl rfl)
theorem dX3_isRequest_80 : decode cX3_isRequest 80 = .ok (.iaload, 1) := dk_46 (dk_at dksX3_isRequest_3 11 rfl rfl)
theorem dX3_isRequest_81 : decode cX3_isRequest 81 = .ok (.bipush 48, 2) := dk_16 48 (dk_at dksX3_isRequest_3 12 rfl rfl)
theorem dX3_isRequest_83 : decode cX3_isRequest 83 = .ok (.bipush 57, 2) := dk_16 57 (dk_at dksX3_isRequest_3 14 rfl rfl)
theorem dX3_isRequest_85 : decode cX3_isRequest 85 = .ok (.invokestatic 62, 3) := dk_184 0 62 (dk_at dksX3_isRequest_3 16 rfl rfl)
theorem dX3_isRequest_88 : decode cX3_isRequest 88 = .ok (.ifCond .ne 5, 3) := dk_154 0 5 (dk_at dksX3_isRequest_3 19 rfl rfl)
theorem dX3_isRequest_91 : decode cX3_isRequest 91 = .ok (.iconst 0, 1) := dk_3 (dk_at dksX3_isRequest_3 22 rfl rfl)
theorem dX3_isRequest_92 : decode cX3_isRequest 92 = .ok (.ireturn, 1) := dk_172 (dk_at dksX3_isRequest_3 23 rfl rfl)
theorem dX3_isRequest_93 : decode cX3_isRequest 93 = .ok (.aload_n 0, 1) := dk_42 (dk_at dksX3_isRequest_4 0 rfl rfl)
theorem dX3_isRequest_94 : decode cX3_isRequest 94 = .ok (.dup, 1) := dk_89 (dk_at dksX3_isRequest_4 1 rfl rfl)
theorem dX3_isRequest_95 : decode cX3_isRequest 95 = .ok (.getfield 118, 3) := dk_180 0 118 (dk_at dksX3_isRequest_4 2 rfl rfl)
theorem dX3_isRequest_98 : decode cX3_isRequest 98 = .ok (.iconst 1, 1) := dk_4 (dk_at dksX3_isRequest_4 5 rfl rfl)
theorem dX3_isRequest_99 : decode cX3_isRequest 99 = .ok (.iadd, 1) := dk_96 (dk_at dksX3_isRequest_4 6 rfl rfl)
theorem dX3_isRequest_100 : decode cX3_isRequest 100 = .ok (.putfield 118, 3) := dk_181 0 118 (dk_at dksX3_isRequest_4 7 rfl rfl)
theorem dX3_isRequest_103 : decode cX3_isRequest 103 = .ok (.iconst 1, 1) := dk_4 (dk_at dksX3_isRequest_4 10 rfl rfl)
theorem dX3_isRequest_104 : decode cX3_isRequest 104 = .ok (.ireturn, 1) := dk_172 (dk_at dksX3_isRequest_4 11 rfl rfl)
abbrev cX3_skips : ByteArray := prog_11_method_38_code
def yX3_skips : MethodName := ⟨RX3, "skips", "(I)Z"⟩
def dkwX3_skips_1 : List UInt8 := [27, 159, 0, 5, 3, 172, 42, 89, 180, 0, 118, 4, 96, 181, 0, 118, 4, 172]
abbrev dktX3_skips_1 : List UInt8 := dkwX3_skips_1 ++ []
def dkwX3_skips_0 : List UInt8 := [42, 182, 0, 121, 42, 180, 0, 118, 42, 180, 0, 115, 159, 0, 16, 42, 180, 0, 19, 42, 180, 0, 118, 46]
abbrev dktX3_skips_0 : List UInt8 := dkwX3_skips_0 ++ dktX3_skips_1
theorem dksX3_skips_0 : cX3_skips.data.toList.drop 0 = dktX3_skips_0 := by decide +kernel
theorem dksX3_skips_1 : cX3_skips.data.toList.drop 24 = dktX3_skips_1 := dk_seg dksX3_skips_0 24 rfl rfl
theorem dX3_skips_0 : decode cX3_skips 0 = .ok (.aload_n 0, 1) := dk_42 (dk_at dksX3_skips_0 0 rfl rfl)
theorem dX3_skips_1 : decode cX3_skips 1 = .ok (.invokevirtual 121, 3) := dk_182 0 121 (dk_at dksX3_skips_0 1 rfl rfl)
theorem dX3_skips_4 : decode cX3_skips 4 = .ok (.aload_n 0, 1) := dk_42 (dk_at dksX3_skips_0 4 rfl rfl)
theorem dX3_skips_5 : decode cX3_skips 5 = .ok (.getfield 118, 3) := dk_180 0 118 (dk_at dksX3_skips_0 5 rfl rfl)
theorem dX3_skips_8 : decode cX3_skips 8 = .ok (.aload_n 0, 1) := dk_42 (dk_at dksX3_skips_0 8 rfl rfl)
theorem dX3_skips_9 : decode cX3_skips 9 = .ok (.getfield 115, 3) := dk_180 0 115 (dk_at dksX3_skips_0 9 rfl rfl)
theorem dX3_skips_12 : decode cX3_skips 12 = .ok (.if_icmp .eq 16, 3) := dk_159 0 16 (dk_at dksX3_skips_0 12 rfl rfl)
theorem dX3_skips_15 : decode cX3_skips 15 = .ok (.aload_n 0, 1) := dk_42 (dk_at dksX3_skips_0 15 rfl rfl)
theorem dX3_skips_16 : decode cX3_skips 16 = .ok (.getfield 19, 3) := dk_180 0 19 (dk_at dksX3_skips_0 16 rfl rfl)
theorem dX3_skips_19 : decode cX3_skips 19 = .ok (.aload_n 0, 1) := dk_42 (dk_at dksX3_skips_0 19 rfl rfl)
theorem dX3_skips_20 : decode cX3_skips 20 = .ok (.getfield 118, 3) := dk_180 0 118 (dk_at dksX3_skips_0 20 rfl rfl)
theorem dX3_skips_23 : decode cX3_skips 23 = .ok (.iaload, 1) := dk_46 (dk_at dksX3_skips_0 23 rfl rfl)
theorem dX3_skips_24 : decode cX3_skips 24 = .ok (.iload_n 1, 1) := dk_27 (dk_at dksX3_skips_1 0 rfl rfl)
theorem dX3_skips_25 : decode cX3_skips 25 = .ok (.if_icmp .eq 5, 3) := dk_159 0 5 (dk_at dksX3_skips_1 1 rfl rfl)
theorem dX3_skips_28 : decode cX3_skips 28 = .ok (.iconst 0, 1) := dk_3 (dk_at dksX3_skips_1 4 rfl rfl)
theorem dX3_skips_29 : decode cX3_skips 29 = .ok (.ireturn, 1) := dk_172 (dk_at dksX3_skips_1 5 rfl rfl)
theorem dX3_skips_30 : decode cX3_skips 30 = .ok (.aload_n 0, 1) := dk_42 (dk_at dksX3_skips_1 6 rfl rfl)
theorem dX3_skips_31 : decode cX3_skips 31 = .ok (.dup, 1) := dk_89 (dk_at dksX3_skips_1 7 rfl rfl)
theorem dX3_skips_32 : decode cX3_skips 32 = .ok (.getfield 118, 3) := dk_180 0 118 (dk_at dksX3_skips_1 8 rfl rfl)
theorem dX3_skips_35 : decode cX3_skips 35 = .ok (.iconst 1, 1) := dk_4 (dk_at dksX3_skips_1 11 rfl rfl)
theorem dX3_skips_36 : decode cX3_skips 36 = .ok (.iadd, 1) := dk_96 (dk_at dksX3_skips_1 12 rfl rfl)
theorem dX3_skips_37 : decode cX3_skips 37 = .ok (.putfield 118, 3) := dk_181 0 118 (dk_at dksX3_skips_1 13 rfl rfl)
theorem dX3_skips_40 : decode cX3_skips 40 = .ok (.iconst 1, 1) := dk_4 (dk_at dksX3_skips_1 16 rfl rfl)
theorem dX3_skips_41 : decode cX3_skips 41 = .ok (.ireturn, 1) := dk_172 (dk_at dksX3_skips_1 17 rfl rfl)
abbrev cX3_passes : ByteArray := prog_11_method_37_code
def yX3_passes : MethodName := ⟨RX3, "passes", "()V"⟩
def dkwX3_passes_1 : List UInt8 := [160, 0, 16, 42, 89, 180, 0, 118, 4, 96, 181, 0, 118, 167, 255, 221, 177]
abbrev dktX3_passes_1 : List UInt8 := dkwX3_passes_1 ++ []
def dkwX3_passes_0 : List UInt8 := [42, 180, 0, 118, 42, 180, 0, 115, 162, 0, 30, 42, 180, 0, 19, 42, 180, 0, 118, 46, 16, 33]
abbrev dktX3_passes_0 : List UInt8 := dkwX3_passes_0 ++ dktX3_passes_1
theorem dksX3_passes_0 : cX3_passes.data.toList.drop 0 = dktX3_passes_0 := by decide +kernel
theorem dksX3_passes_1 : cX3_passes.data.toList.drop 22 = dktX3_passes_1 := dk_seg dksX3_passes_0 22 rfl rfl
theorem dX3_passes_0 : decode cX3_passes 0 = .ok (.aload_n 0, 1) := dk_42 (dk_at dksX3_passes_0 0 rfl rfl)
theorem dX3_passes_1 : decode cX3_passes 1 = .ok (.getfield 118, 3) := dk_180 0 118 (dk_at dksX3_passes_0 1 rfl rfl)
theorem dX3_passes_4 : decode cX3_passes 4 = .ok (.aload_n 0, 1) := dk_42 (dk_at dksX3_passes_0 4 rfl rfl)
theorem dX3_passes_5 : decode cX3_passes 5 = .ok (.getfield 115, 3) := dk_180 0 115 (dk_at dksX3_passes_0 5 rfl rfl)
theorem dX3_passes_8 : decode cX3_passes 8 = .ok (.if_icmp .ge 30, 3) := dk_162 0 30 (dk_at dksX3_passes_0 8 rfl rfl)
theorem dX3_passes_11 : decode cX3_passes 11 = .ok (.aload_n 0, 1) := dk_42 (dk_at dksX3_passes_0 11 rfl rfl)
theorem dX3_passes_12 : decode cX3_passes 12 = .ok (.getfield 19, 3) := dk_180 0 19 (dk_at dksX3_passes_0 12 rfl rfl)
theorem dX3_passes_15 : decode cX3_passes 15 = .ok (.aload_n 0, 1) := dk_42 (dk_at dksX3_passes_0 15 rfl rfl)
theorem dX3_passes_16 : decode cX3_passes 16 = .ok (.getfield 118, 3) := dk_180 0 118 (dk_at dksX3_passes_0 16 rfl rfl)
theorem dX3_passes_19 : decode cX3_passes 19 = .ok (.iaload, 1) := dk_46 (dk_at dksX3_passes_0 19 rfl rfl)
theorem dX3_passes_20 : decode cX3_passes 20 = .ok (.bipush 33, 2) := dk_16 33 (dk_at dksX3_passes_0 20 rfl rfl)
theorem dX3_passes_22 : decode cX3_passes 22 = .ok (.if_icmp .ne 16, 3) := dk_160 0 16 (dk_at dksX3_passes_1 0 rfl rfl)
theorem dX3_passes_25 : decode cX3_passes 25 = .ok (.aload_n 0, 1) := dk_42 (dk_at dksX3_passes_1 3 rfl rfl)
theorem dX3_passes_26 : decode cX3_passes 26 = .ok (.dup, 1) := dk_89 (dk_at dksX3_passes_1 4 rfl rfl)
theorem dX3_passes_27 : decode cX3_passes 27 = .ok (.getfield 118, 3) := dk_180 0 118 (dk_at dksX3_passes_1 5 rfl rfl)
theorem dX3_passes_30 : decode cX3_passes 30 = .ok (.iconst 1, 1) := dk_4 (dk_at dksX3_passes_1 8 rfl rfl)
theorem dX3_passes_31 : decode cX3_passes 31 = .ok (.iadd, 1) := dk_96 (dk_at dksX3_passes_1 9 rfl rfl)
theorem dX3_passes_32 : decode cX3_passes 32 = .ok (.putfield 118, 3) := dk_181 0 118 (dk_at dksX3_passes_1 10 rfl rfl)
theorem dX3_passes_35 : decode cX3_passes 35 = .ok (.goto (-35), 3) := dk_167 255 221 (dk_at dksX3_passes_1 13 rfl rfl)
theorem dX3_passes_38 : decode cX3_passes 38 = .ok (.return_, 1) := dk_177 (dk_at dksX3_passes_1 16 rfl rfl)
abbrev cX3_insultCount : ByteArray := prog_11_method_43_code
def yX3_insultCount : MethodName := ⟨RX3, "insultCount", "()I"⟩
def dkwX3_insultCount_0 : List UInt8 := [42, 3, 181, 0, 52, 42, 182, 0, 134, 172]
abbrev dktX3_insultCount_0 : List UInt8 := dkwX3_insultCount_0 ++ []
theorem dksX3_insultCount_0 : cX3_insultCount.data.toList.drop 0 = dktX3_insultCount_0 := by decide +kernel
theorem dX3_insultCount_0 : decode cX3_insultCount 0 = .ok (.aload_n 0, 1) := dk_42 (dk_at dksX3_insultCount_0 0 rfl rfl)
theorem dX3_insultCount_1 : decode cX3_insultCount 1 = .ok (.iconst 0, 1) := dk_3 (dk_at dksX3_insultCount_0 1 rfl rfl)
theorem dX3_insultCount_2 : decode cX3_insultCount 2 = .ok (.putfield 52, 3) := dk_181 0 52 (dk_at dksX3_insultCount_0 2 rfl rfl)
theorem dX3_insultCount_5 : decode cX3_insultCount 5 = .ok (.aload_n 0, 1) := dk_42 (dk_at dksX3_insultCount_0 5 rfl rfl)
theorem dX3_insultCount_6 : decode cX3_insultCount 6 = .ok (.invokevirtual 134, 3) := dk_182 0 134 (dk_at dksX3_insultCount_0 6 rfl rfl)
theorem dX3_insultCount_9 : decode cX3_insultCount 9 = .ok (.ireturn, 1) := dk_172 (dk_at dksX3_insultCount_0 9 rfl rfl)
abbrev cX3_insults : ByteArray := prog_11_method_42_code
def yX3_insults : MethodName := ⟨RX3, "insults", "()I"⟩
def dkwX3_insults_1 : List UInt8 := [4, 167, 0, 4, 3, 96, 60, 132, 2, 1, 167, 255, 226, 27, 172]
abbrev dktX3_insults_1 : List UInt8 := dkwX3_insults_1 ++ []
def dkwX3_insults_0 : List UInt8 := [3, 60, 3, 61, 28, 42, 180, 0, 115, 162, 0, 28, 27, 42, 180, 0, 19, 28, 46, 16, 33, 160, 0, 7]
abbrev dktX3_insults_0 : List UInt8 := dkwX3_insults_0 ++ dktX3_insults_1
theorem dksX3_insults_0 : cX3_insults.data.toList.drop 0 = dktX3_insults_0 := by decide +kernel
theorem dksX3_insults_1 : cX3_insults.data.toList.drop 24 = dktX3_insults_1 := dk_seg dksX3_insults_0 24 rfl rfl
theorem dX3_insults_0 : decode cX3_insults 0 = .ok (.iconst 0, 1) := dk_3 (dk_at dksX3_insults_0 0 rfl rfl)
theorem dX3_insults_1 : decode cX3_insults 1 = .ok (.istore_n 1, 1) := dk_60 (dk_at dksX3_insults_0 1 rfl rfl)
theorem dX3_insults_2 : decode cX3_insults 2 = .ok (.iconst 0, 1) := dk_3 (dk_at dksX3_insults_0 2 rfl rfl)
theorem dX3_insults_3 : decode cX3_insults 3 = .ok (.istore_n 2, 1) := dk_61 (dk_at dksX3_insults_0 3 rfl rfl)
theorem dX3_insults_4 : decode cX3_insults 4 = .ok (.iload_n 2, 1) := dk_28 (dk_at dksX3_insults_0 4 rfl rfl)
theorem dX3_insults_5 : decode cX3_insults 5 = .ok (.aload_n 0, 1) := dk_42 (dk_at dksX3_insults_0 5 rfl rfl)
theorem dX3_insults_6 : decode cX3_insults 6 = .ok (.getfield 115, 3) := dk_180 0 115 (dk_at dksX3_insults_0 6 rfl rfl)
theorem dX3_insults_9 : decode cX3_insults 9 = .ok (.if_icmp .ge 28, 3) := dk_162 0 28 (dk_at dksX3_insults_0 9 rfl rfl)
theorem dX3_insults_12 : decode cX3_insults 12 = .ok (.iload_n 1, 1) := dk_27 (dk_at dksX3_insults_0 12 rfl rfl)
theorem dX3_insults_13 : decode cX3_insults 13 = .ok (.aload_n 0, 1) := dk_42 (dk_at dksX3_insults_0 13 rfl rfl)
theorem dX3_insults_14 : decode cX3_insults 14 = .ok (.getfield 19, 3) := dk_180 0 19 (dk_at dksX3_insults_0 14 rfl rfl)
theorem dX3_insults_17 : decode cX3_insults 17 = .ok (.iload_n 2, 1) := dk_28 (dk_at dksX3_insults_0 17 rfl rfl)
theorem dX3_insults_18 : decode cX3_insults 18 = .ok (.iaload, 1) := dk_46 (dk_at dksX3_insults_0 18 rfl rfl)
theorem dX3_insults_19 : decode cX3_insults 19 = .ok (.bipush 33, 2) := dk_16 33 (dk_at dksX3_insults_0 19 rfl rfl)
theorem dX3_insults_21 : decode cX3_insults 21 = .ok (.if_icmp .ne 7, 3) := dk_160 0 7 (dk_at dksX3_insults_0 21 rfl rfl)
theorem dX3_insults_24 : decode cX3_insults 24 = .ok (.iconst 1, 1) := dk_4 (dk_at dksX3_insults_1 0 rfl rfl)
theorem dX3_insults_25 : decode cX3_insults 25 = .ok (.goto 4, 3) := dk_167 0 4 (dk_at dksX3_insults_1 1 rfl rfl)
theorem dX3_insults_28 : decode cX3_insults 28 = .ok (.iconst 0, 1) := dk_3 (dk_at dksX3_insults_1 4 rfl rfl)
theorem dX3_insults_29 : decode cX3_insults 29 = .ok (.iadd, 1) := dk_96 (dk_at dksX3_insults_1 5 rfl rfl)
theorem dX3_insults_30 : decode cX3_insults 30 = .ok (.istore_n 1, 1) := dk_60 (dk_at dksX3_insults_1 6 rfl rfl)
theorem dX3_insults_31 : decode cX3_insults 31 = .ok (.iinc 2 1, 3) := dk_132 2 1 (dk_at dksX3_insults_1 7 rfl rfl)
theorem dX3_insults_34 : decode cX3_insults 34 = .ok (.goto (-30), 3) := dk_167 255 226 (dk_at dksX3_insults_1 10 rfl rfl)
theorem dX3_insults_37 : decode cX3_insults 37 = .ok (.iload_n 1, 1) := dk_27 (dk_at dksX3_insults_1 13 rfl rfl)
theorem dX3_insults_38 : decode cX3_insults 38 = .ok (.ireturn, 1) := dk_172 (dk_at dksX3_insults_1 14 rfl rfl)
abbrev cX3_removals : ByteArray := prog_11_method_47_code
def yX3_removals : MethodName := ⟨RX3, "removals", "()I"⟩
theorem dX3_removals_0 : decode cX3_removals 0 = .ok (.aload_n 0, 1) := by decide +kernel
theorem dX3_removals_1 : decode cX3_removals 1 = .ok (.invokevirtual 148, 3) := by decide +kernel
theorem dX3_removals_4 : decode cX3_removals 4 = .ok (.ireturn, 1) := by decide +kernel
abbrev cX3_removes : ByteArray := prog_11_method_46_code
def yX3_removes : MethodName := ⟨RX3, "removes", "()I"⟩
def dkwX3_removes_1 : List UInt8 := [167, 0, 9, 42, 180, 0, 115, 27, 100, 172]
abbrev dktX3_removes_1 : List UInt8 := dkwX3_removes_1 ++ []
def dkwX3_removes_0 : List UInt8 := [42, 182, 0, 145, 60, 42, 27, 154, 0, 7, 4, 167, 0, 4, 3, 182, 0, 70, 153, 0, 7, 3]
abbrev dktX3_removes_0 : List UInt8 := dkwX3_removes_0 ++ dktX3_removes_1
theorem dksX3_removes_0 : cX3_removes.data.toList.drop 0 = dktX3_removes_0 := by decide +kernel
theorem dksX3_removes_1 : cX3_removes.data.toList.drop 22 = dktX3_removes_1 := dk_seg dksX3_removes_0 22 rfl rfl
theorem dX3_removes_0 : decode cX3_removes 0 = .ok (.aload_n 0, 1) := dk_42 (dk_at dksX3_removes_0 0 rfl rfl)
theorem dX3_removes_1 : decode cX3_removes 1 = .ok (.invokevirtual 145, 3) := dk_182 0 145 (dk_at dksX3_removes_0 1 rfl rfl)
theorem dX3_removes_4 : decode cX3_removes 4 = .ok (.istore_n 1, 1) := dk_60 (dk_at dksX3_removes_0 4 rfl rfl)
theorem dX3_removes_5 : decode cX3_removes 5 = .ok (.aload_n 0, 1) := dk_42 (dk_at dksX3_removes_0 5 rfl rfl)
theorem dX3_removes_6 : decode cX3_removes 6 = .ok (.iload_n 1, 1) := dk_27 (dk_at dksX3_removes_0 6 rfl rfl)
theorem dX3_removes_7 : decode cX3_removes 7 = .ok (.ifCond .ne 7, 3) := dk_154 0 7 (dk_at dksX3_removes_0 7 rfl rfl)
theorem dX3_removes_10 : decode cX3_removes 10 = .ok (.iconst 1, 1) := dk_4 (dk_at dksX3_removes_0 10 rfl rfl)
theorem dX3_removes_11 : decode cX3_removes 11 = .ok (.goto 4, 3) := dk_167 0 4 (dk_at dksX3_removes_0 11 rfl rfl)
theorem dX3_removes_14 : decode cX3_removes 14 = .ok (.iconst 0, 1) := dk_3 (dk_at dksX3_removes_0 14 rfl rfl)
theorem dX3_removes_15 : decode cX3_removes 15 = .ok (.invokevirtual 70, 3) := dk_182 0 70 (dk_at dksX3_removes_0 15 rfl rfl)
theorem dX3_removes_18 : decode cX3_removes 18 = .ok (.ifCond .eq 7, 3) := dk_153 0 7 (dk_at dksX3_removes_0 18 rfl rfl)
theorem dX3_removes_21 : decode cX3_removes 21 = .ok (.iconst 0, 1) := dk_3 (dk_at dksX3_removes_0 21 rfl rfl)
theorem dX3_removes_22 : decode cX3_removes 22 = .ok (.goto 9, 3) := dk_167 0 9 (dk_at dksX3_removes_1 0 rfl rfl)
theorem dX3_removes_25 : decode cX3_removes 25 = .ok (.aload_n 0, 1) := dk_42 (dk_at dksX3_removes_1 3 rfl rfl)
theorem dX3_removes_26 : decode cX3_removes 26 = .ok (.getfield 115, 3) := dk_180 0 115 (dk_at dksX3_removes_1 4 rfl rfl)
theorem dX3_removes_29 : decode cX3_removes 29 = .ok (.iload_n 1, 1) := dk_27 (dk_at dksX3_removes_1 7 rfl rfl)
theorem dX3_removes_30 : decode cX3_removes 30 = .ok (.isub, 1) := dk_100 (dk_at dksX3_removes_1 8 rfl rfl)
theorem dX3_removes_31 : decode cX3_removes 31 = .ok (.ireturn, 1) := dk_172 (dk_at dksX3_removes_1 9 rfl rfl)
abbrev cX3_longest : ByteArray := prog_11_method_45_code
def yX3_longest : MethodName := ⟨RX3, "longest", "()I"⟩
def dkwX3_longest_3 : List UInt8 := [167, 255, 219, 42, 180, 0, 40, 42, 180, 0, 115, 46, 172]
abbrev dktX3_longest_3 : List UInt8 := dkwX3_longest_3 ++ []
def dkwX3_longest_2 : List UInt8 := [180, 0, 115, 163, 0, 17, 42, 28, 28, 27, 96, 182, 0, 141, 132, 2, 1, 167, 255, 235, 132, 1, 1]
abbrev dktX3_longest_2 : List UInt8 := dkwX3_longest_2 ++ dktX3_longest_3
def dkwX3_longest_1 : List UInt8 := [132, 1, 1, 167, 255, 232, 4, 60, 27, 42, 180, 0, 115, 163, 0, 35, 3, 61, 28, 27, 96, 42]
abbrev dktX3_longest_1 : List UInt8 := dkwX3_longest_1 ++ dktX3_longest_2
def dkwX3_longest_0 : List UInt8 := [3, 60, 27, 17, 2, 113, 162, 0, 23, 42, 180, 0, 40, 27, 3, 79, 42, 180, 0, 43, 27, 3, 79]
abbrev dktX3_longest_0 : List UInt8 := dkwX3_longest_0 ++ dktX3_longest_1
theorem dksX3_longest_0 : cX3_longest.data.toList.drop 0 = dktX3_longest_0 := by decide +kernel
theorem dksX3_longest_1 : cX3_longest.data.toList.drop 23 = dktX3_longest_1 := dk_seg dksX3_longest_0 23 rfl rfl
theorem dksX3_longest_2 : cX3_longest.data.toList.drop 45 = dktX3_longest_2 := dk_seg dksX3_longest_1 22 rfl rfl
theorem dksX3_longest_3 : cX3_longest.data.toList.drop 68 = dktX3_longest_3 := dk_seg dksX3_longest_2 23 rfl rfl
theorem dX3_longest_0 : decode cX3_longest 0 = .ok (.iconst 0, 1) := dk_3 (dk_at dksX3_longest_0 0 rfl rfl)
theorem dX3_longest_1 : decode cX3_longest 1 = .ok (.istore_n 1, 1) := dk_60 (dk_at dksX3_longest_0 1 rfl rfl)
theorem dX3_longest_2 : decode cX3_longest 2 = .ok (.iload_n 1, 1) := dk_27 (dk_at dksX3_longest_0 2 rfl rfl)
theorem dX3_longest_3 : decode cX3_longest 3 = .ok (.sipush 625, 3) := dk_17 2 113 (dk_at dksX3_longest_0 3 rfl rfl)
theorem dX3_longest_6 : decode cX3_longest 6 = .ok (.if_icmp .ge 23, 3) := dk_162 0 23 (dk_at dksX3_longest_0 6 rfl rfl)
theorem dX3_longest_9 : decode cX3_longest 9 = .ok (.aload_n 0, 1) := dk_42 (dk_at dksX3_longest_0 9 rfl rfl)
theorem dX3_longest_10 : decode cX3_longest 10 = .ok (.getfield 40, 3) := dk_180 0 40 (dk_at dksX3_longest_0 10 rfl rfl)
theorem dX3_longest_13 : decode cX3_longest 13 = .ok (.iload_n 1, 1) := dk_27 (dk_at dksX3_longest_0 13 rfl rfl)
theorem dX3_longest_14 : decode cX3_longest 14 = .ok (.iconst 0, 1) := dk_3 (dk_at dksX3_longest_0 14 rfl rfl)
theorem dX3_longest_15 : decode cX3_longest 15 = .ok (.iastore, 1) := dk_79 (dk_at dksX3_longest_0 15 rfl rfl)
theorem dX3_longest_16 : decode cX3_longest 16 = .ok (.aload_n 0, 1) := dk_42 (dk_at dksX3_longest_0 16 rfl rfl)
theorem dX3_longest_17 : decode cX3_longest 17 = .ok (.getfield 43, 3) := dk_180 0 43 (dk_at dksX3_longest_0 17 rfl rfl)
theorem dX3_longest_20 : decode cX3_longest 20 = .ok (.iload_n 1, 1) := dk_27 (dk_at dksX3_longest_0 20 rfl rfl)
theorem dX3_longest_21 : decode cX3_longest 21 = .ok (.iconst 0, 1) := dk_3 (dk_at dksX3_longest_0 21 rfl rfl)
theorem dX3_longest_22 : decode cX3_longest 22 = .ok (.iastore, 1) := dk_79 (dk_at dksX3_longest_0 22 rfl rfl)
theorem dX3_longest_23 : decode cX3_longest 23 = .ok (.iinc 1 1, 3) := dk_132 1 1 (dk_at dksX3_longest_1 0 rfl rfl)
theorem dX3_longest_26 : decode cX3_longest 26 = .ok (.goto (-24), 3) := dk_167 255 232 (dk_at dksX3_longest_1 3 rfl rfl)
theorem dX3_longest_29 : decode cX3_longest 29 = .ok (.iconst 1, 1) := dk_4 (dk_at dksX3_longest_1 6 rfl rfl)
theorem dX3_longest_30 : decode cX3_longest 30 = .ok (.istore_n 1, 1) := dk_60 (dk_at dksX3_longest_1 7 rfl rfl)
theorem dX3_longest_31 : decode cX3_longest 31 = .ok (.iload_n 1, 1) := dk_27 (dk_at dksX3_longest_1 8 rfl rfl)
theorem dX3_longest_32 : decode cX3_longest 32 = .ok (.aload_n 0, 1) := dk_42 (dk_at dksX3_longest_1 9 rfl rfl)
theorem dX3_longest_33 : decode cX3_longest 33 = .ok (.getfield 115, 3) := dk_180 0 115 (dk_at dksX3_longest_1 10 rfl rfl)
theorem dX3_longest_36 : decode cX3_longest 36 = .ok (.if_icmp .gt 35, 3) := dk_163 0 35 (dk_at dksX3_longest_1 13 rfl rfl)
theorem dX3_longest_39 : decode cX3_longest 39 = .ok (.iconst 0, 1) := dk_3 (dk_at dksX3_longest_1 16 rfl rfl)
theorem dX3_longest_40 : decode cX3_longest 40 = .ok (.istore_n 2, 1) := dk_61 (dk_at dksX3_longest_1 17 rfl rfl)
theorem dX3_longest_41 : decode cX3_longest 41 = .ok (.iload_n 2, 1) := dk_28 (dk_at dksX3_longest_1 18 rfl rfl)
theorem dX3_longest_42 : decode cX3_longest 42 = .ok (.iload_n 1, 1) := dk_27 (dk_at dksX3_longest_1 19 rfl rfl)
theorem dX3_longest_43 : decode cX3_longest 43 = .ok (.iadd, 1) := dk_96 (dk_at dksX3_longest_1 20 rfl rfl)
theorem dX3_longest_44 : decode cX3_longest 44 = .ok (.aload_n 0, 1) := dk_42 (dk_at dksX3_longest_1 21 rfl rfl)
theorem dX3_longest_45 : decode cX3_longest 45 = .ok (.getfield 115, 3) := dk_180 0 115 (dk_at dksX3_longest_2 0 rfl rfl)
theorem dX3_longest_48 : decode cX3_longest 48 = .ok (.if_icmp .gt 17, 3) := dk_163 0 17 (dk_at dksX3_longest_2 3 rfl rfl)
theorem dX3_longest_51 : decode cX3_longest 51 = .ok (.aload_n 0, 1) := dk_42 (dk_at dksX3_longest_2 6 rfl rfl)
theorem dX3_longest_52 : decode cX3_longest 52 = .ok (.iload_n 2, 1) := dk_28 (dk_at dksX3_longest_2 7 rfl rfl)
theorem dX3_longest_53 : decode cX3_longest 53 = .ok (.iload_n 2, 1) := dk_28 (dk_at dksX3_longest_2 8 rfl rfl)
theorem dX3_longest_54 : decode cX3_longest 54 = .ok (.iload_n 1, 1) := dk_27 (dk_at dksX3_longest_2 9 rfl rfl)
theorem dX3_longest_55 : decode cX3_longest 55 = .ok (.iadd, 1) := dk_96 (dk_at dksX3_longest_2 10 rfl rfl)
theorem dX3_longest_56 : decode cX3_longest 56 = .ok (.invokevirtual 141, 3) := dk_182 0 141 (dk_at dksX3_longest_2 11 rfl rfl)
theorem dX3_longest_59 : decode cX3_longest 59 = .ok (.iinc 2 1, 3) := dk_132 2 1 (dk_at dksX3_longest_2 14 rfl rfl)
theorem dX3_longest_62 : decode cX3_longest 62 = .ok (.goto (-21), 3) := dk_167 255 235 (dk_at dksX3_longest_2 17 rfl rfl)
theorem dX3_longest_65 : decode cX3_longest 65 = .ok (.iinc 1 1, 3) := dk_132 1 1 (dk_at dksX3_longest_2 20 rfl rfl)
theorem dX3_longest_68 : decode cX3_longest 68 = .ok (.goto (-37), 3) := dk_167 255 219 (dk_at dksX3_longest_3 0 rfl rfl)
theorem dX3_longest_71 : decode cX3_longest 71 = .ok (.aload_n 0, 1) := dk_42 (dk_at dksX3_longest_3 3 rfl rfl)
theorem dX3_longest_72 : decode cX3_longest 72 = .ok (.getfield 40, 3) := dk_180 0 40 (dk_at dksX3_longest_3 4 rfl rfl)
theorem dX3_longest_75 : decode cX3_longest 75 = .ok (.aload_n 0, 1) := dk_42 (dk_at dksX3_longest_3 7 rfl rfl)
theorem dX3_longest_76 : decode cX3_longest 76 = .ok (.getfield 115, 3) := dk_180 0 115 (dk_at dksX3_longest_3 8 rfl rfl)
theorem dX3_longest_79 : decode cX3_longest 79 = .ok (.iaload, 1) := dk_46 (dk_at dksX3_longest_3 11 rfl rfl)
theorem dX3_longest_80 : decode cX3_longest 80 = .ok (.ireturn, 1) := dk_172 (dk_at dksX3_longest_3 12 rfl rfl)
abbrev cX3_parts : ByteArray := prog_11_method_44_code
def yX3_parts : MethodName := ⟨RX3, "parts", "(II)V"⟩
def dkwX3_parts_11 : List UInt8 := [21, 4, 79, 177]
abbrev dktX3_parts_11 : List UInt8 := dkwX3_parts_11 ++ []
def dkwX3_parts_10 : List UInt8 := [21, 7, 4, 96, 21, 8, 96, 184, 0, 137, 54, 4, 132, 6, 1, 167, 255, 179, 42, 180, 0, 43, 29]
abbrev dktX3_parts_10 : List UInt8 := dkwX3_parts_10 ++ dktX3_parts_11
def dkwX3_parts_9 : List UInt8 := [180, 0, 19, 21, 6, 46, 16, 44, 160, 0, 27, 21, 7, 158, 0, 22, 21, 8, 158, 0, 17, 21, 4]
abbrev dktX3_parts_9 : List UInt8 := dkwX3_parts_9 ++ dktX3_parts_10
def dkwX3_parts_8 : List UInt8 := [21, 6, 96, 46, 54, 7, 42, 180, 0, 40, 16, 25, 21, 6, 4, 96, 104, 28, 96, 46, 54, 8, 42]
abbrev dktX3_parts_8 : List UInt8 := dkwX3_parts_8 ++ dktX3_parts_9
def dkwX3_parts_7 : List UInt8 := [21, 4, 79, 27, 4, 96, 54, 6, 21, 6, 28, 4, 100, 162, 0, 75, 42, 180, 0, 43, 16, 25, 27, 104]
abbrev dktX3_parts_7 : List UInt8 := dkwX3_parts_7 ++ dktX3_parts_8
def dkwX3_parts_6 : List UInt8 := [21, 4, 42, 180, 0, 43, 29, 16, 24, 96, 46, 5, 96, 184, 0, 137, 54, 4, 42, 180, 0, 40, 29]
abbrev dktX3_parts_6 : List UInt8 := dkwX3_parts_6 ++ dktX3_parts_7
def dkwX3_parts_5 : List UInt8 := [180, 0, 19, 28, 4, 100, 46, 16, 41, 160, 0, 33, 42, 180, 0, 43, 29, 16, 24, 96, 46, 158, 0, 21]
abbrev dktX3_parts_5 : List UInt8 := dkwX3_parts_5 ++ dktX3_parts_6
def dkwX3_parts_4 : List UInt8 := [96, 46, 4, 96, 184, 0, 137, 54, 4, 21, 5, 16, 40, 160, 0, 53, 28, 27, 100, 5, 164, 0, 46, 42]
abbrev dktX3_parts_4 : List UInt8 := dkwX3_parts_4 ++ dktX3_parts_5
def dkwX3_parts_3 : List UInt8 := [160, 0, 33, 42, 180, 0, 40, 29, 16, 25, 96, 46, 158, 0, 21, 21, 4, 42, 180, 0, 40, 29, 16, 25]
abbrev dktX3_parts_3 : List UInt8 := dkwX3_parts_3 ++ dktX3_parts_4
def dkwX3_parts_2 : List UInt8 := [153, 0, 11, 21, 4, 4, 184, 0, 137, 54, 4, 21, 5, 16, 112, 159, 0, 10, 21, 5, 16, 98]
abbrev dktX3_parts_2 : List UInt8 := dkwX3_parts_2 ++ dktX3_parts_3
def dkwX3_parts_1 : List UInt8 := [184, 0, 137, 54, 4, 42, 180, 0, 19, 27, 46, 54, 5, 21, 5, 16, 48, 16, 57, 184, 0, 62]
abbrev dktX3_parts_1 : List UInt8 := dkwX3_parts_1 ++ dktX3_parts_2
def dkwX3_parts_0 : List UInt8 := [16, 25, 27, 104, 28, 96, 62, 42, 180, 0, 40, 29, 16, 25, 96, 46, 42, 180, 0, 40, 29, 4, 100, 46]
abbrev dktX3_parts_0 : List UInt8 := dkwX3_parts_0 ++ dktX3_parts_1
theorem dksX3_parts_0 : cX3_parts.data.toList.drop 0 = dktX3_parts_0 := by decide +kernel
theorem dksX3_parts_1 : cX3_parts.data.toList.drop 24 = dktX3_parts_1 := dk_seg dksX3_parts_0 24 rfl rfl
theorem dksX3_parts_2 : cX3_parts.data.toList.drop 46 = dktX3_parts_2 := dk_seg dksX3_parts_1 22 rfl rfl
theorem dksX3_parts_3 : cX3_parts.data.toList.drop 68 = dktX3_parts_3 := dk_seg dksX3_parts_2 22 rfl rfl
theorem dksX3_parts_4 : cX3_parts.data.toList.drop 92 = dktX3_parts_4 := dk_seg dksX3_parts_3 24 rfl rfl
theorem dksX3_parts_5 : cX3_parts.data.toList.drop 116 = dktX3_parts_5 := dk_seg dksX3_parts_4 24 rfl rfl
theorem dksX3_parts_6 : cX3_parts.data.toList.drop 140 = dktX3_parts_6 := dk_seg dksX3_parts_5 24 rfl rfl
theorem dksX3_parts_7 : cX3_parts.data.toList.drop 163 = dktX3_parts_7 := dk_seg dksX3_parts_6 23 rfl rfl
theorem dksX3_parts_8 : cX3_parts.data.toList.drop 187 = dktX3_parts_8 := dk_seg dksX3_parts_7 24 rfl rfl
theorem dksX3_parts_9 : cX3_parts.data.toList.drop 210 = dktX3_parts_9 := dk_seg dksX3_parts_8 23 rfl rfl
theorem dksX3_parts_10 : cX3_parts.data.toList.drop 233 = dktX3_parts_10 := dk_seg dksX3_parts_9 23 rfl rfl
theorem dksX3_parts_11 : cX3_parts.data.toList.drop 256 = dktX3_parts_11 := dk_seg dksX3_parts_10 23 rfl rfl
theorem dX3_parts_0 : decode cX3_parts 0 = .ok (.bipush 25, 2) := dk_16 25 (dk_at dksX3_parts_0 0 rfl rfl)
theorem dX3_parts_2 : decode cX3_parts 2 = .ok (.iload_n 1, 1) := dk_27 (dk_at dksX3_parts_0 2 rfl rfl)
theorem dX3_parts_3 : decode cX3_parts 3 = .ok (.imul, 1) := dk_104 (dk_at dksX3_parts_0 3 rfl rfl)
theorem dX3_parts_4 : decode cX3_parts 4 = .ok (.iload_n 2, 1) := dk_28 (dk_at dksX3_parts_0 4 rfl rfl)
theorem dX3_parts_5 : decode cX3_parts 5 = .ok (.iadd, 1) := dk_96 (dk_at dksX3_parts_0 5 rfl rfl)
theorem dX3_parts_6 : decode cX3_parts 6 = .ok (.istore_n 3, 1) := dk_62 (dk_at dksX3_parts_0 6 rfl rfl)
theorem dX3_parts_7 : decode cX3_parts 7 = .ok (.aload_n 0, 1) := dk_42 (dk_at dksX3_parts_0 7 rfl rfl)
theorem dX3_parts_8 : decode cX3_parts 8 = .ok (.getfield 40, 3) := dk_180 0 40 (dk_at dksX3_parts_0 8 rfl rfl)
theorem dX3_parts_11 : decode cX3_parts 11 = .ok (.iload_n 3, 1) := dk_29 (dk_at dksX3_parts_0 11 rfl rfl)
theorem dX3_parts_12 : decode cX3_parts 12 = .ok (.bipush 25, 2) := dk_16 25 (dk_at dksX3_parts_0 12 rfl rfl)
theorem dX3_parts_14 : decode cX3_parts 14 = .ok (.iadd, 1) := dk_96 (dk_at dksX3_parts_0 14 rfl rfl)
theorem dX3_parts_15 : decode cX3_parts 15 = .ok (.iaload, 1) := dk_46 (dk_at dksX3_parts_0 15 rfl rfl)
theorem dX3_parts_16 : decode cX3_parts 16 = .ok (.aload_n 0, 1) := dk_42 (dk_at dksX3_parts_0 16 rfl rfl)
theorem dX3_parts_17 : decode cX3_parts 17 = .ok (.getfield 40, 3) := dk_180 0 40 (dk_at dksX3_parts_0 17 rfl rfl)
theorem dX3_parts_20 : decode cX3_parts 20 = .ok (.iload_n 3, 1) := dk_29 (dk_at dksX3_parts_0 20 rfl rfl)
theorem dX3_parts_21 : decode cX3_parts 21 = .ok (.iconst 1, 1) := dk_4 (dk_at dksX3_parts_0 21 rfl rfl)
theorem dX3_parts_22 : decode cX3_parts 22 = .ok (.isub, 1) := dk_100 (dk_at dksX3_parts_0 22 rfl rfl)
theorem dX3_parts_23 : decode cX3_parts 23 = .ok (.iaload, 1) := dk_46 (dk_at dksX3_parts_0 23 rfl rfl)
theorem dX3_parts_24 : decode cX3_parts 24 = .ok (.invokestatic 137, 3) := dk_184 0 137 (dk_at dksX3_parts_1 0 rfl rfl)
theorem dX3_parts_27 : decode cX3_parts 27 = .ok (.istore 4, 2) := dk_54 4 (dk_at dksX3_parts_1 3 rfl rfl)
theorem dX3_parts_29 : decode cX3_parts 29 = .ok (.aload_n 0, 1) := dk_42 (dk_at dksX3_parts_1 5 rfl rfl)
theorem dX3_parts_30 : decode cX3_parts 30 = .ok (.getfield 19, 3) := dk_180 0 19 (dk_at dksX3_parts_1 6 rfl rfl)
theorem dX3_parts_33 : decode cX3_parts 33 = .ok (.iload_n 1, 1) := dk_27 (dk_at dksX3_parts_1 9 rfl rfl)
theorem dX3_parts_34 : decode cX3_parts 34 = .ok (.iaload, 1) := dk_46 (dk_at dksX3_parts_1 10 rfl rfl)
theorem dX3_parts_35 : decode cX3_parts 35 = .ok (.istore 5, 2) := dk_54 5 (dk_at dksX3_parts_1 11 rfl rfl)
theorem dX3_parts_37 : decode cX3_parts 37 = .ok (.iload 5, 2) := dk_21 5 (dk_at dksX3_parts_1 13 rfl rfl)
theorem dX3_parts_39 : decode cX3_parts 39 = .ok (.bipush 48, 2) := dk_16 48 (dk_at dksX3_parts_1 15 rfl rfl)
theorem dX3_parts_41 : decode cX3_parts 41 = .ok (.bipush 57, 2) := dk_16 57 (dk_at dksX3_parts_1 17 rfl rfl)
theorem dX3_parts_43 : decode cX3_parts 43 = .ok (.invokestatic 62, 3) := dk_184 0 62 (dk_at dksX3_parts_1 19 rfl rfl)
theorem dX3_parts_46 : decode cX3_parts 46 = .ok (.ifCond .eq 11, 3) := dk_153 0 11 (dk_at dksX3_parts_2 0 rfl rfl)
theorem dX3_parts_49 : decode cX3_parts 49 = .ok (.iload 4, 2) := dk_21 4 (dk_at dksX3_parts_2 3 rfl rfl)
theorem dX3_parts_51 : decode cX3_parts 51 = .ok (.iconst 1, 1) := dk_4 (dk_at dksX3_parts_2 5 rfl rfl)
theorem dX3_parts_52 : decode cX3_parts 52 = .ok (.invokestatic 137, 3) := dk_184 0 137 (dk_at dksX3_parts_2 6 rfl rfl)
theorem dX3_parts_55 : decode cX3_parts 55 = .ok (.istore 4, 2) := dk_54 4 (dk_at dksX3_parts_2 9 rfl rfl)
theorem dX3_parts_57 : decode cX3_parts 57 = .ok (.iload 5, 2) := dk_21 5 (dk_at dksX3_parts_2 11 rfl rfl)
theorem dX3_parts_59 : decode cX3_parts 59 = .ok (.bipush 112, 2) := dk_16 112 (dk_at dksX3_parts_2 13 rfl rfl)
theorem dX3_parts_61 : decode cX3_parts 61 = .ok (.if_icmp .eq 10, 3) := dk_159 0 10 (dk_at dksX3_parts_2 15 rfl rfl)
theorem dX3_parts_64 : decode cX3_parts 64 = .ok (.iload 5, 2) := dk_21 5 (dk_at dksX3_parts_2 18 rfl rfl)
theorem dX3_parts_66 : decode cX3_parts 66 = .ok (.bipush 98, 2) := dk_16 98 (dk_at dksX3_parts_2 20 rfl rfl)
theorem dX3_parts_68 : decode cX3_parts 68 = .ok (.if_icmp .ne 33, 3) := dk_160 0 33 (dk_at dksX3_parts_3 0 rfl rfl)
theorem dX3_parts_71 : decode cX3_parts 71 = .ok (.aload_n 0, 1) := dk_42 (dk_at dksX3_parts_3 3 rfl rfl)
theorem dX3_parts_72 : decode cX3_parts 72 = .ok (.getfield 40, 3) := dk_180 0 40 (dk_at dksX3_parts_3 4 rfl rfl)
theorem dX3_parts_75 : decode cX3_parts 75 = .ok (.iload_n 3, 1) := dk_29 (dk_at dksX3_parts_3 7 rfl rfl)
theorem dX3_parts_76 : decode cX3_parts 76 = .ok (.bipush 25, 2) := dk_16 25 (dk_at dksX3_parts_3 8 rfl rfl)
theorem dX3_parts_78 : decode cX3_parts 78 = .ok (.iadd, 1) := dk_96 (dk_at dksX3_parts_3 10 rfl rfl)
theorem dX3_parts_79 : decode cX3_parts 79 = .ok (.iaload, 1) := dk_46 (dk_at dksX3_parts_3 11 rfl rfl)
theorem dX3_parts_80 : decode cX3_parts 80 = .ok (.ifCond .le 21, 3) := dk_158 0 21 (dk_at dksX3_parts_3 12 rfl rfl)
theorem dX3_parts_83 : decode cX3_parts 83 = .ok (.iload 4, 2) := dk_21 4 (dk_at dksX3_parts_3 15 rfl rfl)
theorem dX3_parts_85 : decode cX3_parts 85 = .ok (.aload_n 0, 1) := dk_42 (dk_at dksX3_parts_3 17 rfl rfl)
theorem dX3_parts_86 : decode cX3_parts 86 = .ok (.getfield 40, 3) := dk_180 0 40 (dk_at dksX3_parts_3 18 rfl rfl)
theorem dX3_parts_89 : decode cX3_parts 89 = .ok (.iload_n 3, 1) := dk_29 (dk_at dksX3_parts_3 21 rfl rfl)
theorem dX3_parts_90 : decode cX3_parts 90 = .ok (.bipush 25, 2) := dk_16 25 (dk_at dksX3_parts_3 22 rfl rfl)
theorem dX3_parts_92 : decode cX3_parts 92 = .ok (.iadd, 1) := dk_96 (dk_at dksX3_parts_4 0 rfl rfl)
theorem dX3_parts_93 : decode cX3_parts 93 = .ok (.iaload, 1) := dk_46 (dk_at dksX3_parts_4 1 rfl rfl)
theorem dX3_parts_94 : decode cX3_parts 94 = .ok (.iconst 1, 1) := dk_4 (dk_at dksX3_parts_4 2 rfl rfl)
theorem dX3_parts_95 : decode cX3_parts 95 = .ok (.iadd, 1) := dk_96 (dk_at dksX3_parts_4 3 rfl rfl)
theorem dX3_parts_96 : decode cX3_parts 96 = .ok (.invokestatic 137, 3) := dk_184 0 137 (dk_at dksX3_parts_4 4 rfl rfl)
theorem dX3_parts_99 : decode cX3_parts 99 = .ok (.istore 4, 2) := dk_54 4 (dk_at dksX3_parts_4 7 rfl rfl)
theorem dX3_parts_101 : decode cX3_parts 101 = .ok (.iload 5, 2) := dk_21 5 (dk_at dksX3_parts_4 9 rfl rfl)
theorem dX3_parts_103 : decode cX3_parts 103 = .ok (.bipush 40, 2) := dk_16 40 (dk_at dksX3_parts_4 11 rfl rfl)
theorem dX3_parts_105 : decode cX3_parts 105 = .ok (.if_icmp .ne 53, 3) := dk_160 0 53 (dk_at dksX3_parts_4 13 rfl rfl)
theorem dX3_parts_108 : decode cX3_parts 108 = .ok (.iload_n 2, 1) := dk_28 (dk_at dksX3_parts_4 16 rfl rfl)
theorem dX3_parts_109 : decode cX3_parts 109 = .ok (.iload_n 1, 1) := dk_27 (dk_at dksX3_parts_4 17 rfl rfl)
theorem dX3_parts_110 : decode cX3_parts 110 = .ok (.isub, 1) := dk_100 (dk_at dksX3_parts_4 18 rfl rfl)
theorem dX3_parts_111 : decode cX3_parts 111 = .ok (.iconst 2, 1) := dk_5 (dk_at dksX3_parts_4 19 rfl rfl)
theorem dX3_parts_112 : decode cX3_parts 112 = .ok (.if_icmp .le 46, 3) := dk_164 0 46 (dk_at dksX3_parts_4 20 rfl rfl)
theorem dX3_parts_115 : decode cX3_parts 115 = .ok (.aload_n 0, 1) := dk_42 (dk_at dksX3_parts_4 23 rfl rfl)
theorem dX3_parts_116 : decode cX3_parts 116 = .ok (.getfield 19, 3) := dk_180 0 19 (dk_at dksX3_parts_5 0 rfl rfl)
theorem dX3_parts_119 : decode cX3_parts 119 = .ok (.iload_n 2, 1) := dk_28 (dk_at dksX3_parts_5 3 rfl rfl)
theorem dX3_parts_120 : decode cX3_parts 120 = .ok (.iconst 1, 1) := dk_4 (dk_at dksX3_parts_5 4 rfl rfl)
theorem dX3_parts_121 : decode cX3_parts 121 = .ok (.isub, 1) := dk_100 (dk_at dksX3_parts_5 5 rfl rfl)
theorem dX3_parts_122 : decode cX3_parts 122 = .ok (.iaload, 1) := dk_46 (dk_at dksX3_parts_5 6 rfl rfl)
theorem dX3_parts_123 : decode cX3_parts 123 = .ok (.bipush 41, 2) := dk_16 41 (dk_at dksX3_parts_5 7 rfl rfl)
theorem dX3_parts_125 : decode cX3_parts 125 = .ok (.if_icmp .ne 33, 3) := dk_160 0 33 (dk_at dksX3_parts_5 9 rfl rfl)
theorem dX3_parts_128 : decode cX3_parts 128 = .ok (.aload_n 0, 1) := dk_42 (dk_at dksX3_parts_5 12 rfl rfl)
theorem dX3_parts_129 : decode cX3_parts 129 = .ok (.getfield 43, 3) := dk_180 0 43 (dk_at dksX3_parts_5 13 rfl rfl)
theorem dX3_parts_132 : decode cX3_parts 132 = .ok (.iload_n 3, 1) := dk_29 (dk_at dksX3_parts_5 16 rfl rfl)
theorem dX3_parts_133 : decode cX3_parts 133 = .ok (.bipush 24, 2) := dk_16 24 (dk_at dksX3_parts_5 17 rfl rfl)
theorem dX3_parts_135 : decode cX3_parts 135 = .ok (.iadd, 1) := dk_96 (dk_at dksX3_parts_5 19 rfl rfl)
theorem dX3_parts_136 : decode cX3_parts 136 = .ok (.iaload, 1) := dk_46 (dk_at dksX3_parts_5 20 rfl rfl)
theorem dX3_parts_137 : decode cX3_parts 137 = .ok (.ifCond .le 21, 3) := dk_158 0 21 (dk_at dksX3_parts_5 21 rfl rfl)
theorem dX3_parts_140 : decode cX3_parts 140 = .ok (.iload 4, 2) := dk_21 4 (dk_at dksX3_parts_6 0 rfl rfl)
theorem dX3_parts_142 : decode cX3_parts 142 = .ok (.aload_n 0, 1) := dk_42 (dk_at dksX3_parts_6 2 rfl rfl)
theorem dX3_parts_143 : decode cX3_parts 143 = .ok (.getfield 43, 3) := dk_180 0 43 (dk_at dksX3_parts_6 3 rfl rfl)
theorem dX3_parts_146 : decode cX3_parts 146 = .ok (.iload_n 3, 1) := dk_29 (dk_at dksX3_parts_6 6 rfl rfl)
theorem dX3_parts_147 : decode cX3_parts 147 = .ok (.bipush 24, 2) := dk_16 24 (dk_at dksX3_parts_6 7 rfl rfl)
theorem dX3_parts_149 : decode cX3_parts 149 = .ok (.iadd, 1) := dk_96 (dk_at dksX3_parts_6 9 rfl rfl)
theorem dX3_parts_150 : decode cX3_parts 150 = .ok (.iaload, 1) := dk_46 (dk_at dksX3_parts_6 10 rfl rfl)
theorem dX3_parts_151 : decode cX3_parts 151 = .ok (.iconst 2, 1) := dk_5 (dk_at dksX3_parts_6 11 rfl rfl)
theorem dX3_parts_152 : decode cX3_parts 152 = .ok (.iadd, 1) := dk_96 (dk_at dksX3_parts_6 12 rfl rfl)
theorem dX3_parts_153 : decode cX3_parts 153 = .ok (.invokestatic 137, 3) := dk_184 0 137 (dk_at dksX3_parts_6 13 rfl rfl)
theorem dX3_parts_156 : decode cX3_parts 156 = .ok (.istore 4, 2) := dk_54 4 (dk_at dksX3_parts_6 16 rfl rfl)
theorem dX3_parts_158 : decode cX3_parts 158 = .ok (.aload_n 0, 1) := dk_42 (dk_at dksX3_parts_6 18 rfl rfl)
theorem dX3_parts_159 : decode cX3_parts 159 = .ok (.getfield 40, 3) := dk_180 0 40 (dk_at dksX3_parts_6 19 rfl rfl)
theorem dX3_parts_162 : decode cX3_parts 162 = .ok (.iload_n 3, 1) := dk_29 (dk_at dksX3_parts_6 22 rfl rfl)
theorem dX3_parts_163 : decode cX3_parts 163 = .ok (.iload 4, 2) := dk_21 4 (dk_at dksX3_parts_7 0 rfl rfl)
theorem dX3_parts_165 : decode cX3_parts 165 = .ok (.iastore, 1) := dk_79 (dk_at dksX3_parts_7 2 rfl rfl)
theorem dX3_parts_166 : decode cX3_parts 166 = .ok (.iload_n 1, 1) := dk_27 (dk_at dksX3_parts_7 3 rfl rfl)
theorem dX3_parts_167 : decode cX3_parts 167 = .ok (.iconst 1, 1) := dk_4 (dk_at dksX3_parts_7 4 rfl rfl)
theorem dX3_parts_168 : decode cX3_parts 168 = .ok (.iadd, 1) := dk_96 (dk_at dksX3_parts_7 5 rfl rfl)
theorem dX3_parts_169 : decode cX3_parts 169 = .ok (.istore 6, 2) := dk_54 6 (dk_at dksX3_parts_7 6 rfl rfl)
theorem dX3_parts_171 : decode cX3_parts 171 = .ok (.iload 6, 2) := dk_21 6 (dk_at dksX3_parts_7 8 rfl rfl)
theorem dX3_parts_173 : decode cX3_parts 173 = .ok (.iload_n 2, 1) := dk_28 (dk_at dksX3_parts_7 10 rfl rfl)
theorem dX3_parts_174 : decode cX3_parts 174 = .ok (.iconst 1, 1) := dk_4 (dk_at dksX3_parts_7 11 rfl rfl)
theorem dX3_parts_175 : decode cX3_parts 175 = .ok (.isub, 1) := dk_100 (dk_at dksX3_parts_7 12 rfl rfl)
theorem dX3_parts_176 : decode cX3_parts 176 = .ok (.if_icmp .ge 75, 3) := dk_162 0 75 (dk_at dksX3_parts_7 13 rfl rfl)
theorem dX3_parts_179 : decode cX3_parts 179 = .ok (.aload_n 0, 1) := dk_42 (dk_at dksX3_parts_7 16 rfl rfl)
theorem dX3_parts_180 : decode cX3_parts 180 = .ok (.getfield 43, 3) := dk_180 0 43 (dk_at dksX3_parts_7 17 rfl rfl)
theorem dX3_parts_183 : decode cX3_parts 183 = .ok (.bipush 25, 2) := dk_16 25 (dk_at dksX3_parts_7 20 rfl rfl)
theorem dX3_parts_185 : decode cX3_parts 185 = .ok (.iload_n 1, 1) := dk_27 (dk_at dksX3_parts_7 22 rfl rfl)
theorem dX3_parts_186 : decode cX3_parts 186 = .ok (.imul, 1) := dk_104 (dk_at dksX3_parts_7 23 rfl rfl)
theorem dX3_parts_187 : decode cX3_parts 187 = .ok (.iload 6, 2) := dk_21 6 (dk_at dksX3_parts_8 0 rfl rfl)
theorem dX3_parts_189 : decode cX3_parts 189 = .ok (.iadd, 1) := dk_96 (dk_at dksX3_parts_8 2 rfl rfl)
theorem dX3_parts_190 : decode cX3_parts 190 = .ok (.iaload, 1) := dk_46 (dk_at dksX3_parts_8 3 rfl rfl)
theorem dX3_parts_191 : decode cX3_parts 191 = .ok (.istore 7, 2) := dk_54 7 (dk_at dksX3_parts_8 4 rfl rfl)
theorem dX3_parts_193 : decode cX3_parts 193 = .ok (.aload_n 0, 1) := dk_42 (dk_at dksX3_parts_8 6 rfl rfl)
theorem dX3_parts_194 : decode cX3_parts 194 = .ok (.getfield 40, 3) := dk_180 0 40 (dk_at dksX3_parts_8 7 rfl rfl)
theorem dX3_parts_197 : decode cX3_parts 197 = .ok (.bipush 25, 2) := dk_16 25 (dk_at dksX3_parts_8 10 rfl rfl)
theorem dX3_parts_199 : decode cX3_parts 199 = .ok (.iload 6, 2) := dk_21 6 (dk_at dksX3_parts_8 12 rfl rfl)
theorem dX3_parts_201 : decode cX3_parts 201 = .ok (.iconst 1, 1) := dk_4 (dk_at dksX3_parts_8 14 rfl rfl)
theorem dX3_parts_202 : decode cX3_parts 202 = .ok (.iadd, 1) := dk_96 (dk_at dksX3_parts_8 15 rfl rfl)
theorem dX3_parts_203 : decode cX3_parts 203 = .ok (.imul, 1) := dk_104 (dk_at dksX3_parts_8 16 rfl rfl)
theorem dX3_parts_204 : decode cX3_parts 204 = .ok (.iload_n 2, 1) := dk_28 (dk_at dksX3_parts_8 17 rfl rfl)
theorem dX3_parts_205 : decode cX3_parts 205 = .ok (.iadd, 1) := dk_96 (dk_at dksX3_parts_8 18 rfl rfl)
theorem dX3_parts_206 : decode cX3_parts 206 = .ok (.iaload, 1) := dk_46 (dk_at dksX3_parts_8 19 rfl rfl)
theorem dX3_parts_207 : decode cX3_parts 207 = .ok (.istore 8, 2) := dk_54 8 (dk_at dksX3_parts_8 20 rfl rfl)
theorem dX3_parts_209 : decode cX3_parts 209 = .ok (.aload_n 0, 1) := dk_42 (dk_at dksX3_parts_8 22 rfl rfl)
theorem dX3_parts_210 : decode cX3_parts 210 = .ok (.getfield 19, 3) := dk_180 0 19 (dk_at dksX3_parts_9 0 rfl rfl)
theorem dX3_parts_213 : decode cX3_parts 213 = .ok (.iload 6, 2) := dk_21 6 (dk_at dksX3_parts_9 3 rfl rfl)
theorem dX3_parts_215 : decode cX3_parts 215 = .ok (.iaload, 1) := dk_46 (dk_at dksX3_parts_9 5 rfl rfl)
theorem dX3_parts_216 : decode cX3_parts 216 = .ok (.bipush 44, 2) := dk_16 44 (dk_at dksX3_parts_9 6 rfl rfl)
theorem dX3_parts_218 : decode cX3_parts 218 = .ok (.if_icmp .ne 27, 3) := dk_160 0 27 (dk_at dksX3_parts_9 8 rfl rfl)
theorem dX3_parts_221 : decode cX3_parts 221 = .ok (.iload 7, 2) := dk_21 7 (dk_at dksX3_parts_9 11 rfl rfl)
theorem dX3_parts_223 : decode cX3_parts 223 = .ok (.ifCond .le 22, 3) := dk_158 0 22 (dk_at dksX3_parts_9 13 rfl rfl)
theorem dX3_parts_226 : decode cX3_parts 226 = .ok (.iload 8, 2) := dk_21 8 (dk_at dksX3_parts_9 16 rfl rfl)
theorem dX3_parts_228 : decode cX3_parts 228 = .ok (.ifCond .le 17, 3) := dk_158 0 17 (dk_at dksX3_parts_9 18 rfl rfl)
theorem dX3_parts_231 : decode cX3_parts 231 = .ok (.iload 4, 2) := dk_21 4 (dk_at dksX3_parts_9 21 rfl rfl)
theorem dX3_parts_233 : decode cX3_parts 233 = .ok (.iload 7, 2) := dk_21 7 (dk_at dksX3_parts_10 0 rfl rfl)
theorem dX3_parts_235 : decode cX3_parts 235 = .ok (.iconst 1, 1) := dk_4 (dk_at dksX3_parts_10 2 rfl rfl)
theorem dX3_parts_236 : decode cX3_parts 236 = .ok (.iadd, 1) := dk_96 (dk_at dksX3_parts_10 3 rfl rfl)
theorem dX3_parts_237 : decode cX3_parts 237 = .ok (.iload 8, 2) := dk_21 8 (dk_at dksX3_parts_10 4 rfl rfl)
theorem dX3_parts_239 : decode cX3_parts 239 = .ok (.iadd, 1) := dk_96 (dk_at dksX3_parts_10 6 rfl rfl)
theorem dX3_parts_240 : decode cX3_parts 240 = .ok (.invokestatic 137, 3) := dk_184 0 137 (dk_at dksX3_parts_10 7 rfl rfl)
theorem dX3_parts_243 : decode cX3_parts 243 = .ok (.istore 4, 2) := dk_54 4 (dk_at dksX3_parts_10 10 rfl rfl)
theorem dX3_parts_245 : decode cX3_parts 245 = .ok (.iinc 6 1, 3) := dk_132 6 1 (dk_at dksX3_parts_10 12 rfl rfl)
theorem dX3_parts_248 : decode cX3_parts 248 = .ok (.goto (-77), 3) := dk_167 255 179 (dk_at dksX3_parts_10 15 rfl rfl)
theorem dX3_parts_251 : decode cX3_parts 251 = .ok (.aload_n 0, 1) := dk_42 (dk_at dksX3_parts_10 18 rfl rfl)
theorem dX3_parts_252 : decode cX3_parts 252 = .ok (.getfield 43, 3) := dk_180 0 43 (dk_at dksX3_parts_10 19 rfl rfl)
theorem dX3_parts_255 : decode cX3_parts 255 = .ok (.iload_n 3, 1) := dk_29 (dk_at dksX3_parts_10 22 rfl rfl)
theorem dX3_parts_256 : decode cX3_parts 256 = .ok (.iload 4, 2) := dk_21 4 (dk_at dksX3_parts_11 0 rfl rfl)
theorem dX3_parts_258 : decode cX3_parts 258 = .ok (.iastore, 1) := dk_79 (dk_at dksX3_parts_11 2 rfl rfl)
theorem dX3_parts_259 : decode cX3_parts 259 = .ok (.return_, 1) := dk_177 (dk_at dksX3_parts_11 3 rfl rfl)
abbrev cX3_most : ByteArray := prog_11_method_6_code
def yX3_most : MethodName := ⟨RX3, "most", "(II)I"⟩
def dkwX3_most_0 : List UInt8 := [26, 27, 164, 0, 7, 26, 167, 0, 4, 27, 172]
abbrev dktX3_most_0 : List UInt8 := dkwX3_most_0 ++ []
theorem dksX3_most_0 : cX3_most.data.toList.drop 0 = dktX3_most_0 := by decide +kernel
theorem dX3_most_0 : decode cX3_most 0 = .ok (.iload_n 0, 1) := dk_26 (dk_at dksX3_most_0 0 rfl rfl)
theorem dX3_most_1 : decode cX3_most 1 = .ok (.iload_n 1, 1) := dk_27 (dk_at dksX3_most_0 1 rfl rfl)
theorem dX3_most_2 : decode cX3_most 2 = .ok (.if_icmp .le 7, 3) := dk_164 0 7 (dk_at dksX3_most_0 2 rfl rfl)
theorem dX3_most_5 : decode cX3_most 5 = .ok (.iload_n 0, 1) := dk_26 (dk_at dksX3_most_0 5 rfl rfl)
theorem dX3_most_6 : decode cX3_most 6 = .ok (.goto 4, 3) := dk_167 0 4 (dk_at dksX3_most_0 6 rfl rfl)
theorem dX3_most_9 : decode cX3_most 9 = .ok (.iload_n 1, 1) := dk_27 (dk_at dksX3_most_0 9 rfl rfl)
theorem dX3_most_10 : decode cX3_most 10 = .ok (.ireturn, 1) := dk_172 (dk_at dksX3_most_0 10 rfl rfl)
abbrev cX3_removalsByParts : ByteArray := prog_11_method_48_code
def yX3_removalsByParts : MethodName := ⟨RX3, "removalsByParts", "()I"⟩
theorem dX3_removalsByParts_0 : decode cX3_removalsByParts 0 = .ok (.aload_n 0, 1) := by decide +kernel
theorem dX3_removalsByParts_1 : decode cX3_removalsByParts 1 = .ok (.invokevirtual 148, 3) := by decide +kernel
theorem dX3_removalsByParts_4 : decode cX3_removalsByParts 4 = .ok (.ireturn, 1) := by decide +kernel
abbrev cX3_textError : ByteArray := prog_11_method_49_code
def yX3_textError : MethodName := ⟨RX3, "textError", "()I"⟩
def dkwX3_textError_1 : List UInt8 := [180, 0, 118, 172]
abbrev dktX3_textError_1 : List UInt8 := dkwX3_textError_1 ++ []
def dkwX3_textError_0 : List UInt8 := [42, 42, 182, 0, 131, 153, 0, 7, 4, 167, 0, 4, 3, 182, 0, 70, 153, 0, 7, 3, 167, 0, 7, 42]
abbrev dktX3_textError_0 : List UInt8 := dkwX3_textError_0 ++ dktX3_textError_1
theorem dksX3_textError_0 : cX3_textError.data.toList.drop 0 = dktX3_textError_0 := by decide +kernel
theorem dksX3_textError_1 : cX3_textError.data.toList.drop 24 = dktX3_textError_1 := dk_seg dksX3_textError_0 24 rfl rfl
theorem dX3_textError_0 : decode cX3_textError 0 = .ok (.aload_n 0, 1) := dk_42 (dk_at dksX3_textError_0 0 rfl rfl)
theorem dX3_textError_1 : decode cX3_textError 1 = .ok (.aload_n 0, 1) := dk_42 (dk_at dksX3_textError_0 1 rfl rfl)
theorem dX3_textError_2 : decode cX3_textError 2 = .ok (.invokevirtual 131, 3) := dk_182 0 131 (dk_at dksX3_textError_0 2 rfl rfl)
theorem dX3_textError_5 : decode cX3_textError 5 = .ok (.ifCond .eq 7, 3) := dk_153 0 7 (dk_at dksX3_textError_0 5 rfl rfl)
theorem dX3_textError_8 : decode cX3_textError 8 = .ok (.iconst 1, 1) := dk_4 (dk_at dksX3_textError_0 8 rfl rfl)
theorem dX3_textError_9 : decode cX3_textError 9 = .ok (.goto 4, 3) := dk_167 0 4 (dk_at dksX3_textError_0 9 rfl rfl)
theorem dX3_textError_12 : decode cX3_textError 12 = .ok (.iconst 0, 1) := dk_3 (dk_at dksX3_textError_0 12 rfl rfl)
theorem dX3_textError_13 : decode cX3_textError 13 = .ok (.invokevirtual 70, 3) := dk_182 0 70 (dk_at dksX3_textError_0 13 rfl rfl)
theorem dX3_textError_16 : decode cX3_textError 16 = .ok (.ifCond .eq 7, 3) := dk_153 0 7 (dk_at dksX3_textError_0 16 rfl rfl)
theorem dX3_textError_19 : decode cX3_textError 19 = .ok (.iconst 0, 1) := dk_3 (dk_at dksX3_textError_0 19 rfl rfl)
theorem dX3_textError_20 : decode cX3_textError 20 = .ok (.goto 7, 3) := dk_167 0 7 (dk_at dksX3_textError_0 20 rfl rfl)
theorem dX3_textError_23 : decode cX3_textError 23 = .ok (.aload_n 0, 1) := dk_42 (dk_at dksX3_textError_0 23 rfl rfl)
theorem dX3_textError_24 : decode cX3_textError 24 = .ok (.getfield 118, 3) := dk_180 0 118 (dk_at dksX3_textError_1 0 rfl rfl)
theorem dX3_textError_27 : decode cX3_textError 27 = .ok (.ireturn, 1) := dk_172 (dk_at dksX3_textError_1 3 rfl rfl)
abbrev cX3_submit : ByteArray := prog_11_method_55_code
def yX3_submit : MethodName := ⟨RX3, "submit", "(I)I"⟩
def dkwX3_submit_11 : List UInt8 := [42, 180, 0, 7, 4, 92, 46, 4, 96, 79, 42, 180, 0, 7, 4, 46, 4, 100, 172]
abbrev dktX3_submit_11 : List UInt8 := dkwX3_submit_11 ++ []
def dkwX3_submit_10 : List UInt8 := [79, 42, 180, 0, 7, 8, 92, 46, 21, 6, 96, 79, 42, 180, 0, 7, 16, 6, 92, 46, 21, 7, 96, 79]
abbrev dktX3_submit_10 : List UInt8 := dkwX3_submit_10 ++ dktX3_submit_11
def dkwX3_submit_9 : List UInt8 := [21, 6, 96, 184, 0, 157, 54, 7, 42, 180, 0, 7, 16, 16, 27, 96, 92, 46, 21, 6, 21, 7, 100, 96]
abbrev dktX3_submit_9 : List UInt8 := dkwX3_submit_9 ++ dktX3_submit_10
def dkwX3_submit_8 : List UInt8 := [167, 0, 4, 3, 96, 54, 6, 132, 7, 1, 167, 255, 171, 21, 4, 42, 180, 0, 7, 16, 16, 27, 96, 46]
abbrev dktX3_submit_8 : List UInt8 := dkwX3_submit_8 ++ dktX3_submit_9
def dkwX3_submit_7 : List UInt8 := [21, 5, 4, 96, 92, 46, 4, 96, 79, 21, 6, 42, 180, 0, 19, 21, 7, 46, 16, 98, 160, 0, 7, 4]
abbrev dktX3_submit_7 : List UInt8 := dkwX3_submit_7 ++ dktX3_submit_8
def dkwX3_submit_6 : List UInt8 := [5, 96, 42, 180, 0, 7, 21, 5, 4, 96, 46, 96, 42, 180, 0, 19, 21, 7, 46, 79, 42, 180, 0, 7]
abbrev dktX3_submit_6 : List UInt8 := dkwX3_submit_6 ++ dktX3_submit_7
def dkwX3_submit_5 : List UInt8 := [162, 0, 85, 42, 180, 0, 19, 21, 7, 46, 16, 33, 160, 0, 6, 167, 0, 64, 42, 180, 0, 7, 21, 5]
abbrev dktX3_submit_5 : List UInt8 := dkwX3_submit_5 ++ dktX3_submit_6
def dkwX3_submit_4 : List UInt8 := [42, 180, 0, 7, 21, 5, 27, 79, 42, 180, 0, 7, 21, 5, 4, 96, 3, 79, 3, 54, 7, 21, 7, 29]
abbrev dktX3_submit_4 : List UInt8 := dkwX3_submit_4 ++ dktX3_submit_5
def dkwX3_submit_3 : List UInt8 := [153, 0, 5, 3, 172, 42, 182, 0, 77, 42, 42, 180, 0, 7, 4, 46, 182, 0, 154, 54, 5, 3, 54, 6]
abbrev dktX3_submit_3 : List UInt8 := dkwX3_submit_3 ++ dktX3_submit_4
def dkwX3_submit_2 : List UInt8 := [5, 167, 0, 19, 42, 180, 0, 7, 4, 46, 16, 6, 160, 0, 7, 6, 167, 0, 4, 3, 182, 0, 70]
abbrev dktX3_submit_2 : List UInt8 := dkwX3_submit_2 ++ dktX3_submit_3
def dkwX3_submit_1 : List UInt8 := [54, 4, 42, 3, 181, 0, 115, 28, 154, 0, 11, 42, 42, 180, 0, 118, 181, 0, 22, 42, 28, 154, 0, 7]
abbrev dktX3_submit_1 : List UInt8 := dkwX3_submit_1 ++ dktX3_submit_2
def dkwX3_submit_0 : List UInt8 := [42, 27, 182, 0, 94, 153, 0, 5, 3, 172, 42, 182, 0, 131, 61, 42, 180, 0, 115, 62, 42, 182, 0, 134]
abbrev dktX3_submit_0 : List UInt8 := dkwX3_submit_0 ++ dktX3_submit_1
theorem dksX3_submit_0 : cX3_submit.data.toList.drop 0 = dktX3_submit_0 := by decide +kernel
theorem dksX3_submit_1 : cX3_submit.data.toList.drop 24 = dktX3_submit_1 := dk_seg dksX3_submit_0 24 rfl rfl
theorem dksX3_submit_2 : cX3_submit.data.toList.drop 48 = dktX3_submit_2 := dk_seg dksX3_submit_1 24 rfl rfl
theorem dksX3_submit_3 : cX3_submit.data.toList.drop 71 = dktX3_submit_3 := dk_seg dksX3_submit_2 23 rfl rfl
theorem dksX3_submit_4 : cX3_submit.data.toList.drop 95 = dktX3_submit_4 := dk_seg dksX3_submit_3 24 rfl rfl
theorem dksX3_submit_5 : cX3_submit.data.toList.drop 119 = dktX3_submit_5 := dk_seg dksX3_submit_4 24 rfl rfl
theorem dksX3_submit_6 : cX3_submit.data.toList.drop 143 = dktX3_submit_6 := dk_seg dksX3_submit_5 24 rfl rfl
theorem dksX3_submit_7 : cX3_submit.data.toList.drop 167 = dktX3_submit_7 := dk_seg dksX3_submit_6 24 rfl rfl
theorem dksX3_submit_8 : cX3_submit.data.toList.drop 191 = dktX3_submit_8 := dk_seg dksX3_submit_7 24 rfl rfl
theorem dksX3_submit_9 : cX3_submit.data.toList.drop 215 = dktX3_submit_9 := dk_seg dksX3_submit_8 24 rfl rfl
theorem dksX3_submit_10 : cX3_submit.data.toList.drop 239 = dktX3_submit_10 := dk_seg dksX3_submit_9 24 rfl rfl
theorem dksX3_submit_11 : cX3_submit.data.toList.drop 263 = dktX3_submit_11 := dk_seg dksX3_submit_10 24 rfl rfl
theorem dX3_submit_0 : decode cX3_submit 0 = .ok (.aload_n 0, 1) := dk_42 (dk_at dksX3_submit_0 0 rfl rfl)
theorem dX3_submit_1 : decode cX3_submit 1 = .ok (.iload_n 1, 1) := dk_27 (dk_at dksX3_submit_0 1 rfl rfl)
theorem dX3_submit_2 : decode cX3_submit 2 = .ok (.invokevirtual 94, 3) := dk_182 0 94 (dk_at dksX3_submit_0 2 rfl rfl)
theorem dX3_submit_5 : decode cX3_submit 5 = .ok (.ifCond .eq 5, 3) := dk_153 0 5 (dk_at dksX3_submit_0 5 rfl rfl)
theorem dX3_submit_8 : decode cX3_submit 8 = .ok (.iconst 0, 1) := dk_3 (dk_at dksX3_submit_0 8 rfl rfl)
theorem dX3_submit_9 : decode cX3_submit 9 = .ok (.ireturn, 1) := dk_172 (dk_at dksX3_submit_0 9 rfl rfl)
theorem dX3_submit_10 : decode cX3_submit 10 = .ok (.aload_n 0, 1) := dk_42 (dk_at dksX3_submit_0 10 rfl rfl)
theorem dX3_submit_11 : decode cX3_submit 11 = .ok (.invokevirtual 131, 3) := dk_182 0 131 (dk_at dksX3_submit_0 11 rfl rfl)
theorem dX3_submit_14 : decode cX3_submit 14 = .ok (.istore_n 2, 1) := dk_61 (dk_at dksX3_submit_0 14 rfl rfl)
theorem dX3_submit_15 : decode cX3_submit 15 = .ok (.aload_n 0, 1) := dk_42 (dk_at dksX3_submit_0 15 rfl rfl)
theorem dX3_submit_16 : decode cX3_submit 16 = .ok (.getfield 115, 3) := dk_180 0 115 (dk_at dksX3_submit_0 16 rfl rfl)
theorem dX3_submit_19 : decode cX3_submit 19 = .ok (.istore_n 3, 1) := dk_62 (dk_at dksX3_submit_0 19 rfl rfl)
theorem dX3_submit_20 : decode cX3_submit 20 = .ok (.aload_n 0, 1) := dk_42 (dk_at dksX3_submit_0 20 rfl rfl)
theorem dX3_submit_21 : decode cX3_submit 21 = .ok (.invokevirtual 134, 3) := dk_182 0 134 (dk_at dksX3_submit_0 21 rfl rfl)
theorem dX3_submit_24 : decode cX3_submit 24 = .ok (.istore 4, 2) := dk_54 4 (dk_at dksX3_submit_1 0 rfl rfl)
theorem dX3_submit_26 : decode cX3_submit 26 = .ok (.aload_n 0, 1) := dk_42 (dk_at dksX3_submit_1 2 rfl rfl)
theorem dX3_submit_27 : decode cX3_submit 27 = .ok (.iconst 0, 1) := dk_3 (dk_at dksX3_submit_1 3 rfl rfl)
theorem dX3_submit_28 : decode cX3_submit 28 = .ok (.putfield 115, 3) := dk_181 0 115 (dk_at dksX3_submit_1 4 rfl rfl)
theorem dX3_submit_31 : decode cX3_submit 31 = .ok (.iload_n 2, 1) := dk_28 (dk_at dksX3_submit_1 7 rfl rfl)
theorem dX3_submit_32 : decode cX3_submit 32 = .ok (.ifCond .ne 11, 3) := dk_154 0 11 (dk_at dksX3_submit_1 8 rfl rfl)
theorem dX3_submit_35 : decode cX3_submit 35 = .ok (.aload_n 0, 1) := dk_42 (dk_at dksX3_submit_1 11 rfl rfl)
theorem dX3_submit_36 : decode cX3_submit 36 = .ok (.aload_n 0, 1) := dk_42 (dk_at dksX3_submit_1 12 rfl rfl)
theorem dX3_submit_37 : decode cX3_submit 37 = .ok (.getfield 118, 3) := dk_180 0 118 (dk_at dksX3_submit_1 13 rfl rfl)
theorem dX3_submit_40 : decode cX3_submit 40 = .ok (.putfield 22, 3) := dk_181 0 22 (dk_at dksX3_submit_1 16 rfl rfl)
theorem dX3_submit_43 : decode cX3_submit 43 = .ok (.aload_n 0, 1) := dk_42 (dk_at dksX3_submit_1 19 rfl rfl)
theorem dX3_submit_44 : decode cX3_submit 44 = .ok (.iload_n 2, 1) := dk_28 (dk_at dksX3_submit_1 20 rfl rfl)
theorem dX3_submit_45 : decode cX3_submit 45 = .ok (.ifCond .ne 7, 3) := dk_154 0 7 (dk_at dksX3_submit_1 21 rfl rfl)
theorem dX3_submit_48 : decode cX3_submit 48 = .ok (.iconst 2, 1) := dk_5 (dk_at dksX3_submit_2 0 rfl rfl)
theorem dX3_submit_49 : decode cX3_submit 49 = .ok (.goto 19, 3) := dk_167 0 19 (dk_at dksX3_submit_2 1 rfl rfl)
theorem dX3_submit_52 : decode cX3_submit 52 = .ok (.aload_n 0, 1) := dk_42 (dk_at dksX3_submit_2 4 rfl rfl)
theorem dX3_submit_53 : decode cX3_submit 53 = .ok (.getfield 7, 3) := dk_180 0 7 (dk_at dksX3_submit_2 5 rfl rfl)
theorem dX3_submit_56 : decode cX3_submit 56 = .ok (.iconst 1, 1) := dk_4 (dk_at dksX3_submit_2 8 rfl rfl)
theorem dX3_submit_57 : decode cX3_submit 57 = .ok (.iaload, 1) := dk_46 (dk_at dksX3_submit_2 9 rfl rfl)
theorem dX3_submit_58 : decode cX3_submit 58 = .ok (.bipush 6, 2) := dk_16 6 (dk_at dksX3_submit_2 10 rfl rfl)
theorem dX3_submit_60 : decode cX3_submit 60 = .ok (.if_icmp .ne 7, 3) := dk_160 0 7 (dk_at dksX3_submit_2 12 rfl rfl)
theorem dX3_submit_63 : decode cX3_submit 63 = .ok (.iconst 3, 1) := dk_6 (dk_at dksX3_submit_2 15 rfl rfl)
theorem dX3_submit_64 : decode cX3_submit 64 = .ok (.goto 4, 3) := dk_167 0 4 (dk_at dksX3_submit_2 16 rfl rfl)
theorem dX3_submit_67 : decode cX3_submit 67 = .ok (.iconst 0, 1) := dk_3 (dk_at dksX3_submit_2 19 rfl rfl)
theorem dX3_submit_68 : decode cX3_submit 68 = .ok (.invokevirtual 70, 3) := dk_182 0 70 (dk_at dksX3_submit_2 20 rfl rfl)
theorem dX3_submit_71 : decode cX3_submit 71 = .ok (.ifCond .eq 5, 3) := dk_153 0 5 (dk_at dksX3_submit_3 0 rfl rfl)
theorem dX3_submit_74 : decode cX3_submit 74 = .ok (.iconst 0, 1) := dk_3 (dk_at dksX3_submit_3 3 rfl rfl)
theorem dX3_submit_75 : decode cX3_submit 75 = .ok (.ireturn, 1) := dk_172 (dk_at dksX3_submit_3 4 rfl rfl)
theorem dX3_submit_76 : decode cX3_submit 76 = .ok (.aload_n 0, 1) := dk_42 (dk_at dksX3_submit_3 5 rfl rfl)
theorem dX3_submit_77 : decode cX3_submit 77 = .ok (.invokevirtual 77, 3) := dk_182 0 77 (dk_at dksX3_submit_3 6 rfl rfl)
theorem dX3_submit_80 : decode cX3_submit 80 = .ok (.aload_n 0, 1) := dk_42 (dk_at dksX3_submit_3 9 rfl rfl)
theorem dX3_submit_81 : decode cX3_submit 81 = .ok (.aload_n 0, 1) := dk_42 (dk_at dksX3_submit_3 10 rfl rfl)
theorem dX3_submit_82 : decode cX3_submit 82 = .ok (.getfield 7, 3) := dk_180 0 7 (dk_at dksX3_submit_3 11 rfl rfl)
theorem dX3_submit_85 : decode cX3_submit 85 = .ok (.iconst 1, 1) := dk_4 (dk_at dksX3_submit_3 14 rfl rfl)
theorem dX3_submit_86 : decode cX3_submit 86 = .ok (.iaload, 1) := dk_46 (dk_at dksX3_submit_3 15 rfl rfl)
theorem dX3_submit_87 : decode cX3_submit 87 = .ok (.invokevirtual 154, 3) := dk_182 0 154 (dk_at dksX3_submit_3 16 rfl rfl)
theorem dX3_submit_90 : decode cX3_submit 90 = .ok (.istore 5, 2) := dk_54 5 (dk_at dksX3_submit_3 19 rfl rfl)
theorem dX3_submit_92 : decode cX3_submit 92 = .ok (.iconst 0, 1) := dk_3 (dk_at dksX3_submit_3 21 rfl rfl)
theorem dX3_submit_93 : decode cX3_submit 93 = .ok (.istore 6, 2) := dk_54 6 (dk_at dksX3_submit_3 22 rfl rfl)
theorem dX3_submit_95 : decode cX3_submit 95 = .ok (.aload_n 0, 1) := dk_42 (dk_at dksX3_submit_4 0 rfl rfl)
theorem dX3_submit_96 : decode cX3_submit 96 = .ok (.getfield 7, 3) := dk_180 0 7 (dk_at dksX3_submit_4 1 rfl rfl)
theorem dX3_submit_99 : decode cX3_submit 99 = .ok (.iload 5, 2) := dk_21 5 (dk_at dksX3_submit_4 4 rfl rfl)
theorem dX3_submit_101 : decode cX3_submit 101 = .ok (.iload_n 1, 1) := dk_27 (dk_at dksX3_submit_4 6 rfl rfl)
theorem dX3_submit_102 : decode cX3_submit 102 = .ok (.iastore, 1) := dk_79 (dk_at dksX3_submit_4 7 rfl rfl)
theorem dX3_submit_103 : decode cX3_submit 103 = .ok (.aload_n 0, 1) := dk_42 (dk_at dksX3_submit_4 8 rfl rfl)
theorem dX3_submit_104 : decode cX3_submit 104 = .ok (.getfield 7, 3) := dk_180 0 7 (dk_at dksX3_submit_4 9 rfl rfl)
theorem dX3_submit_107 : decode cX3_submit 107 = .ok (.iload 5, 2) := dk_21 5 (dk_at dksX3_submit_4 12 rfl rfl)
theorem dX3_submit_109 : decode cX3_submit 109 = .ok (.iconst 1, 1) := dk_4 (dk_at dksX3_submit_4 14 rfl rfl)
theorem dX3_submit_110 : decode cX3_submit 110 = .ok (.iadd, 1) := dk_96 (dk_at dksX3_submit_4 15 rfl rfl)
theorem dX3_submit_111 : decode cX3_submit 111 = .ok (.iconst 0, 1) := dk_3 (dk_at dksX3_submit_4 16 rfl rfl)
theorem dX3_submit_112 : decode cX3_submit 112 = .ok (.iastore, 1) := dk_79 (dk_at dksX3_submit_4 17 rfl rfl)
theorem dX3_submit_113 : decode cX3_submit 113 = .ok (.iconst 0, 1) := dk_3 (dk_at dksX3_submit_4 18 rfl rfl)
theorem dX3_submit_114 : decode cX3_submit 114 = .ok (.istore 7, 2) := dk_54 7 (dk_at dksX3_submit_4 19 rfl rfl)
theorem dX3_submit_116 : decode cX3_submit 116 = .ok (.iload 7, 2) := dk_21 7 (dk_at dksX3_submit_4 21 rfl rfl)
theorem dX3_submit_118 : decode cX3_submit 118 = .ok (.iload_n 3, 1) := dk_29 (dk_at dksX3_submit_4 23 rfl rfl)
theorem dX3_submit_119 : decode cX3_submit 119 = .ok (.if_icmp .ge 85, 3) := dk_162 0 85 (dk_at dksX3_submit_5 0 rfl rfl)
theorem dX3_submit_122 : decode cX3_submit 122 = .ok (.aload_n 0, 1) := dk_42 (dk_at dksX3_submit_5 3 rfl rfl)
theorem dX3_submit_123 : decode cX3_submit 123 = .ok (.getfield 19, 3) := dk_180 0 19 (dk_at dksX3_submit_5 4 rfl rfl)
theorem dX3_submit_126 : decode cX3_submit 126 = .ok (.iload 7, 2) := dk_21 7 (dk_at dksX3_submit_5 7 rfl rfl)
theorem dX3_submit_128 : decode cX3_submit 128 = .ok (.iaload, 1) := dk_46 (dk_at dksX3_submit_5 9 rfl rfl)
theorem dX3_submit_129 : decode cX3_submit 129 = .ok (.bipush 33, 2) := dk_16 33 (dk_at dksX3_submit_5 10 rfl rfl)
theorem dX3_submit_131 : decode cX3_submit 131 = .ok (.if_icmp .ne 6, 3) := dk_160 0 6 (dk_at dksX3_submit_5 12 rfl rfl)
theorem dX3_submit_134 : decode cX3_submit 134 = .ok (.goto 64, 3) := dk_167 0 64 (dk_at dksX3_submit_5 15 rfl rfl)
theorem dX3_submit_137 : decode cX3_submit 137 = .ok (.aload_n 0, 1) := dk_42 (dk_at dksX3_submit_5 18 rfl rfl)
theorem dX3_submit_138 : decode cX3_submit 138 = .ok (.getfield 7, 3) := dk_180 0 7 (dk_at dksX3_submit_5 19 rfl rfl)
theorem dX3_submit_141 : decode cX3_submit 141 = .ok (.iload 5, 2) := dk_21 5 (dk_at dksX3_submit_5 22 rfl rfl)
theorem dX3_submit_143 : decode cX3_submit 143 = .ok (.iconst 2, 1) := dk_5 (dk_at dksX3_submit_6 0 rfl rfl)
theorem dX3_submit_144 : decode cX3_submit 144 = .ok (.iadd, 1) := dk_96 (dk_at dksX3_submit_6 1 rfl rfl)
theorem dX3_submit_145 : decode cX3_submit 145 = .ok (.aload_n 0, 1) := dk_42 (dk_at dksX3_submit_6 2 rfl rfl)
theorem dX3_submit_146 : decode cX3_submit 146 = .ok (.getfield 7, 3) := dk_180 0 7 (dk_at dksX3_submit_6 3 rfl rfl)
theorem dX3_submit_149 : decode cX3_submit 149 = .ok (.iload 5, 2) := dk_21 5 (dk_at dksX3_submit_6 6 rfl rfl)
theorem dX3_submit_151 : decode cX3_submit 151 = .ok (.iconst 1, 1) := dk_4 (dk_at dksX3_submit_6 8 rfl rfl)
theorem dX3_submit_152 : decode cX3_submit 152 = .ok (.iadd, 1) := dk_96 (dk_at dksX3_submit_6 9 rfl rfl)
theorem dX3_submit_153 : decode cX3_submit 153 = .ok (.iaload, 1) := dk_46 (dk_at dksX3_submit_6 10 rfl rfl)
theorem dX3_submit_154 : decode cX3_submit 154 = .ok (.iadd, 1) := dk_96 (dk_at dksX3_submit_6 11 rfl rfl)
theorem dX3_submit_155 : decode cX3_submit 155 = .ok (.aload_n 0, 1) := dk_42 (dk_at dksX3_submit_6 12 rfl rfl)
theorem dX3_submit_156 : decode cX3_submit 156 = .ok (.getfield 19, 3) := dk_180 0 19 (dk_at dksX3_submit_6 13 rfl rfl)
theorem dX3_submit_159 : decode cX3_submit 159 = .ok (.iload 7, 2) := dk_21 7 (dk_at dksX3_submit_6 16 rfl rfl)
theorem dX3_submit_161 : decode cX3_submit 161 = .ok (.iaload, 1) := dk_46 (dk_at dksX3_submit_6 18 rfl rfl)
theorem dX3_submit_162 : decode cX3_submit 162 = .ok (.iastore, 1) := dk_79 (dk_at dksX3_submit_6 19 rfl rfl)
theorem dX3_submit_163 : decode cX3_submit 163 = .ok (.aload_n 0, 1) := dk_42 (dk_at dksX3_submit_6 20 rfl rfl)
theorem dX3_submit_164 : decode cX3_submit 164 = .ok (.getfield 7, 3) := dk_180 0 7 (dk_at dksX3_submit_6 21 rfl rfl)
theorem dX3_submit_167 : decode cX3_submit 167 = .ok (.iload 5, 2) := dk_21 5 (dk_at dksX3_submit_7 0 rfl rfl)
theorem dX3_submit_169 : decode cX3_submit 169 = .ok (.iconst 1, 1) := dk_4 (dk_at dksX3_submit_7 2 rfl rfl)
theorem dX3_submit_170 : decode cX3_submit 170 = .ok (.iadd, 1) := dk_96 (dk_at dksX3_submit_7 3 rfl rfl)
theorem dX3_submit_171 : decode cX3_submit 171 = .ok (.dup2, 1) := dk_92 (dk_at dksX3_submit_7 4 rfl rfl)
theorem dX3_submit_172 : decode cX3_submit 172 = .ok (.iaload, 1) := dk_46 (dk_at dksX3_submit_7 5 rfl rfl)
theorem dX3_submit_173 : decode cX3_submit 173 = .ok (.iconst 1, 1) := dk_4 (dk_at dksX3_submit_7 6 rfl rfl)
theorem dX3_submit_174 : decode cX3_submit 174 = .ok (.iadd, 1) := dk_96 (dk_at dksX3_submit_7 7 rfl rfl)
theorem dX3_submit_175 : decode cX3_submit 175 = .ok (.iastore, 1) := dk_79 (dk_at dksX3_submit_7 8 rfl rfl)
theorem dX3_submit_176 : decode cX3_submit 176 = .ok (.iload 6, 2) := dk_21 6 (dk_at dksX3_submit_7 9 rfl rfl)
theorem dX3_submit_178 : decode cX3_submit 178 = .ok (.aload_n 0, 1) := dk_42 (dk_at dksX3_submit_7 11 rfl rfl)
theorem dX3_submit_179 : decode cX3_submit 179 = .ok (.getfield 19, 3) := dk_180 0 19 (dk_at dksX3_submit_7 12 rfl rfl)
theorem dX3_submit_182 : decode cX3_submit 182 = .ok (.iload 7, 2) := dk_21 7 (dk_at dksX3_submit_7 15 rfl rfl)
theorem dX3_submit_184 : decode cX3_submit 184 = .ok (.iaload, 1) := dk_46 (dk_at dksX3_submit_7 17 rfl rfl)
theorem dX3_submit_185 : decode cX3_submit 185 = .ok (.bipush 98, 2) := dk_16 98 (dk_at dksX3_submit_7 18 rfl rfl)
theorem dX3_submit_187 : decode cX3_submit 187 = .ok (.if_icmp .ne 7, 3) := dk_160 0 7 (dk_at dksX3_submit_7 20 rfl rfl)
theorem dX3_submit_190 : decode cX3_submit 190 = .ok (.iconst 1, 1) := dk_4 (dk_at dksX3_submit_7 23 rfl rfl)
theorem dX3_submit_191 : decode cX3_submit 191 = .ok (.goto 4, 3) := dk_167 0 4 (dk_at dksX3_submit_8 0 rfl rfl)
theorem dX3_submit_194 : decode cX3_submit 194 = .ok (.iconst 0, 1) := dk_3 (dk_at dksX3_submit_8 3 rfl rfl)
theorem dX3_submit_195 : decode cX3_submit 195 = .ok (.iadd, 1) := dk_96 (dk_at dksX3_submit_8 4 rfl rfl)
theorem dX3_submit_196 : decode cX3_submit 196 = .ok (.istore 6, 2) := dk_54 6 (dk_at dksX3_submit_8 5 rfl rfl)
theorem dX3_submit_198 : decode cX3_submit 198 = .ok (.iinc 7 1, 3) := dk_132 7 1 (dk_at dksX3_submit_8 7 rfl rfl)
theorem dX3_submit_201 : decode cX3_submit 201 = .ok (.goto (-85), 3) := dk_167 255 171 (dk_at dksX3_submit_8 10 rfl rfl)
theorem dX3_submit_204 : decode cX3_submit 204 = .ok (.iload 4, 2) := dk_21 4 (dk_at dksX3_submit_8 13 rfl rfl)
theorem dX3_submit_206 : decode cX3_submit 206 = .ok (.aload_n 0, 1) := dk_42 (dk_at dksX3_submit_8 15 rfl rfl)
theorem dX3_submit_207 : decode cX3_submit 207 = .ok (.getfield 7, 3) := dk_180 0 7 (dk_at dksX3_submit_8 16 rfl rfl)
theorem dX3_submit_210 : decode cX3_submit 210 = .ok (.bipush 16, 2) := dk_16 16 (dk_at dksX3_submit_8 19 rfl rfl)
theorem dX3_submit_212 : decode cX3_submit 212 = .ok (.iload_n 1, 1) := dk_27 (dk_at dksX3_submit_8 21 rfl rfl)
theorem dX3_submit_213 : decode cX3_submit 213 = .ok (.iadd, 1) := dk_96 (dk_at dksX3_submit_8 22 rfl rfl)
theorem dX3_submit_214 : decode cX3_submit 214 = .ok (.iaload, 1) := dk_46 (dk_at dksX3_submit_8 23 rfl rfl)
theorem dX3_submit_215 : decode cX3_submit 215 = .ok (.iload 6, 2) := dk_21 6 (dk_at dksX3_submit_9 0 rfl rfl)
theorem dX3_submit_217 : decode cX3_submit 217 = .ok (.iadd, 1) := dk_96 (dk_at dksX3_submit_9 2 rfl rfl)
theorem dX3_submit_218 : decode cX3_submit 218 = .ok (.invokestatic 157, 3) := dk_184 0 157 (dk_at dksX3_submit_9 3 rfl rfl)
theorem dX3_submit_221 : decode cX3_submit 221 = .ok (.istore 7, 2) := dk_54 7 (dk_at dksX3_submit_9 6 rfl rfl)
theorem dX3_submit_223 : decode cX3_submit 223 = .ok (.aload_n 0, 1) := dk_42 (dk_at dksX3_submit_9 8 rfl rfl)
theorem dX3_submit_224 : decode cX3_submit 224 = .ok (.getfield 7, 3) := dk_180 0 7 (dk_at dksX3_submit_9 9 rfl rfl)
theorem dX3_submit_227 : decode cX3_submit 227 = .ok (.bipush 16, 2) := dk_16 16 (dk_at dksX3_submit_9 12 rfl rfl)
theorem dX3_submit_229 : decode cX3_submit 229 = .ok (.iload_n 1, 1) := dk_27 (dk_at dksX3_submit_9 14 rfl rfl)
theorem dX3_submit_230 : decode cX3_submit 230 = .ok (.iadd, 1) := dk_96 (dk_at dksX3_submit_9 15 rfl rfl)
theorem dX3_submit_231 : decode cX3_submit 231 = .ok (.dup2, 1) := dk_92 (dk_at dksX3_submit_9 16 rfl rfl)
theorem dX3_submit_232 : decode cX3_submit 232 = .ok (.iaload, 1) := dk_46 (dk_at dksX3_submit_9 17 rfl rfl)
theorem dX3_submit_233 : decode cX3_submit 233 = .ok (.iload 6, 2) := dk_21 6 (dk_at dksX3_submit_9 18 rfl rfl)
theorem dX3_submit_235 : decode cX3_submit 235 = .ok (.iload 7, 2) := dk_21 7 (dk_at dksX3_submit_9 20 rfl rfl)
theorem dX3_submit_237 : decode cX3_submit 237 = .ok (.isub, 1) := dk_100 (dk_at dksX3_submit_9 22 rfl rfl)
theorem dX3_submit_238 : decode cX3_submit 238 = .ok (.iadd, 1) := dk_96 (dk_at dksX3_submit_9 23 rfl rfl)
theorem dX3_submit_239 : decode cX3_submit 239 = .ok (.iastore, 1) := dk_79 (dk_at dksX3_submit_10 0 rfl rfl)
theorem dX3_submit_240 : decode cX3_submit 240 = .ok (.aload_n 0, 1) := dk_42 (dk_at dksX3_submit_10 1 rfl rfl)
theorem dX3_submit_241 : decode cX3_submit 241 = .ok (.getfield 7, 3) := dk_180 0 7 (dk_at dksX3_submit_10 2 rfl rfl)
theorem dX3_submit_244 : decode cX3_submit 244 = .ok (.iconst 5, 1) := dk_8 (dk_at dksX3_submit_10 5 rfl rfl)
theorem dX3_submit_245 : decode cX3_submit 245 = .ok (.dup2, 1) := dk_92 (dk_at dksX3_submit_10 6 rfl rfl)
theorem dX3_submit_246 : decode cX3_submit 246 = .ok (.iaload, 1) := dk_46 (dk_at dksX3_submit_10 7 rfl rfl)
theorem dX3_submit_247 : decode cX3_submit 247 = .ok (.iload 6, 2) := dk_21 6 (dk_at dksX3_submit_10 8 rfl rfl)
theorem dX3_submit_249 : decode cX3_submit 249 = .ok (.iadd, 1) := dk_96 (dk_at dksX3_submit_10 10 rfl rfl)
theorem dX3_submit_250 : decode cX3_submit 250 = .ok (.iastore, 1) := dk_79 (dk_at dksX3_submit_10 11 rfl rfl)
theorem dX3_submit_251 : decode cX3_submit 251 = .ok (.aload_n 0, 1) := dk_42 (dk_at dksX3_submit_10 12 rfl rfl)
theorem dX3_submit_252 : decode cX3_submit 252 = .ok (.getfield 7, 3) := dk_180 0 7 (dk_at dksX3_submit_10 13 rfl rfl)
theorem dX3_submit_255 : decode cX3_submit 255 = .ok (.bipush 6, 2) := dk_16 6 (dk_at dksX3_submit_10 16 rfl rfl)
theorem dX3_submit_257 : decode cX3_submit 257 = .ok (.dup2, 1) := dk_92 (dk_at dksX3_submit_10 18 rfl rfl)
theorem dX3_submit_258 : decode cX3_submit 258 = .ok (.iaload, 1) := dk_46 (dk_at dksX3_submit_10 19 rfl rfl)
theorem dX3_submit_259 : decode cX3_submit 259 = .ok (.iload 7, 2) := dk_21 7 (dk_at dksX3_submit_10 20 rfl rfl)
theorem dX3_submit_261 : decode cX3_submit 261 = .ok (.iadd, 1) := dk_96 (dk_at dksX3_submit_10 22 rfl rfl)
theorem dX3_submit_262 : decode cX3_submit 262 = .ok (.iastore, 1) := dk_79 (dk_at dksX3_submit_10 23 rfl rfl)
theorem dX3_submit_263 : decode cX3_submit 263 = .ok (.aload_n 0, 1) := dk_42 (dk_at dksX3_submit_11 0 rfl rfl)
theorem dX3_submit_264 : decode cX3_submit 264 = .ok (.getfield 7, 3) := dk_180 0 7 (dk_at dksX3_submit_11 1 rfl rfl)
theorem dX3_submit_267 : decode cX3_submit 267 = .ok (.iconst 1, 1) := dk_4 (dk_at dksX3_submit_11 4 rfl rfl)
theorem dX3_submit_268 : decode cX3_submit 268 = .ok (.dup2, 1) := dk_92 (dk_at dksX3_submit_11 5 rfl rfl)
theorem dX3_submit_269 : decode cX3_submit 269 = .ok (.iaload, 1) := dk_46 (dk_at dksX3_submit_11 6 rfl rfl)
theorem dX3_submit_270 : decode cX3_submit 270 = .ok (.iconst 1, 1) := dk_4 (dk_at dksX3_submit_11 7 rfl rfl)
theorem dX3_submit_271 : decode cX3_submit 271 = .ok (.iadd, 1) := dk_96 (dk_at dksX3_submit_11 8 rfl rfl)
theorem dX3_submit_272 : decode cX3_submit 272 = .ok (.iastore, 1) := dk_79 (dk_at dksX3_submit_11 9 rfl rfl)
theorem dX3_submit_273 : decode cX3_submit 273 = .ok (.aload_n 0, 1) := dk_42 (dk_at dksX3_submit_11 10 rfl rfl)
theorem dX3_submit_274 : decode cX3_submit 274 = .ok (.getfield 7, 3) := dk_180 0 7 (dk_at dksX3_submit_11 11 rfl rfl)
theorem dX3_submit_277 : decode cX3_submit 277 = .ok (.iconst 1, 1) := dk_4 (dk_at dksX3_submit_11 14 rfl rfl)
theorem dX3_submit_278 : decode cX3_submit 278 = .ok (.iaload, 1) := dk_46 (dk_at dksX3_submit_11 15 rfl rfl)
theorem dX3_submit_279 : decode cX3_submit 279 = .ok (.iconst 1, 1) := dk_4 (dk_at dksX3_submit_11 16 rfl rfl)
theorem dX3_submit_280 : decode cX3_submit 280 = .ok (.isub, 1) := dk_100 (dk_at dksX3_submit_11 17 rfl rfl)
theorem dX3_submit_281 : decode cX3_submit 281 = .ok (.ireturn, 1) := dk_172 (dk_at dksX3_submit_11 18 rfl rfl)
abbrev cX3_row : ByteArray := prog_11_method_52_code
def yX3_row : MethodName := ⟨RX3, "row", "(I)I"⟩
def dkwX3_row_0 : List UInt8 := [16, 32, 16, 26, 27, 104, 96, 172]
abbrev dktX3_row_0 : List UInt8 := dkwX3_row_0 ++ []
theorem dksX3_row_0 : cX3_row.data.toList.drop 0 = dktX3_row_0 := by decide +kernel
theorem dX3_row_0 : decode cX3_row 0 = .ok (.bipush 32, 2) := dk_16 32 (dk_at dksX3_row_0 0 rfl rfl)
theorem dX3_row_2 : decode cX3_row 2 = .ok (.bipush 26, 2) := dk_16 26 (dk_at dksX3_row_0 2 rfl rfl)
theorem dX3_row_4 : decode cX3_row 4 = .ok (.iload_n 1, 1) := dk_27 (dk_at dksX3_row_0 4 rfl rfl)
theorem dX3_row_5 : decode cX3_row 5 = .ok (.imul, 1) := dk_104 (dk_at dksX3_row_0 5 rfl rfl)
theorem dX3_row_6 : decode cX3_row 6 = .ok (.iadd, 1) := dk_96 (dk_at dksX3_row_0 6 rfl rfl)
theorem dX3_row_7 : decode cX3_row 7 = .ok (.ireturn, 1) := dk_172 (dk_at dksX3_row_0 7 rfl rfl)
abbrev cX3_least : ByteArray := prog_11_method_5_code
def yX3_least : MethodName := ⟨RX3, "least", "(II)I"⟩
def dkwX3_least_0 : List UInt8 := [26, 27, 162, 0, 7, 26, 167, 0, 4, 27, 172]
abbrev dktX3_least_0 : List UInt8 := dkwX3_least_0 ++ []
theorem dksX3_least_0 : cX3_least.data.toList.drop 0 = dktX3_least_0 := by decide +kernel
theorem dX3_least_0 : decode cX3_least 0 = .ok (.iload_n 0, 1) := dk_26 (dk_at dksX3_least_0 0 rfl rfl)
theorem dX3_least_1 : decode cX3_least 1 = .ok (.iload_n 1, 1) := dk_27 (dk_at dksX3_least_0 1 rfl rfl)
theorem dX3_least_2 : decode cX3_least 2 = .ok (.if_icmp .ge 7, 3) := dk_162 0 7 (dk_at dksX3_least_0 2 rfl rfl)
theorem dX3_least_5 : decode cX3_least 5 = .ok (.iload_n 0, 1) := dk_26 (dk_at dksX3_least_0 5 rfl rfl)
theorem dX3_least_6 : decode cX3_least 6 = .ok (.goto 4, 3) := dk_167 0 4 (dk_at dksX3_least_0 6 rfl rfl)
theorem dX3_least_9 : decode cX3_least 9 = .ok (.iload_n 1, 1) := dk_27 (dk_at dksX3_least_0 9 rfl rfl)
theorem dX3_least_10 : decode cX3_least 10 = .ok (.ireturn, 1) := dk_172 (dk_at dksX3_least_0 10 rfl rfl)
abbrev cX3_grant : ByteArray := prog_11_method_59_code
def yX3_grant : MethodName := ⟨RX3, "grant", "(I)I"⟩
def dkwX3_grant_4 : List UInt8 := [182, 0, 175, 42, 180, 0, 7, 16, 16, 28, 96, 46, 172]
abbrev dktX3_grant_4 : List UInt8 := dkwX3_grant_4 ++ []
def dkwX3_grant_3 : List UInt8 := [79, 42, 180, 0, 7, 7, 92, 46, 29, 96, 79, 42, 180, 0, 7, 6, 92, 46, 4, 96, 79, 42, 27]
abbrev dktX3_grant_3 : List UInt8 := dkwX3_grant_3 ++ dktX3_grant_4
def dkwX3_grant_2 : List UInt8 := [182, 0, 70, 153, 0, 5, 3, 172, 42, 182, 0, 77, 42, 180, 0, 7, 16, 16, 28, 96, 92, 46, 29, 100]
abbrev dktX3_grant_2 : List UInt8 := dkwX3_grant_2 ++ dktX3_grant_3
def dkwX3_grant_1 : List UInt8 := [182, 0, 172, 62, 42, 42, 180, 0, 7, 16, 16, 28, 96, 46, 29, 162, 0, 7, 5, 167, 0, 4, 3]
abbrev dktX3_grant_1 : List UInt8 := dkwX3_grant_1 ++ dktX3_grant_2
def dkwX3_grant_0 : List UInt8 := [42, 27, 182, 0, 169, 153, 0, 5, 3, 172, 42, 180, 0, 7, 42, 27, 182, 0, 154, 46, 61, 42, 27]
abbrev dktX3_grant_0 : List UInt8 := dkwX3_grant_0 ++ dktX3_grant_1
theorem dksX3_grant_0 : cX3_grant.data.toList.drop 0 = dktX3_grant_0 := by decide +kernel
theorem dksX3_grant_1 : cX3_grant.data.toList.drop 23 = dktX3_grant_1 := dk_seg dksX3_grant_0 23 rfl rfl
theorem dksX3_grant_2 : cX3_grant.data.toList.drop 46 = dktX3_grant_2 := dk_seg dksX3_grant_1 23 rfl rfl
theorem dksX3_grant_3 : cX3_grant.data.toList.drop 70 = dktX3_grant_3 := dk_seg dksX3_grant_2 24 rfl rfl
theorem dksX3_grant_4 : cX3_grant.data.toList.drop 93 = dktX3_grant_4 := dk_seg dksX3_grant_3 23 rfl rfl
theorem dX3_grant_0 : decode cX3_grant 0 = .ok (.aload_n 0, 1) := dk_42 (dk_at dksX3_grant_0 0 rfl rfl)
theorem dX3_grant_1 : decode cX3_grant 1 = .ok (.iload_n 1, 1) := dk_27 (dk_at dksX3_grant_0 1 rfl rfl)
theorem dX3_grant_2 : decode cX3_grant 2 = .ok (.invokevirtual 169, 3) := dk_182 0 169 (dk_at dksX3_grant_0 2 rfl rfl)
theorem dX3_grant_5 : decode cX3_grant 5 = .ok (.ifCond .eq 5, 3) := dk_153 0 5 (dk_at dksX3_grant_0 5 rfl rfl)
theorem dX3_grant_8 : decode cX3_grant 8 = .ok (.iconst 0, 1) := dk_3 (dk_at dksX3_grant_0 8 rfl rfl)
theorem dX3_grant_9 : decode cX3_grant 9 = .ok (.ireturn, 1) := dk_172 (dk_at dksX3_grant_0 9 rfl rfl)
theorem dX3_grant_10 : decode cX3_grant 10 = .ok (.aload_n 0, 1) := dk_42 (dk_at dksX3_grant_0 10 rfl rfl)
theorem dX3_grant_11 : decode cX3_grant 11 = .ok (.getfield 7, 3) := dk_180 0 7 (dk_at dksX3_grant_0 11 rfl rfl)
theorem dX3_grant_14 : decode cX3_grant 14 = .ok (.aload_n 0, 1) := dk_42 (dk_at dksX3_grant_0 14 rfl rfl)
theorem dX3_grant_15 : decode cX3_grant 15 = .ok (.iload_n 1, 1) := dk_27 (dk_at dksX3_grant_0 15 rfl rfl)
theorem dX3_grant_16 : decode cX3_grant 16 = .ok (.invokevirtual 154, 3) := dk_182 0 154 (dk_at dksX3_grant_0 16 rfl rfl)
theorem dX3_grant_19 : decode cX3_grant 19 = .ok (.iaload, 1) := dk_46 (dk_at dksX3_grant_0 19 rfl rfl)
theorem dX3_grant_20 : decode cX3_grant 20 = .ok (.istore_n 2, 1) := dk_61 (dk_at dksX3_grant_0 20 rfl rfl)
theorem dX3_grant_21 : decode cX3_grant 21 = .ok (.aload_n 0, 1) := dk_42 (dk_at dksX3_grant_0 21 rfl rfl)
theorem dX3_grant_22 : decode cX3_grant 22 = .ok (.iload_n 1, 1) := dk_27 (dk_at dksX3_grant_0 22 rfl rfl)
theorem dX3_grant_23 : decode cX3_grant 23 = .ok (.invokevirtual 172, 3) := dk_182 0 172 (dk_at dksX3_grant_1 0 rfl rfl)
theorem dX3_grant_26 : decode cX3_grant 26 = .ok (.istore_n 3, 1) := dk_62 (dk_at dksX3_grant_1 3 rfl rfl)
theorem dX3_grant_27 : decode cX3_grant 27 = .ok (.aload_n 0, 1) := dk_42 (dk_at dksX3_grant_1 4 rfl rfl)
theorem dX3_grant_28 : decode cX3_grant 28 = .ok (.aload_n 0, 1) := dk_42 (dk_at dksX3_grant_1 5 rfl rfl)
theorem dX3_grant_29 : decode cX3_grant 29 = .ok (.getfield 7, 3) := dk_180 0 7 (dk_at dksX3_grant_1 6 rfl rfl)
theorem dX3_grant_32 : decode cX3_grant 32 = .ok (.bipush 16, 2) := dk_16 16 (dk_at dksX3_grant_1 9 rfl rfl)
theorem dX3_grant_34 : decode cX3_grant 34 = .ok (.iload_n 2, 1) := dk_28 (dk_at dksX3_grant_1 11 rfl rfl)
theorem dX3_grant_35 : decode cX3_grant 35 = .ok (.iadd, 1) := dk_96 (dk_at dksX3_grant_1 12 rfl rfl)
theorem dX3_grant_36 : decode cX3_grant 36 = .ok (.iaload, 1) := dk_46 (dk_at dksX3_grant_1 13 rfl rfl)
theorem dX3_grant_37 : decode cX3_grant 37 = .ok (.iload_n 3, 1) := dk_29 (dk_at dksX3_grant_1 14 rfl rfl)
theorem dX3_grant_38 : decode cX3_grant 38 = .ok (.if_icmp .ge 7, 3) := dk_162 0 7 (dk_at dksX3_grant_1 15 rfl rfl)
theorem dX3_grant_41 : decode cX3_grant 41 = .ok (.iconst 2, 1) := dk_5 (dk_at dksX3_grant_1 18 rfl rfl)
theorem dX3_grant_42 : decode cX3_grant 42 = .ok (.goto 4, 3) := dk_167 0 4 (dk_at dksX3_grant_1 19 rfl rfl)
theorem dX3_grant_45 : decode cX3_grant 45 = .ok (.iconst 0, 1) := dk_3 (dk_at dksX3_grant_1 22 rfl rfl)
theorem dX3_grant_46 : decode cX3_grant 46 = .ok (.invokevirtual 70, 3) := dk_182 0 70 (dk_at dksX3_grant_2 0 rfl rfl)
theorem dX3_grant_49 : decode cX3_grant 49 = .ok (.ifCond .eq 5, 3) := dk_153 0 5 (dk_at dksX3_grant_2 3 rfl rfl)
theorem dX3_grant_52 : decode cX3_grant 52 = .ok (.iconst 0, 1) := dk_3 (dk_at dksX3_grant_2 6 rfl rfl)
theorem dX3_grant_53 : decode cX3_grant 53 = .ok (.ireturn, 1) := dk_172 (dk_at dksX3_grant_2 7 rfl rfl)
theorem dX3_grant_54 : decode cX3_grant 54 = .ok (.aload_n 0, 1) := dk_42 (dk_at dksX3_grant_2 8 rfl rfl)
theorem dX3_grant_55 : decode cX3_grant 55 = .ok (.invokevirtual 77, 3) := dk_182 0 77 (dk_at dksX3_grant_2 9 rfl rfl)
theorem dX3_grant_58 : decode cX3_grant 58 = .ok (.aload_n 0, 1) := dk_42 (dk_at dksX3_grant_2 12 rfl rfl)
theorem dX3_grant_59 : decode cX3_grant 59 = .ok (.getfield 7, 3) := dk_180 0 7 (dk_at dksX3_grant_2 13 rfl rfl)
theorem dX3_grant_62 : decode cX3_grant 62 = .ok (.bipush 16, 2) := dk_16 16 (dk_at dksX3_grant_2 16 rfl rfl)
theorem dX3_grant_64 : decode cX3_grant 64 = .ok (.iload_n 2, 1) := dk_28 (dk_at dksX3_grant_2 18 rfl rfl)
theorem dX3_grant_65 : decode cX3_grant 65 = .ok (.iadd, 1) := dk_96 (dk_at dksX3_grant_2 19 rfl rfl)
theorem dX3_grant_66 : decode cX3_grant 66 = .ok (.dup2, 1) := dk_92 (dk_at dksX3_grant_2 20 rfl rfl)
theorem dX3_grant_67 : decode cX3_grant 67 = .ok (.iaload, 1) := dk_46 (dk_at dksX3_grant_2 21 rfl rfl)
theorem dX3_grant_68 : decode cX3_grant 68 = .ok (.iload_n 3, 1) := dk_29 (dk_at dksX3_grant_2 22 rfl rfl)
theorem dX3_grant_69 : decode cX3_grant 69 = .ok (.isub, 1) := dk_100 (dk_at dksX3_grant_2 23 rfl rfl)
theorem dX3_grant_70 : decode cX3_grant 70 = .ok (.iastore, 1) := dk_79 (dk_at dksX3_grant_3 0 rfl rfl)
theorem dX3_grant_71 : decode cX3_grant 71 = .ok (.aload_n 0, 1) := dk_42 (dk_at dksX3_grant_3 1 rfl rfl)
theorem dX3_grant_72 : decode cX3_grant 72 = .ok (.getfield 7, 3) := dk_180 0 7 (dk_at dksX3_grant_3 2 rfl rfl)
theorem dX3_grant_75 : decode cX3_grant 75 = .ok (.iconst 4, 1) := dk_7 (dk_at dksX3_grant_3 5 rfl rfl)
theorem dX3_grant_76 : decode cX3_grant 76 = .ok (.dup2, 1) := dk_92 (dk_at dksX3_grant_3 6 rfl rfl)
theorem dX3_grant_77 : decode cX3_grant 77 = .ok (.iaload, 1) := dk_46 (dk_at dksX3_grant_3 7 rfl rfl)
theorem dX3_grant_78 : decode cX3_grant 78 = .ok (.iload_n 3, 1) := dk_29 (dk_at dksX3_grant_3 8 rfl rfl)
theorem dX3_grant_79 : decode cX3_grant 79 = .ok (.iadd, 1) := dk_96 (dk_at dksX3_grant_3 9 rfl rfl)
theorem dX3_grant_80 : decode cX3_grant 80 = .ok (.iastore, 1) := dk_79 (dk_at dksX3_grant_3 10 rfl rfl)
theorem dX3_grant_81 : decode cX3_grant 81 = .ok (.aload_n 0, 1) := dk_42 (dk_at dksX3_grant_3 11 rfl rfl)
theorem dX3_grant_82 : decode cX3_grant 82 = .ok (.getfield 7, 3) := dk_180 0 7 (dk_at dksX3_grant_3 12 rfl rfl)
theorem dX3_grant_85 : decode cX3_grant 85 = .ok (.iconst 3, 1) := dk_6 (dk_at dksX3_grant_3 15 rfl rfl)
theorem dX3_grant_86 : decode cX3_grant 86 = .ok (.dup2, 1) := dk_92 (dk_at dksX3_grant_3 16 rfl rfl)
theorem dX3_grant_87 : decode cX3_grant 87 = .ok (.iaload, 1) := dk_46 (dk_at dksX3_grant_3 17 rfl rfl)
theorem dX3_grant_88 : decode cX3_grant 88 = .ok (.iconst 1, 1) := dk_4 (dk_at dksX3_grant_3 18 rfl rfl)
theorem dX3_grant_89 : decode cX3_grant 89 = .ok (.iadd, 1) := dk_96 (dk_at dksX3_grant_3 19 rfl rfl)
theorem dX3_grant_90 : decode cX3_grant 90 = .ok (.iastore, 1) := dk_79 (dk_at dksX3_grant_3 20 rfl rfl)
theorem dX3_grant_91 : decode cX3_grant 91 = .ok (.aload_n 0, 1) := dk_42 (dk_at dksX3_grant_3 21 rfl rfl)
theorem dX3_grant_92 : decode cX3_grant 92 = .ok (.iload_n 1, 1) := dk_27 (dk_at dksX3_grant_3 22 rfl rfl)
theorem dX3_grant_93 : decode cX3_grant 93 = .ok (.invokevirtual 175, 3) := dk_182 0 175 (dk_at dksX3_grant_4 0 rfl rfl)
theorem dX3_grant_96 : decode cX3_grant 96 = .ok (.aload_n 0, 1) := dk_42 (dk_at dksX3_grant_4 3 rfl rfl)
theorem dX3_grant_97 : decode cX3_grant 97 = .ok (.getfield 7, 3) := dk_180 0 7 (dk_at dksX3_grant_4 4 rfl rfl)
theorem dX3_grant_100 : decode cX3_grant 100 = .ok (.bipush 16, 2) := dk_16 16 (dk_at dksX3_grant_4 7 rfl rfl)
theorem dX3_grant_102 : decode cX3_grant 102 = .ok (.iload_n 2, 1) := dk_28 (dk_at dksX3_grant_4 9 rfl rfl)
theorem dX3_grant_103 : decode cX3_grant 103 = .ok (.iadd, 1) := dk_96 (dk_at dksX3_grant_4 10 rfl rfl)
theorem dX3_grant_104 : decode cX3_grant 104 = .ok (.iaload, 1) := dk_46 (dk_at dksX3_grant_4 11 rfl rfl)
theorem dX3_grant_105 : decode cX3_grant 105 = .ok (.ireturn, 1) := dk_172 (dk_at dksX3_grant_4 12 rfl rfl)
abbrev cX3_isLost : ByteArray := prog_11_method_51_code
def yX3_isLost : MethodName := ⟨RX3, "isLost", "(I)Z"⟩
def dkwX3_isLost_0 : List UInt8 := [42, 42, 27, 182, 0, 151, 153, 0, 7, 3, 167, 0, 4, 4, 182, 0, 70, 172]
abbrev dktX3_isLost_0 : List UInt8 := dkwX3_isLost_0 ++ []
theorem dksX3_isLost_0 : cX3_isLost.data.toList.drop 0 = dktX3_isLost_0 := by decide +kernel
theorem dX3_isLost_0 : decode cX3_isLost 0 = .ok (.aload_n 0, 1) := dk_42 (dk_at dksX3_isLost_0 0 rfl rfl)
theorem dX3_isLost_1 : decode cX3_isLost 1 = .ok (.aload_n 0, 1) := dk_42 (dk_at dksX3_isLost_0 1 rfl rfl)
theorem dX3_isLost_2 : decode cX3_isLost 2 = .ok (.iload_n 1, 1) := dk_27 (dk_at dksX3_isLost_0 2 rfl rfl)
theorem dX3_isLost_3 : decode cX3_isLost 3 = .ok (.invokevirtual 151, 3) := dk_182 0 151 (dk_at dksX3_isLost_0 3 rfl rfl)
theorem dX3_isLost_6 : decode cX3_isLost 6 = .ok (.ifCond .eq 7, 3) := dk_153 0 7 (dk_at dksX3_isLost_0 6 rfl rfl)
theorem dX3_isLost_9 : decode cX3_isLost 9 = .ok (.iconst 0, 1) := dk_3 (dk_at dksX3_isLost_0 9 rfl rfl)
theorem dX3_isLost_10 : decode cX3_isLost 10 = .ok (.goto 4, 3) := dk_167 0 4 (dk_at dksX3_isLost_0 10 rfl rfl)
theorem dX3_isLost_13 : decode cX3_isLost 13 = .ok (.iconst 1, 1) := dk_4 (dk_at dksX3_isLost_0 13 rfl rfl)
theorem dX3_isLost_14 : decode cX3_isLost 14 = .ok (.invokevirtual 70, 3) := dk_182 0 70 (dk_at dksX3_isLost_0 14 rfl rfl)
theorem dX3_isLost_17 : decode cX3_isLost 17 = .ok (.ireturn, 1) := dk_172 (dk_at dksX3_isLost_0 17 rfl rfl)
abbrev cX3_isKept : ByteArray := prog_11_method_50_code
def yX3_isKept : MethodName := ⟨RX3, "isKept", "(I)Z"⟩
def dkwX3_isKept_0 : List UInt8 := [27, 3, 42, 180, 0, 7, 4, 46, 4, 100, 184, 0, 62, 172]
abbrev dktX3_isKept_0 : List UInt8 := dkwX3_isKept_0 ++ []
theorem dksX3_isKept_0 : cX3_isKept.data.toList.drop 0 = dktX3_isKept_0 := by decide +kernel
theorem dX3_isKept_0 : decode cX3_isKept 0 = .ok (.iload_n 1, 1) := dk_27 (dk_at dksX3_isKept_0 0 rfl rfl)
theorem dX3_isKept_1 : decode cX3_isKept 1 = .ok (.iconst 0, 1) := dk_3 (dk_at dksX3_isKept_0 1 rfl rfl)
theorem dX3_isKept_2 : decode cX3_isKept 2 = .ok (.aload_n 0, 1) := dk_42 (dk_at dksX3_isKept_0 2 rfl rfl)
theorem dX3_isKept_3 : decode cX3_isKept 3 = .ok (.getfield 7, 3) := dk_180 0 7 (dk_at dksX3_isKept_0 3 rfl rfl)
theorem dX3_isKept_6 : decode cX3_isKept 6 = .ok (.iconst 1, 1) := dk_4 (dk_at dksX3_isKept_0 6 rfl rfl)
theorem dX3_isKept_7 : decode cX3_isKept 7 = .ok (.iaload, 1) := dk_46 (dk_at dksX3_isKept_0 7 rfl rfl)
theorem dX3_isKept_8 : decode cX3_isKept 8 = .ok (.iconst 1, 1) := dk_4 (dk_at dksX3_isKept_0 8 rfl rfl)
theorem dX3_isKept_9 : decode cX3_isKept 9 = .ok (.isub, 1) := dk_100 (dk_at dksX3_isKept_0 9 rfl rfl)
theorem dX3_isKept_10 : decode cX3_isKept 10 = .ok (.invokestatic 62, 3) := dk_184 0 62 (dk_at dksX3_isKept_0 10 rfl rfl)
theorem dX3_isKept_13 : decode cX3_isKept 13 = .ok (.ireturn, 1) := dk_172 (dk_at dksX3_isKept_0 13 rfl rfl)
abbrev cX3_value : ByteArray := prog_11_method_58_code
def yX3_value : MethodName := ⟨RX3, "value", "(I)I"⟩
def dkwX3_value_0 : List UInt8 := [42, 3, 181, 0, 160, 42, 27, 182, 0, 166, 172]
abbrev dktX3_value_0 : List UInt8 := dkwX3_value_0 ++ []
theorem dksX3_value_0 : cX3_value.data.toList.drop 0 = dktX3_value_0 := by decide +kernel
theorem dX3_value_0 : decode cX3_value 0 = .ok (.aload_n 0, 1) := dk_42 (dk_at dksX3_value_0 0 rfl rfl)
theorem dX3_value_1 : decode cX3_value 1 = .ok (.iconst 0, 1) := dk_3 (dk_at dksX3_value_0 1 rfl rfl)
theorem dX3_value_2 : decode cX3_value 2 = .ok (.putfield 160, 3) := dk_181 0 160 (dk_at dksX3_value_0 2 rfl rfl)
theorem dX3_value_5 : decode cX3_value 5 = .ok (.aload_n 0, 1) := dk_42 (dk_at dksX3_value_0 5 rfl rfl)
theorem dX3_value_6 : decode cX3_value 6 = .ok (.iload_n 1, 1) := dk_27 (dk_at dksX3_value_0 6 rfl rfl)
theorem dX3_value_7 : decode cX3_value 7 = .ok (.invokevirtual 166, 3) := dk_182 0 166 (dk_at dksX3_value_0 7 rfl rfl)
theorem dX3_value_10 : decode cX3_value 10 = .ok (.ireturn, 1) := dk_172 (dk_at dksX3_value_0 10 rfl rfl)
abbrev cX3_worth : ByteArray := prog_11_method_57_code
def yX3_worth : MethodName := ⟨RX3, "worth", "(I)I"⟩
def dkwX3_worth_4 : List UInt8 := [27, 182, 0, 166, 96, 62, 167, 255, 224, 42, 89, 180, 0, 160, 4, 96, 181, 0, 160, 29, 172]
abbrev dktX3_worth_4 : List UInt8 := dkwX3_worth_4 ++ []
def dkwX3_worth_3 : List UInt8 := [42, 180, 0, 160, 182, 0, 163, 16, 44, 160, 0, 24, 42, 89, 180, 0, 160, 4, 96, 181, 0, 160, 29, 42]
abbrev dktX3_worth_3 : List UInt8 := dkwX3_worth_3 ++ dktX3_worth_4
def dkwX3_worth_2 : List UInt8 := [100, 184, 0, 137, 172, 28, 16, 40, 159, 0, 8, 28, 16, 48, 100, 172, 42, 27, 182, 0, 166, 62, 42, 27]
abbrev dktX3_worth_2 : List UInt8 := dkwX3_worth_2 ++ dktX3_worth_3
def dkwX3_worth_1 : List UInt8 := [160, 0, 11, 42, 27, 182, 0, 166, 5, 108, 172, 28, 16, 98, 160, 0, 15, 3, 42, 27, 182, 0, 166, 4]
abbrev dktX3_worth_1 : List UInt8 := dkwX3_worth_1 ++ dktX3_worth_2
def dkwX3_worth_0 : List UInt8 := [42, 27, 42, 180, 0, 160, 182, 0, 163, 61, 42, 89, 180, 0, 160, 4, 96, 181, 0, 160, 28, 16, 112]
abbrev dktX3_worth_0 : List UInt8 := dkwX3_worth_0 ++ dktX3_worth_1
theorem dksX3_worth_0 : cX3_worth.data.toList.drop 0 = dktX3_worth_0 := by decide +kernel
theorem dksX3_worth_1 : cX3_worth.data.toList.drop 23 = dktX3_worth_1 := dk_seg dksX3_worth_0 23 rfl rfl
theorem dksX3_worth_2 : cX3_worth.data.toList.drop 47 = dktX3_worth_2 := dk_seg dksX3_worth_1 24 rfl rfl
theorem dksX3_worth_3 : cX3_worth.data.toList.drop 71 = dktX3_worth_3 := dk_seg dksX3_worth_2 24 rfl rfl
theorem dksX3_worth_4 : cX3_worth.data.toList.drop 95 = dktX3_worth_4 := dk_seg dksX3_worth_3 24 rfl rfl
theorem dX3_worth_0 : decode cX3_worth 0 = .ok (.aload_n 0, 1) := dk_42 (dk_at dksX3_worth_0 0 rfl rfl)
theorem dX3_worth_1 : decode cX3_worth 1 = .ok (.iload_n 1, 1) := dk_27 (dk_at dksX3_worth_0 1 rfl rfl)
theorem dX3_worth_2 : decode cX3_worth 2 = .ok (.aload_n 0, 1) := dk_42 (dk_at dksX3_worth_0 2 rfl rfl)
theorem dX3_worth_3 : decode cX3_worth 3 = .ok (.getfield 160, 3) := dk_180 0 160 (dk_at dksX3_worth_0 3 rfl rfl)
theorem dX3_worth_6 : decode cX3_worth 6 = .ok (.invokevirtual 163, 3) := dk_182 0 163 (dk_at dksX3_worth_0 6 rfl rfl)
theorem dX3_worth_9 : decode cX3_worth 9 = .ok (.istore_n 2, 1) := dk_61 (dk_at dksX3_worth_0 9 rfl rfl)
theorem dX3_worth_10 : decode cX3_worth 10 = .ok (.aload_n 0, 1) := dk_42 (dk_at dksX3_worth_0 10 rfl rfl)
theorem dX3_worth_11 : decode cX3_worth 11 = .ok (.dup, 1) := dk_89 (dk_at dksX3_worth_0 11 rfl rfl)
theorem dX3_worth_12 : decode cX3_worth 12 = .ok (.getfield 160, 3) := dk_180 0 160 (dk_at dksX3_worth_0 12 rfl rfl)
theorem dX3_worth_15 : decode cX3_worth 15 = .ok (.iconst 1, 1) := dk_4 (dk_at dksX3_worth_0 15 rfl rfl)
theorem dX3_worth_16 : decode cX3_worth 16 = .ok (.iadd, 1) := dk_96 (dk_at dksX3_worth_0 16 rfl rfl)
theorem dX3_worth_17 : decode cX3_worth 17 = .ok (.putfield 160, 3) := dk_181 0 160 (dk_at dksX3_worth_0 17 rfl rfl)
theorem dX3_worth_20 : decode cX3_worth 20 = .ok (.iload_n 2, 1) := dk_28 (dk_at dksX3_worth_0 20 rfl rfl)
theorem dX3_worth_21 : decode cX3_worth 21 = .ok (.bipush 112, 2) := dk_16 112 (dk_at dksX3_worth_0 21 rfl rfl)
theorem dX3_worth_23 : decode cX3_worth 23 = .ok (.if_icmp .ne 11, 3) := dk_160 0 11 (dk_at dksX3_worth_1 0 rfl rfl)
theorem dX3_worth_26 : decode cX3_worth 26 = .ok (.aload_n 0, 1) := dk_42 (dk_at dksX3_worth_1 3 rfl rfl)
theorem dX3_worth_27 : decode cX3_worth 27 = .ok (.iload_n 1, 1) := dk_27 (dk_at dksX3_worth_1 4 rfl rfl)
theorem dX3_worth_28 : decode cX3_worth 28 = .ok (.invokevirtual 166, 3) := dk_182 0 166 (dk_at dksX3_worth_1 5 rfl rfl)
theorem dX3_worth_31 : decode cX3_worth 31 = .ok (.iconst 2, 1) := dk_5 (dk_at dksX3_worth_1 8 rfl rfl)
theorem dX3_worth_32 : decode cX3_worth 32 = .ok (.idiv, 1) := dk_108 (dk_at dksX3_worth_1 9 rfl rfl)
theorem dX3_worth_33 : decode cX3_worth 33 = .ok (.ireturn, 1) := dk_172 (dk_at dksX3_worth_1 10 rfl rfl)
theorem dX3_worth_34 : decode cX3_worth 34 = .ok (.iload_n 2, 1) := dk_28 (dk_at dksX3_worth_1 11 rfl rfl)
theorem dX3_worth_35 : decode cX3_worth 35 = .ok (.bipush 98, 2) := dk_16 98 (dk_at dksX3_worth_1 12 rfl rfl)
theorem dX3_worth_37 : decode cX3_worth 37 = .ok (.if_icmp .ne 15, 3) := dk_160 0 15 (dk_at dksX3_worth_1 14 rfl rfl)
theorem dX3_worth_40 : decode cX3_worth 40 = .ok (.iconst 0, 1) := dk_3 (dk_at dksX3_worth_1 17 rfl rfl)
theorem dX3_worth_41 : decode cX3_worth 41 = .ok (.aload_n 0, 1) := dk_42 (dk_at dksX3_worth_1 18 rfl rfl)
theorem dX3_worth_42 : decode cX3_worth 42 = .ok (.iload_n 1, 1) := dk_27 (dk_at dksX3_worth_1 19 rfl rfl)
theorem dX3_worth_43 : decode cX3_worth 43 = .ok (.invokevirtual 166, 3) := dk_182 0 166 (dk_at dksX3_worth_1 20 rfl rfl)
theorem dX3_worth_46 : decode cX3_worth 46 = .ok (.iconst 1, 1) := dk_4 (dk_at dksX3_worth_1 23 rfl rfl)
theorem dX3_worth_47 : decode cX3_worth 47 = .ok (.isub, 1) := dk_100 (dk_at dksX3_worth_2 0 rfl rfl)
theorem dX3_worth_48 : decode cX3_worth 48 = .ok (.invokestatic 137, 3) := dk_184 0 137 (dk_at dksX3_worth_2 1 rfl rfl)
theorem dX3_worth_51 : decode cX3_worth 51 = .ok (.ireturn, 1) := dk_172 (dk_at dksX3_worth_2 4 rfl rfl)
theorem dX3_worth_52 : decode cX3_worth 52 = .ok (.iload_n 2, 1) := dk_28 (dk_at dksX3_worth_2 5 rfl rfl)
theorem dX3_worth_53 : decode cX3_worth 53 = .ok (.bipush 40, 2) := dk_16 40 (dk_at dksX3_worth_2 6 rfl rfl)
theorem dX3_worth_55 : decode cX3_worth 55 = .ok (.if_icmp .eq 8, 3) := dk_159 0 8 (dk_at dksX3_worth_2 8 rfl rfl)
theorem dX3_worth_58 : decode cX3_worth 58 = .ok (.iload_n 2, 1) := dk_28 (dk_at dksX3_worth_2 11 rfl rfl)
theorem dX3_worth_59 : decode cX3_worth 59 = .ok (.bipush 48, 2) := dk_16 48 (dk_at dksX3_worth_2 12 rfl rfl)
theorem dX3_worth_61 : decode cX3_worth 61 = .ok (.isub, 1) := dk_100 (dk_at dksX3_worth_2 14 rfl rfl)
theorem dX3_worth_62 : decode cX3_worth 62 = .ok (.ireturn, 1) := dk_172 (dk_at dksX3_worth_2 15 rfl rfl)
theorem dX3_worth_63 : decode cX3_worth 63 = .ok (.aload_n 0, 1) := dk_42 (dk_at dksX3_worth_2 16 rfl rfl)
theorem dX3_worth_64 : decode cX3_worth 64 = .ok (.iload_n 1, 1) := dk_27 (dk_at dksX3_worth_2 17 rfl rfl)
theorem dX3_worth_65 : decode cX3_worth 65 = .ok (.invokevirtual 166, 3) := dk_182 0 166 (dk_at dksX3_worth_2 18 rfl rfl)
theorem dX3_worth_68 : decode cX3_worth 68 = .ok (.istore_n 3, 1) := dk_62 (dk_at dksX3_worth_2 21 rfl rfl)
theorem dX3_worth_69 : decode cX3_worth 69 = .ok (.aload_n 0, 1) := dk_42 (dk_at dksX3_worth_2 22 rfl rfl)
theorem dX3_worth_70 : decode cX3_worth 70 = .ok (.iload_n 1, 1) := dk_27 (dk_at dksX3_worth_2 23 rfl rfl)
theorem dX3_worth_71 : decode cX3_worth 71 = .ok (.aload_n 0, 1) := dk_42 (dk_at dksX3_worth_3 0 rfl rfl)
theorem dX3_worth_72 : decode cX3_worth 72 = .ok (.getfield 160, 3) := dk_180 0 160 (dk_at dksX3_worth_3 1 rfl rfl)
theorem dX3_worth_75 : decode cX3_worth 75 = .ok (.invokevirtual 163, 3) := dk_182 0 163 (dk_at dksX3_worth_3 4 rfl rfl)
theorem dX3_worth_78 : decode cX3_worth 78 = .ok (.bipush 44, 2) := dk_16 44 (dk_at dksX3_worth_3 7 rfl rfl)
theorem dX3_worth_80 : decode cX3_worth 80 = .ok (.if_icmp .ne 24, 3) := dk_160 0 24 (dk_at dksX3_worth_3 9 rfl rfl)
theorem dX3_worth_83 : decode cX3_worth 83 = .ok (.aload_n 0, 1) := dk_42 (dk_at dksX3_worth_3 12 rfl rfl)
theorem dX3_worth_84 : decode cX3_worth 84 = .ok (.dup, 1) := dk_89 (dk_at dksX3_worth_3 13 rfl rfl)
theorem dX3_worth_85 : decode cX3_worth 85 = .ok (.getfield 160, 3) := dk_180 0 160 (dk_at dksX3_worth_3 14 rfl rfl)
theorem dX3_worth_88 : decode cX3_worth 88 = .ok (.iconst 1, 1) := dk_4 (dk_at dksX3_worth_3 17 rfl rfl)
theorem dX3_worth_89 : decode cX3_worth 89 = .ok (.iadd, 1) := dk_96 (dk_at dksX3_worth_3 18 rfl rfl)
theorem dX3_worth_90 : decode cX3_worth 90 = .ok (.putfield 160, 3) := dk_181 0 160 (dk_at dksX3_worth_3 19 rfl rfl)
theorem dX3_worth_93 : decode cX3_worth 93 = .ok (.iload_n 3, 1) := dk_29 (dk_at dksX3_worth_3 22 rfl rfl)
theorem dX3_worth_94 : decode cX3_worth 94 = .ok (.aload_n 0, 1) := dk_42 (dk_at dksX3_worth_3 23 rfl rfl)
theorem dX3_worth_95 : decode cX3_worth 95 = .ok (.iload_n 1, 1) := dk_27 (dk_at dksX3_worth_4 0 rfl rfl)
theorem dX3_worth_96 : decode cX3_worth 96 = .ok (.invokevirtual 166, 3) := dk_182 0 166 (dk_at dksX3_worth_4 1 rfl rfl)
theorem dX3_worth_99 : decode cX3_worth 99 = .ok (.iadd, 1) := dk_96 (dk_at dksX3_worth_4 4 rfl rfl)
theorem dX3_worth_100 : decode cX3_worth 100 = .ok (.istore_n 3, 1) := dk_62 (dk_at dksX3_worth_4 5 rfl rfl)
theorem dX3_worth_101 : decode cX3_worth 101 = .ok (.goto (-32), 3) := dk_167 255 224 (dk_at dksX3_worth_4 6 rfl rfl)
theorem dX3_worth_104 : decode cX3_worth 104 = .ok (.aload_n 0, 1) := dk_42 (dk_at dksX3_worth_4 9 rfl rfl)
theorem dX3_worth_105 : decode cX3_worth 105 = .ok (.dup, 1) := dk_89 (dk_at dksX3_worth_4 10 rfl rfl)
theorem dX3_worth_106 : decode cX3_worth 106 = .ok (.getfield 160, 3) := dk_180 0 160 (dk_at dksX3_worth_4 11 rfl rfl)
theorem dX3_worth_109 : decode cX3_worth 109 = .ok (.iconst 1, 1) := dk_4 (dk_at dksX3_worth_4 14 rfl rfl)
theorem dX3_worth_110 : decode cX3_worth 110 = .ok (.iadd, 1) := dk_96 (dk_at dksX3_worth_4 15 rfl rfl)
theorem dX3_worth_111 : decode cX3_worth 111 = .ok (.putfield 160, 3) := dk_181 0 160 (dk_at dksX3_worth_4 16 rfl rfl)
theorem dX3_worth_114 : decode cX3_worth 114 = .ok (.iload_n 3, 1) := dk_29 (dk_at dksX3_worth_4 19 rfl rfl)
theorem dX3_worth_115 : decode cX3_worth 115 = .ok (.ireturn, 1) := dk_172 (dk_at dksX3_worth_4 20 rfl rfl)
abbrev cX3_signOf : ByteArray := prog_11_method_54_code
def yX3_signOf : MethodName := ⟨RX3, "signOf", "(II)I"⟩
def dkwX3_signOf_0 : List UInt8 := [42, 180, 0, 7, 42, 27, 182, 0, 154, 5, 96, 28, 96, 46, 172]
abbrev dktX3_signOf_0 : List UInt8 := dkwX3_signOf_0 ++ []
theorem dksX3_signOf_0 : cX3_signOf.data.toList.drop 0 = dktX3_signOf_0 := by decide +kernel
theorem dX3_signOf_0 : decode cX3_signOf 0 = .ok (.aload_n 0, 1) := dk_42 (dk_at dksX3_signOf_0 0 rfl rfl)
theorem dX3_signOf_1 : decode cX3_signOf 1 = .ok (.getfield 7, 3) := dk_180 0 7 (dk_at dksX3_signOf_0 1 rfl rfl)
theorem dX3_signOf_4 : decode cX3_signOf 4 = .ok (.aload_n 0, 1) := dk_42 (dk_at dksX3_signOf_0 4 rfl rfl)
theorem dX3_signOf_5 : decode cX3_signOf 5 = .ok (.iload_n 1, 1) := dk_27 (dk_at dksX3_signOf_0 5 rfl rfl)
theorem dX3_signOf_6 : decode cX3_signOf 6 = .ok (.invokevirtual 154, 3) := dk_182 0 154 (dk_at dksX3_signOf_0 6 rfl rfl)
theorem dX3_signOf_9 : decode cX3_signOf 9 = .ok (.iconst 2, 1) := dk_5 (dk_at dksX3_signOf_0 9 rfl rfl)
theorem dX3_signOf_10 : decode cX3_signOf 10 = .ok (.iadd, 1) := dk_96 (dk_at dksX3_signOf_0 10 rfl rfl)
theorem dX3_signOf_11 : decode cX3_signOf 11 = .ok (.iload_n 2, 1) := dk_28 (dk_at dksX3_signOf_0 11 rfl rfl)
theorem dX3_signOf_12 : decode cX3_signOf 12 = .ok (.iadd, 1) := dk_96 (dk_at dksX3_signOf_0 12 rfl rfl)
theorem dX3_signOf_13 : decode cX3_signOf 13 = .ok (.iaload, 1) := dk_46 (dk_at dksX3_signOf_0 13 rfl rfl)
theorem dX3_signOf_14 : decode cX3_signOf 14 = .ok (.ireturn, 1) := dk_172 (dk_at dksX3_signOf_0 14 rfl rfl)
abbrev cX3_drops : ByteArray := prog_11_method_56_code
def yX3_drops : MethodName := ⟨RX3, "drops", "(I)V"⟩
def dkwX3_drops_3 : List UInt8 := [182, 0, 154, 28, 96, 3, 79, 132, 2, 1, 167, 255, 229, 177]
abbrev dktX3_drops_3 : List UInt8 := dkwX3_drops_3 ++ []
def dkwX3_drops_2 : List UInt8 := [167, 255, 224, 3, 61, 28, 16, 26, 162, 0, 27, 42, 180, 0, 7, 42, 42, 180, 0, 7, 4, 46]
abbrev dktX3_drops_2 : List UInt8 := dkwX3_drops_2 ++ dktX3_drops_3
def dkwX3_drops_1 : List UInt8 := [182, 0, 154, 162, 0, 24, 42, 180, 0, 7, 28, 42, 180, 0, 7, 28, 16, 26, 96, 46, 79, 132, 2, 1]
abbrev dktX3_drops_1 : List UInt8 := dkwX3_drops_1 ++ dktX3_drops_2
def dkwX3_drops_0 : List UInt8 := [42, 180, 0, 7, 4, 92, 46, 4, 100, 79, 42, 27, 182, 0, 154, 61, 28, 42, 42, 180, 0, 7, 4, 46]
abbrev dktX3_drops_0 : List UInt8 := dkwX3_drops_0 ++ dktX3_drops_1
theorem dksX3_drops_0 : cX3_drops.data.toList.drop 0 = dktX3_drops_0 := by decide +kernel
theorem dksX3_drops_1 : cX3_drops.data.toList.drop 24 = dktX3_drops_1 := dk_seg dksX3_drops_0 24 rfl rfl
theorem dksX3_drops_2 : cX3_drops.data.toList.drop 48 = dktX3_drops_2 := dk_seg dksX3_drops_1 24 rfl rfl
theorem dksX3_drops_3 : cX3_drops.data.toList.drop 70 = dktX3_drops_3 := dk_seg dksX3_drops_2 22 rfl rfl
theorem dX3_drops_0 : decode cX3_drops 0 = .ok (.aload_n 0, 1) := dk_42 (dk_at dksX3_drops_0 0 rfl rfl)
theorem dX3_drops_1 : decode cX3_drops 1 = .ok (.getfield 7, 3) := dk_180 0 7 (dk_at dksX3_drops_0 1 rfl rfl)
theorem dX3_drops_4 : decode cX3_drops 4 = .ok (.iconst 1, 1) := dk_4 (dk_at dksX3_drops_0 4 rfl rfl)
theorem dX3_drops_5 : decode cX3_drops 5 = .ok (.dup2, 1) := dk_92 (dk_at dksX3_drops_0 5 rfl rfl)
theorem dX3_drops_6 : decode cX3_drops 6 = .ok (.iaload, 1) := dk_46 (dk_at dksX3_drops_0 6 rfl rfl)
theorem dX3_drops_7 : decode cX3_drops 7 = .ok (.iconst 1, 1) := dk_4 (dk_at dksX3_drops_0 7 rfl rfl)
theorem dX3_drops_8 : decode cX3_drops 8 = .ok (.isub, 1) := dk_100 (dk_at dksX3_drops_0 8 rfl rfl)
theorem dX3_drops_9 : decode cX3_drops 9 = .ok (.iastore, 1) := dk_79 (dk_at dksX3_drops_0 9 rfl rfl)
theorem dX3_drops_10 : decode cX3_drops 10 = .ok (.aload_n 0, 1) := dk_42 (dk_at dksX3_drops_0 10 rfl rfl)
theorem dX3_drops_11 : decode cX3_drops 11 = .ok (.iload_n 1, 1) := dk_27 (dk_at dksX3_drops_0 11 rfl rfl)
theorem dX3_drops_12 : decode cX3_drops 12 = .ok (.invokevirtual 154, 3) := dk_182 0 154 (dk_at dksX3_drops_0 12 rfl rfl)
theorem dX3_drops_15 : decode cX3_drops 15 = .ok (.istore_n 2, 1) := dk_61 (dk_at dksX3_drops_0 15 rfl rfl)
theorem dX3_drops_16 : decode cX3_drops 16 = .ok (.iload_n 2, 1) := dk_28 (dk_at dksX3_drops_0 16 rfl rfl)
theorem dX3_drops_17 : decode cX3_drops 17 = .ok (.aload_n 0, 1) := dk_42 (dk_at dksX3_drops_0 17 rfl rfl)
theorem dX3_drops_18 : decode cX3_drops 18 = .ok (.aload_n 0, 1) := dk_42 (dk_at dksX3_drops_0 18 rfl rfl)
theorem dX3_drops_19 : decode cX3_drops 19 = .ok (.getfield 7, 3) := dk_180 0 7 (dk_at dksX3_drops_0 19 rfl rfl)
theorem dX3_drops_22 : decode cX3_drops 22 = .ok (.iconst 1, 1) := dk_4 (dk_at dksX3_drops_0 22 rfl rfl)
theorem dX3_drops_23 : decode cX3_drops 23 = .ok (.iaload, 1) := dk_46 (dk_at dksX3_drops_0 23 rfl rfl)
theorem dX3_drops_24 : decode cX3_drops 24 = .ok (.invokevirtual 154, 3) := dk_182 0 154 (dk_at dksX3_drops_1 0 rfl rfl)
theorem dX3_drops_27 : decode cX3_drops 27 = .ok (.if_icmp .ge 24, 3) := dk_162 0 24 (dk_at dksX3_drops_1 3 rfl rfl)
theorem dX3_drops_30 : decode cX3_drops 30 = .ok (.aload_n 0, 1) := dk_42 (dk_at dksX3_drops_1 6 rfl rfl)
theorem dX3_drops_31 : decode cX3_drops 31 = .ok (.getfield 7, 3) := dk_180 0 7 (dk_at dksX3_drops_1 7 rfl rfl)
theorem dX3_drops_34 : decode cX3_drops 34 = .ok (.iload_n 2, 1) := dk_28 (dk_at dksX3_drops_1 10 rfl rfl)
theorem dX3_drops_35 : decode cX3_drops 35 = .ok (.aload_n 0, 1) := dk_42 (dk_at dksX3_drops_1 11 rfl rfl)
theorem dX3_drops_36 : decode cX3_drops 36 = .ok (.getfield 7, 3) := dk_180 0 7 (dk_at dksX3_drops_1 12 rfl rfl)
theorem dX3_drops_39 : decode cX3_drops 39 = .ok (.iload_n 2, 1) := dk_28 (dk_at dksX3_drops_1 15 rfl rfl)
theorem dX3_drops_40 : decode cX3_drops 40 = .ok (.bipush 26, 2) := dk_16 26 (dk_at dksX3_drops_1 16 rfl rfl)
theorem dX3_drops_42 : decode cX3_drops 42 = .ok (.iadd, 1) := dk_96 (dk_at dksX3_drops_1 18 rfl rfl)
theorem dX3_drops_43 : decode cX3_drops 43 = .ok (.iaload, 1) := dk_46 (dk_at dksX3_drops_1 19 rfl rfl)
theorem dX3_drops_44 : decode cX3_drops 44 = .ok (.iastore, 1) := dk_79 (dk_at dksX3_drops_1 20 rfl rfl)
theorem dX3_drops_45 : decode cX3_drops 45 = .ok (.iinc 2 1, 3) := dk_132 2 1 (dk_at dksX3_drops_1 21 rfl rfl)
theorem dX3_drops_48 : decode cX3_drops 48 = .ok (.goto (-32), 3) := dk_167 255 224 (dk_at dksX3_drops_2 0 rfl rfl)
theorem dX3_drops_51 : decode cX3_drops 51 = .ok (.iconst 0, 1) := dk_3 (dk_at dksX3_drops_2 3 rfl rfl)
theorem dX3_drops_52 : decode cX3_drops 52 = .ok (.istore_n 2, 1) := dk_61 (dk_at dksX3_drops_2 4 rfl rfl)
theorem dX3_drops_53 : decode cX3_drops 53 = .ok (.iload_n 2, 1) := dk_28 (dk_at dksX3_drops_2 5 rfl rfl)
theorem dX3_drops_54 : decode cX3_drops 54 = .ok (.bipush 26, 2) := dk_16 26 (dk_at dksX3_drops_2 6 rfl rfl)
theorem dX3_drops_56 : decode cX3_drops 56 = .ok (.if_icmp .ge 27, 3) := dk_162 0 27 (dk_at dksX3_drops_2 8 rfl rfl)
theorem dX3_drops_59 : decode cX3_drops 59 = .ok (.aload_n 0, 1) := dk_42 (dk_at dksX3_drops_2 11 rfl rfl)
theorem dX3_drops_60 : decode cX3_drops 60 = .ok (.getfield 7, 3) := dk_180 0 7 (dk_at dksX3_drops_2 12 rfl rfl)
theorem dX3_drops_63 : decode cX3_drops 63 = .ok (.aload_n 0, 1) := dk_42 (dk_at dksX3_drops_2 15 rfl rfl)
theorem dX3_drops_64 : decode cX3_drops 64 = .ok (.aload_n 0, 1) := dk_42 (dk_at dksX3_drops_2 16 rfl rfl)
theorem dX3_drops_65 : decode cX3_drops 65 = .ok (.getfield 7, 3) := dk_180 0 7 (dk_at dksX3_drops_2 17 rfl rfl)
theorem dX3_drops_68 : decode cX3_drops 68 = .ok (.iconst 1, 1) := dk_4 (dk_at dksX3_drops_2 20 rfl rfl)
theorem dX3_drops_69 : decode cX3_drops 69 = .ok (.iaload, 1) := dk_46 (dk_at dksX3_drops_2 21 rfl rfl)
theorem dX3_drops_70 : decode cX3_drops 70 = .ok (.invokevirtual 154, 3) := dk_182 0 154 (dk_at dksX3_drops_3 0 rfl rfl)
theorem dX3_drops_73 : decode cX3_drops 73 = .ok (.iload_n 2, 1) := dk_28 (dk_at dksX3_drops_3 3 rfl rfl)
theorem dX3_drops_74 : decode cX3_drops 74 = .ok (.iadd, 1) := dk_96 (dk_at dksX3_drops_3 4 rfl rfl)
theorem dX3_drops_75 : decode cX3_drops 75 = .ok (.iconst 0, 1) := dk_3 (dk_at dksX3_drops_3 5 rfl rfl)
theorem dX3_drops_76 : decode cX3_drops 76 = .ok (.iastore, 1) := dk_79 (dk_at dksX3_drops_3 6 rfl rfl)
theorem dX3_drops_77 : decode cX3_drops 77 = .ok (.iinc 2 1, 3) := dk_132 2 1 (dk_at dksX3_drops_3 7 rfl rfl)
theorem dX3_drops_80 : decode cX3_drops 80 = .ok (.goto (-27), 3) := dk_167 255 229 (dk_at dksX3_drops_3 10 rfl rfl)
theorem dX3_drops_83 : decode cX3_drops 83 = .ok (.return_, 1) := dk_177 (dk_at dksX3_drops_3 13 rfl rfl)
abbrev cX3_withdraw : ByteArray := prog_11_method_60_code
def yX3_withdraw : MethodName := ⟨RX3, "withdraw", "(I)I"⟩
def dkwX3_withdraw_1 : List UInt8 := [46, 172]
abbrev dktX3_withdraw_1 : List UInt8 := dkwX3_withdraw_1 ++ []
def dkwX3_withdraw_0 : List UInt8 := [42, 27, 182, 0, 169, 153, 0, 5, 3, 172, 42, 182, 0, 77, 42, 27, 182, 0, 175, 42, 180, 0, 7, 4]
abbrev dktX3_withdraw_0 : List UInt8 := dkwX3_withdraw_0 ++ dktX3_withdraw_1
theorem dksX3_withdraw_0 : cX3_withdraw.data.toList.drop 0 = dktX3_withdraw_0 := by decide +kernel
theorem dksX3_withdraw_1 : cX3_withdraw.data.toList.drop 24 = dktX3_withdraw_1 := dk_seg dksX3_withdraw_0 24 rfl rfl
theorem dX3_withdraw_0 : decode cX3_withdraw 0 = .ok (.aload_n 0, 1) := dk_42 (dk_at dksX3_withdraw_0 0 rfl rfl)
theorem dX3_withdraw_1 : decode cX3_withdraw 1 = .ok (.iload_n 1, 1) := dk_27 (dk_at dksX3_withdraw_0 1 rfl rfl)
theorem dX3_withdraw_2 : decode cX3_withdraw 2 = .ok (.invokevirtual 169, 3) := dk_182 0 169 (dk_at dksX3_withdraw_0 2 rfl rfl)
theorem dX3_withdraw_5 : decode cX3_withdraw 5 = .ok (.ifCond .eq 5, 3) := dk_153 0 5 (dk_at dksX3_withdraw_0 5 rfl rfl)
theorem dX3_withdraw_8 : decode cX3_withdraw 8 = .ok (.iconst 0, 1) := dk_3 (dk_at dksX3_withdraw_0 8 rfl rfl)
theorem dX3_withdraw_9 : decode cX3_withdraw 9 = .ok (.ireturn, 1) := dk_172 (dk_at dksX3_withdraw_0 9 rfl rfl)
theorem dX3_withdraw_10 : decode cX3_withdraw 10 = .ok (.aload_n 0, 1) := dk_42 (dk_at dksX3_withdraw_0 10 rfl rfl)
theorem dX3_withdraw_11 : decode cX3_withdraw 11 = .ok (.invokevirtual 77, 3) := dk_182 0 77 (dk_at dksX3_withdraw_0 11 rfl rfl)
theorem dX3_withdraw_14 : decode cX3_withdraw 14 = .ok (.aload_n 0, 1) := dk_42 (dk_at dksX3_withdraw_0 14 rfl rfl)
theorem dX3_withdraw_15 : decode cX3_withdraw 15 = .ok (.iload_n 1, 1) := dk_27 (dk_at dksX3_withdraw_0 15 rfl rfl)
theorem dX3_withdraw_16 : decode cX3_withdraw 16 = .ok (.invokevirtual 175, 3) := dk_182 0 175 (dk_at dksX3_withdraw_0 16 rfl rfl)
theorem dX3_withdraw_19 : decode cX3_withdraw 19 = .ok (.aload_n 0, 1) := dk_42 (dk_at dksX3_withdraw_0 19 rfl rfl)
theorem dX3_withdraw_20 : decode cX3_withdraw 20 = .ok (.getfield 7, 3) := dk_180 0 7 (dk_at dksX3_withdraw_0 20 rfl rfl)
theorem dX3_withdraw_23 : decode cX3_withdraw 23 = .ok (.iconst 1, 1) := dk_4 (dk_at dksX3_withdraw_0 23 rfl rfl)
theorem dX3_withdraw_24 : decode cX3_withdraw 24 = .ok (.iaload, 1) := dk_46 (dk_at dksX3_withdraw_1 0 rfl rfl)
theorem dX3_withdraw_25 : decode cX3_withdraw 25 = .ok (.ireturn, 1) := dk_172 (dk_at dksX3_withdraw_1 1 rfl rfl)
abbrev cX3_errorPosition : ByteArray := prog_11_method_61_code
def yX3_errorPosition : MethodName := ⟨RX3, "errorPosition", "()I"⟩
def dkwX3_errorPosition_1 : List UInt8 := [180, 0, 22, 172]
abbrev dktX3_errorPosition_1 : List UInt8 := dkwX3_errorPosition_1 ++ []
def dkwX3_errorPosition_0 : List UInt8 := [42, 42, 180, 0, 22, 156, 0, 7, 4, 167, 0, 4, 3, 182, 0, 70, 153, 0, 7, 3, 167, 0, 7, 42]
abbrev dktX3_errorPosition_0 : List UInt8 := dkwX3_errorPosition_0 ++ dktX3_errorPosition_1
theorem dksX3_errorPosition_0 : cX3_errorPosition.data.toList.drop 0 = dktX3_errorPosition_0 := by decide +kernel
theorem dksX3_errorPosition_1 : cX3_errorPosition.data.toList.drop 24 = dktX3_errorPosition_1 := dk_seg dksX3_errorPosition_0 24 rfl rfl
theorem dX3_errorPosition_0 : decode cX3_errorPosition 0 = .ok (.aload_n 0, 1) := dk_42 (dk_at dksX3_errorPosition_0 0 rfl rfl)
theorem dX3_errorPosition_1 : decode cX3_errorPosition 1 = .ok (.aload_n 0, 1) := dk_42 (dk_at dksX3_errorPosition_0 1 rfl rfl)
theorem dX3_errorPosition_2 : decode cX3_errorPosition 2 = .ok (.getfield 22, 3) := dk_180 0 22 (dk_at dksX3_errorPosition_0 2 rfl rfl)
theorem dX3_errorPosition_5 : decode cX3_errorPosition 5 = .ok (.ifCond .ge 7, 3) := dk_156 0 7 (dk_at dksX3_errorPosition_0 5 rfl rfl)
theorem dX3_errorPosition_8 : decode cX3_errorPosition 8 = .ok (.iconst 1, 1) := dk_4 (dk_at dksX3_errorPosition_0 8 rfl rfl)
theorem dX3_errorPosition_9 : decode cX3_errorPosition 9 = .ok (.goto 4, 3) := dk_167 0 4 (dk_at dksX3_errorPosition_0 9 rfl rfl)
theorem dX3_errorPosition_12 : decode cX3_errorPosition 12 = .ok (.iconst 0, 1) := dk_3 (dk_at dksX3_errorPosition_0 12 rfl rfl)
theorem dX3_errorPosition_13 : decode cX3_errorPosition 13 = .ok (.invokevirtual 70, 3) := dk_182 0 70 (dk_at dksX3_errorPosition_0 13 rfl rfl)
theorem dX3_errorPosition_16 : decode cX3_errorPosition 16 = .ok (.ifCond .eq 7, 3) := dk_153 0 7 (dk_at dksX3_errorPosition_0 16 rfl rfl)
theorem dX3_errorPosition_19 : decode cX3_errorPosition 19 = .ok (.iconst 0, 1) := dk_3 (dk_at dksX3_errorPosition_0 19 rfl rfl)
theorem dX3_errorPosition_20 : decode cX3_errorPosition 20 = .ok (.goto 7, 3) := dk_167 0 7 (dk_at dksX3_errorPosition_0 20 rfl rfl)
theorem dX3_errorPosition_23 : decode cX3_errorPosition 23 = .ok (.aload_n 0, 1) := dk_42 (dk_at dksX3_errorPosition_0 23 rfl rfl)
theorem dX3_errorPosition_24 : decode cX3_errorPosition 24 = .ok (.getfield 22, 3) := dk_180 0 22 (dk_at dksX3_errorPosition_1 0 rfl rfl)
theorem dX3_errorPosition_27 : decode cX3_errorPosition 27 = .ok (.ireturn, 1) := dk_172 (dk_at dksX3_errorPosition_1 3 rfl rfl)
abbrev cX3_requestCount : ByteArray := prog_11_method_62_code
def yX3_requestCount : MethodName := ⟨RX3, "requestCount", "()I"⟩
def dkwX3_requestCount_0 : List UInt8 := [42, 3, 181, 0, 52, 42, 180, 0, 7, 4, 46, 172]
abbrev dktX3_requestCount_0 : List UInt8 := dkwX3_requestCount_0 ++ []
theorem dksX3_requestCount_0 : cX3_requestCount.data.toList.drop 0 = dktX3_requestCount_0 := by decide +kernel
theorem dX3_requestCount_0 : decode cX3_requestCount 0 = .ok (.aload_n 0, 1) := dk_42 (dk_at dksX3_requestCount_0 0 rfl rfl)
theorem dX3_requestCount_1 : decode cX3_requestCount 1 = .ok (.iconst 0, 1) := dk_3 (dk_at dksX3_requestCount_0 1 rfl rfl)
theorem dX3_requestCount_2 : decode cX3_requestCount 2 = .ok (.putfield 52, 3) := dk_181 0 52 (dk_at dksX3_requestCount_0 2 rfl rfl)
theorem dX3_requestCount_5 : decode cX3_requestCount 5 = .ok (.aload_n 0, 1) := dk_42 (dk_at dksX3_requestCount_0 5 rfl rfl)
theorem dX3_requestCount_6 : decode cX3_requestCount 6 = .ok (.getfield 7, 3) := dk_180 0 7 (dk_at dksX3_requestCount_0 6 rfl rfl)
theorem dX3_requestCount_9 : decode cX3_requestCount 9 = .ok (.iconst 1, 1) := dk_4 (dk_at dksX3_requestCount_0 9 rfl rfl)
theorem dX3_requestCount_10 : decode cX3_requestCount 10 = .ok (.iaload, 1) := dk_46 (dk_at dksX3_requestCount_0 10 rfl rfl)
theorem dX3_requestCount_11 : decode cX3_requestCount 11 = .ok (.ireturn, 1) := dk_172 (dk_at dksX3_requestCount_0 11 rfl rfl)
abbrev cX3_courtierOf : ByteArray := prog_11_method_63_code
def yX3_courtierOf : MethodName := ⟨RX3, "courtierOf", "(I)I"⟩
def dkwX3_courtierOf_0 : List UInt8 := [42, 27, 182, 0, 169, 153, 0, 7, 3, 167, 0, 13, 42, 180, 0, 7, 42, 27, 182, 0, 154, 46, 172]
abbrev dktX3_courtierOf_0 : List UInt8 := dkwX3_courtierOf_0 ++ []
theorem dksX3_courtierOf_0 : cX3_courtierOf.data.toList.drop 0 = dktX3_courtierOf_0 := by decide +kernel
theorem dX3_courtierOf_0 : decode cX3_courtierOf 0 = .ok (.aload_n 0, 1) := dk_42 (dk_at dksX3_courtierOf_0 0 rfl rfl)
theorem dX3_courtierOf_1 : decode cX3_courtierOf 1 = .ok (.iload_n 1, 1) := dk_27 (dk_at dksX3_courtierOf_0 1 rfl rfl)
theorem dX3_courtierOf_2 : decode cX3_courtierOf 2 = .ok (.invokevirtual 169, 3) := dk_182 0 169 (dk_at dksX3_courtierOf_0 2 rfl rfl)
theorem dX3_courtierOf_5 : decode cX3_courtierOf 5 = .ok (.ifCond .eq 7, 3) := dk_153 0 7 (dk_at dksX3_courtierOf_0 5 rfl rfl)
theorem dX3_courtierOf_8 : decode cX3_courtierOf 8 = .ok (.iconst 0, 1) := dk_3 (dk_at dksX3_courtierOf_0 8 rfl rfl)
theorem dX3_courtierOf_9 : decode cX3_courtierOf 9 = .ok (.goto 13, 3) := dk_167 0 13 (dk_at dksX3_courtierOf_0 9 rfl rfl)
theorem dX3_courtierOf_12 : decode cX3_courtierOf 12 = .ok (.aload_n 0, 1) := dk_42 (dk_at dksX3_courtierOf_0 12 rfl rfl)
theorem dX3_courtierOf_13 : decode cX3_courtierOf 13 = .ok (.getfield 7, 3) := dk_180 0 7 (dk_at dksX3_courtierOf_0 13 rfl rfl)
theorem dX3_courtierOf_16 : decode cX3_courtierOf 16 = .ok (.aload_n 0, 1) := dk_42 (dk_at dksX3_courtierOf_0 16 rfl rfl)
theorem dX3_courtierOf_17 : decode cX3_courtierOf 17 = .ok (.iload_n 1, 1) := dk_27 (dk_at dksX3_courtierOf_0 17 rfl rfl)
theorem dX3_courtierOf_18 : decode cX3_courtierOf 18 = .ok (.invokevirtual 154, 3) := dk_182 0 154 (dk_at dksX3_courtierOf_0 18 rfl rfl)
theorem dX3_courtierOf_21 : decode cX3_courtierOf 21 = .ok (.iaload, 1) := dk_46 (dk_at dksX3_courtierOf_0 21 rfl rfl)
theorem dX3_courtierOf_22 : decode cX3_courtierOf 22 = .ok (.ireturn, 1) := dk_172 (dk_at dksX3_courtierOf_0 22 rfl rfl)
abbrev cX3_valueOf : ByteArray := prog_11_method_64_code
def yX3_valueOf : MethodName := ⟨RX3, "valueOf", "(I)I"⟩
def dkwX3_valueOf_0 : List UInt8 := [42, 27, 182, 0, 169, 153, 0, 7, 3, 167, 0, 8, 42, 27, 182, 0, 172, 172]
abbrev dktX3_valueOf_0 : List UInt8 := dkwX3_valueOf_0 ++ []
theorem dksX3_valueOf_0 : cX3_valueOf.data.toList.drop 0 = dktX3_valueOf_0 := by decide +kernel
theorem dX3_valueOf_0 : decode cX3_valueOf 0 = .ok (.aload_n 0, 1) := dk_42 (dk_at dksX3_valueOf_0 0 rfl rfl)
theorem dX3_valueOf_1 : decode cX3_valueOf 1 = .ok (.iload_n 1, 1) := dk_27 (dk_at dksX3_valueOf_0 1 rfl rfl)
theorem dX3_valueOf_2 : decode cX3_valueOf 2 = .ok (.invokevirtual 169, 3) := dk_182 0 169 (dk_at dksX3_valueOf_0 2 rfl rfl)
theorem dX3_valueOf_5 : decode cX3_valueOf 5 = .ok (.ifCond .eq 7, 3) := dk_153 0 7 (dk_at dksX3_valueOf_0 5 rfl rfl)
theorem dX3_valueOf_8 : decode cX3_valueOf 8 = .ok (.iconst 0, 1) := dk_3 (dk_at dksX3_valueOf_0 8 rfl rfl)
theorem dX3_valueOf_9 : decode cX3_valueOf 9 = .ok (.goto 8, 3) := dk_167 0 8 (dk_at dksX3_valueOf_0 9 rfl rfl)
theorem dX3_valueOf_12 : decode cX3_valueOf 12 = .ok (.aload_n 0, 1) := dk_42 (dk_at dksX3_valueOf_0 12 rfl rfl)
theorem dX3_valueOf_13 : decode cX3_valueOf 13 = .ok (.iload_n 1, 1) := dk_27 (dk_at dksX3_valueOf_0 13 rfl rfl)
theorem dX3_valueOf_14 : decode cX3_valueOf 14 = .ok (.invokevirtual 172, 3) := dk_182 0 172 (dk_at dksX3_valueOf_0 14 rfl rfl)
theorem dX3_valueOf_17 : decode cX3_valueOf 17 = .ok (.ireturn, 1) := dk_172 (dk_at dksX3_valueOf_0 17 rfl rfl)
abbrev cX3_lengthOf : ByteArray := prog_11_method_65_code
def yX3_lengthOf : MethodName := ⟨RX3, "lengthOf", "(I)I"⟩
def dkwX3_lengthOf_0 : List UInt8 := [42, 27, 182, 0, 169, 153, 0, 7, 3, 167, 0, 8, 42, 27, 182, 0, 179, 172]
abbrev dktX3_lengthOf_0 : List UInt8 := dkwX3_lengthOf_0 ++ []
theorem dksX3_lengthOf_0 : cX3_lengthOf.data.toList.drop 0 = dktX3_lengthOf_0 := by decide +kernel
theorem dX3_lengthOf_0 : decode cX3_lengthOf 0 = .ok (.aload_n 0, 1) := dk_42 (dk_at dksX3_lengthOf_0 0 rfl rfl)
theorem dX3_lengthOf_1 : decode cX3_lengthOf 1 = .ok (.iload_n 1, 1) := dk_27 (dk_at dksX3_lengthOf_0 1 rfl rfl)
theorem dX3_lengthOf_2 : decode cX3_lengthOf 2 = .ok (.invokevirtual 169, 3) := dk_182 0 169 (dk_at dksX3_lengthOf_0 2 rfl rfl)
theorem dX3_lengthOf_5 : decode cX3_lengthOf 5 = .ok (.ifCond .eq 7, 3) := dk_153 0 7 (dk_at dksX3_lengthOf_0 5 rfl rfl)
theorem dX3_lengthOf_8 : decode cX3_lengthOf 8 = .ok (.iconst 0, 1) := dk_3 (dk_at dksX3_lengthOf_0 8 rfl rfl)
theorem dX3_lengthOf_9 : decode cX3_lengthOf 9 = .ok (.goto 8, 3) := dk_167 0 8 (dk_at dksX3_lengthOf_0 9 rfl rfl)
theorem dX3_lengthOf_12 : decode cX3_lengthOf 12 = .ok (.aload_n 0, 1) := dk_42 (dk_at dksX3_lengthOf_0 12 rfl rfl)
theorem dX3_lengthOf_13 : decode cX3_lengthOf 13 = .ok (.iload_n 1, 1) := dk_27 (dk_at dksX3_lengthOf_0 13 rfl rfl)
theorem dX3_lengthOf_14 : decode cX3_lengthOf 14 = .ok (.invokevirtual 179, 3) := dk_182 0 179 (dk_at dksX3_lengthOf_0 14 rfl rfl)
theorem dX3_lengthOf_17 : decode cX3_lengthOf 17 = .ok (.ireturn, 1) := dk_172 (dk_at dksX3_lengthOf_0 17 rfl rfl)
abbrev cX3_sizeOf : ByteArray := prog_11_method_53_code
def yX3_sizeOf : MethodName := ⟨RX3, "sizeOf", "(I)I"⟩
def dkwX3_sizeOf_0 : List UInt8 := [42, 180, 0, 7, 42, 27, 182, 0, 154, 4, 96, 46, 172]
abbrev dktX3_sizeOf_0 : List UInt8 := dkwX3_sizeOf_0 ++ []
theorem dksX3_sizeOf_0 : cX3_sizeOf.data.toList.drop 0 = dktX3_sizeOf_0 := by decide +kernel
theorem dX3_sizeOf_0 : decode cX3_sizeOf 0 = .ok (.aload_n 0, 1) := dk_42 (dk_at dksX3_sizeOf_0 0 rfl rfl)
theorem dX3_sizeOf_1 : decode cX3_sizeOf 1 = .ok (.getfield 7, 3) := dk_180 0 7 (dk_at dksX3_sizeOf_0 1 rfl rfl)
theorem dX3_sizeOf_4 : decode cX3_sizeOf 4 = .ok (.aload_n 0, 1) := dk_42 (dk_at dksX3_sizeOf_0 4 rfl rfl)
theorem dX3_sizeOf_5 : decode cX3_sizeOf 5 = .ok (.iload_n 1, 1) := dk_27 (dk_at dksX3_sizeOf_0 5 rfl rfl)
theorem dX3_sizeOf_6 : decode cX3_sizeOf 6 = .ok (.invokevirtual 154, 3) := dk_182 0 154 (dk_at dksX3_sizeOf_0 6 rfl rfl)
theorem dX3_sizeOf_9 : decode cX3_sizeOf 9 = .ok (.iconst 1, 1) := dk_4 (dk_at dksX3_sizeOf_0 9 rfl rfl)
theorem dX3_sizeOf_10 : decode cX3_sizeOf 10 = .ok (.iadd, 1) := dk_96 (dk_at dksX3_sizeOf_0 10 rfl rfl)
theorem dX3_sizeOf_11 : decode cX3_sizeOf 11 = .ok (.iaload, 1) := dk_46 (dk_at dksX3_sizeOf_0 11 rfl rfl)
theorem dX3_sizeOf_12 : decode cX3_sizeOf 12 = .ok (.ireturn, 1) := dk_172 (dk_at dksX3_sizeOf_0 12 rfl rfl)
abbrev cX3_symbolOf : ByteArray := prog_11_method_66_code
def yX3_symbolOf : MethodName := ⟨RX3, "symbolOf", "(II)C"⟩
def dkwX3_symbolOf_1 : List UInt8 := [3, 167, 0, 4, 4, 182, 0, 70, 153, 0, 8, 16, 32, 167, 0, 10, 42, 27, 28, 182, 0, 163, 146, 172]
abbrev dktX3_symbolOf_1 : List UInt8 := dkwX3_symbolOf_1 ++ []
def dkwX3_symbolOf_0 : List UInt8 := [42, 27, 182, 0, 169, 154, 0, 30, 42, 28, 3, 42, 27, 182, 0, 179, 4, 100, 184, 0, 62, 153, 0, 7]
abbrev dktX3_symbolOf_0 : List UInt8 := dkwX3_symbolOf_0 ++ dktX3_symbolOf_1
theorem dksX3_symbolOf_0 : cX3_symbolOf.data.toList.drop 0 = dktX3_symbolOf_0 := by decide +kernel
theorem dksX3_symbolOf_1 : cX3_symbolOf.data.toList.drop 24 = dktX3_symbolOf_1 := dk_seg dksX3_symbolOf_0 24 rfl rfl
theorem dX3_symbolOf_0 : decode cX3_symbolOf 0 = .ok (.aload_n 0, 1) := dk_42 (dk_at dksX3_symbolOf_0 0 rfl rfl)
theorem dX3_symbolOf_1 : decode cX3_symbolOf 1 = .ok (.iload_n 1, 1) := dk_27 (dk_at dksX3_symbolOf_0 1 rfl rfl)
theorem dX3_symbolOf_2 : decode cX3_symbolOf 2 = .ok (.invokevirtual 169, 3) := dk_182 0 169 (dk_at dksX3_symbolOf_0 2 rfl rfl)
theorem dX3_symbolOf_5 : decode cX3_symbolOf 5 = .ok (.ifCond .ne 30, 3) := dk_154 0 30 (dk_at dksX3_symbolOf_0 5 rfl rfl)
theorem dX3_symbolOf_8 : decode cX3_symbolOf 8 = .ok (.aload_n 0, 1) := dk_42 (dk_at dksX3_symbolOf_0 8 rfl rfl)
theorem dX3_symbolOf_9 : decode cX3_symbolOf 9 = .ok (.iload_n 2, 1) := dk_28 (dk_at dksX3_symbolOf_0 9 rfl rfl)
theorem dX3_symbolOf_10 : decode cX3_symbolOf 10 = .ok (.iconst 0, 1) := dk_3 (dk_at dksX3_symbolOf_0 10 rfl rfl)
theorem dX3_symbolOf_11 : decode cX3_symbolOf 11 = .ok (.aload_n 0, 1) := dk_42 (dk_at dksX3_symbolOf_0 11 rfl rfl)
theorem dX3_symbolOf_12 : decode cX3_symbolOf 12 = .ok (.iload_n 1, 1) := dk_27 (dk_at dksX3_symbolOf_0 12 rfl rfl)
theorem dX3_symbolOf_13 : decode cX3_symbolOf 13 = .ok (.invokevirtual 179, 3) := dk_182 0 179 (dk_at dksX3_symbolOf_0 13 rfl rfl)
theorem dX3_symbolOf_16 : decode cX3_symbolOf 16 = .ok (.iconst 1, 1) := dk_4 (dk_at dksX3_symbolOf_0 16 rfl rfl)
theorem dX3_symbolOf_17 : decode cX3_symbolOf 17 = .ok (.isub, 1) := dk_100 (dk_at dksX3_symbolOf_0 17 rfl rfl)
theorem dX3_symbolOf_18 : decode cX3_symbolOf 18 = .ok (.invokestatic 62, 3) := dk_184 0 62 (dk_at dksX3_symbolOf_0 18 rfl rfl)
theorem dX3_symbolOf_21 : decode cX3_symbolOf 21 = .ok (.ifCond .eq 7, 3) := dk_153 0 7 (dk_at dksX3_symbolOf_0 21 rfl rfl)
theorem dX3_symbolOf_24 : decode cX3_symbolOf 24 = .ok (.iconst 0, 1) := dk_3 (dk_at dksX3_symbolOf_1 0 rfl rfl)
theorem dX3_symbolOf_25 : decode cX3_symbolOf 25 = .ok (.goto 4, 3) := dk_167 0 4 (dk_at dksX3_symbolOf_1 1 rfl rfl)
theorem dX3_symbolOf_28 : decode cX3_symbolOf 28 = .ok (.iconst 1, 1) := dk_4 (dk_at dksX3_symbolOf_1 4 rfl rfl)
theorem dX3_symbolOf_29 : decode cX3_symbolOf 29 = .ok (.invokevirtual 70, 3) := dk_182 0 70 (dk_at dksX3_symbolOf_1 5 rfl rfl)
theorem dX3_symbolOf_32 : decode cX3_symbolOf 32 = .ok (.ifCond .eq 8, 3) := dk_153 0 8 (dk_at dksX3_symbolOf_1 8 rfl rfl)
theorem dX3_symbolOf_35 : decode cX3_symbolOf 35 = .ok (.bipush 32, 2) := dk_16 32 (dk_at dksX3_symbolOf_1 11 rfl rfl)
theorem dX3_symbolOf_37 : decode cX3_symbolOf 37 = .ok (.goto 10, 3) := dk_167 0 10 (dk_at dksX3_symbolOf_1 13 rfl rfl)
theorem dX3_symbolOf_40 : decode cX3_symbolOf 40 = .ok (.aload_n 0, 1) := dk_42 (dk_at dksX3_symbolOf_1 16 rfl rfl)
theorem dX3_symbolOf_41 : decode cX3_symbolOf 41 = .ok (.iload_n 1, 1) := dk_27 (dk_at dksX3_symbolOf_1 17 rfl rfl)
theorem dX3_symbolOf_42 : decode cX3_symbolOf 42 = .ok (.iload_n 2, 1) := dk_28 (dk_at dksX3_symbolOf_1 18 rfl rfl)
theorem dX3_symbolOf_43 : decode cX3_symbolOf 43 = .ok (.invokevirtual 163, 3) := dk_182 0 163 (dk_at dksX3_symbolOf_1 19 rfl rfl)
theorem dX3_symbolOf_46 : decode cX3_symbolOf 46 = .ok (.i2c, 1) := dk_146 (dk_at dksX3_symbolOf_1 22 rfl rfl)
theorem dX3_symbolOf_47 : decode cX3_symbolOf 47 = .ok (.ireturn, 1) := dk_172 (dk_at dksX3_symbolOf_1 23 rfl rfl)
abbrev cX3_depthOf : ByteArray := prog_11_method_67_code
def yX3_depthOf : MethodName := ⟨RX3, "depthOf", "(I)I"⟩
def dkwX3_depthOf_3 : List UInt8 := [167, 255, 201, 29, 172]
abbrev dktX3_depthOf_3 : List UInt8 := dkwX3_depthOf_3 ++ []
def dkwX3_depthOf_2 : List UInt8 := [182, 0, 163, 16, 41, 160, 0, 7, 2, 167, 0, 4, 3, 96, 61, 29, 28, 184, 0, 137, 62, 132, 4, 1]
abbrev dktX3_depthOf_2 : List UInt8 := dkwX3_depthOf_2 ++ dktX3_depthOf_3
def dkwX3_depthOf_1 : List UInt8 := [162, 0, 51, 28, 42, 27, 21, 4, 182, 0, 163, 16, 40, 160, 0, 7, 4, 167, 0, 20, 42, 27, 21, 4]
abbrev dktX3_depthOf_1 : List UInt8 := dkwX3_depthOf_1 ++ dktX3_depthOf_2
def dkwX3_depthOf_0 : List UInt8 := [42, 27, 182, 0, 169, 153, 0, 5, 3, 172, 3, 61, 3, 62, 3, 54, 4, 21, 4, 42, 27, 182, 0, 179]
abbrev dktX3_depthOf_0 : List UInt8 := dkwX3_depthOf_0 ++ dktX3_depthOf_1
theorem dksX3_depthOf_0 : cX3_depthOf.data.toList.drop 0 = dktX3_depthOf_0 := by decide +kernel
theorem dksX3_depthOf_1 : cX3_depthOf.data.toList.drop 24 = dktX3_depthOf_1 := dk_seg dksX3_depthOf_0 24 rfl rfl
theorem dksX3_depthOf_2 : cX3_depthOf.data.toList.drop 48 = dktX3_depthOf_2 := dk_seg dksX3_depthOf_1 24 rfl rfl
theorem dksX3_depthOf_3 : cX3_depthOf.data.toList.drop 72 = dktX3_depthOf_3 := dk_seg dksX3_depthOf_2 24 rfl rfl
theorem dX3_depthOf_0 : decode cX3_depthOf 0 = .ok (.aload_n 0, 1) := dk_42 (dk_at dksX3_depthOf_0 0 rfl rfl)
theorem dX3_depthOf_1 : decode cX3_depthOf 1 = .ok (.iload_n 1, 1) := dk_27 (dk_at dksX3_depthOf_0 1 rfl rfl)
theorem dX3_depthOf_2 : decode cX3_depthOf 2 = .ok (.invokevirtual 169, 3) := dk_182 0 169 (dk_at dksX3_depthOf_0 2 rfl rfl)
theorem dX3_depthOf_5 : decode cX3_depthOf 5 = .ok (.ifCond .eq 5, 3) := dk_153 0 5 (dk_at dksX3_depthOf_0 5 rfl rfl)
theorem dX3_depthOf_8 : decode cX3_depthOf 8 = .ok (.iconst 0, 1) := dk_3 (dk_at dksX3_depthOf_0 8 rfl rfl)
theorem dX3_depthOf_9 : decode cX3_depthOf 9 = .ok (.ireturn, 1) := dk_172 (dk_at dksX3_depthOf_0 9 rfl rfl)
theorem dX3_depthOf_10 : decode cX3_depthOf 10 = .ok (.iconst 0, 1) := dk_3 (dk_at dksX3_depthOf_0 10 rfl rfl)
theorem dX3_depthOf_11 : decode cX3_depthOf 11 = .ok (.istore_n 2, 1) := dk_61 (dk_at dksX3_depthOf_0 11 rfl rfl)
theorem dX3_depthOf_12 : decode cX3_depthOf 12 = .ok (.iconst 0, 1) := dk_3 (dk_at dksX3_depthOf_0 12 rfl rfl)
theorem dX3_depthOf_13 : decode cX3_depthOf 13 = .ok (.istore_n 3, 1) := dk_62 (dk_at dksX3_depthOf_0 13 rfl rfl)
theorem dX3_depthOf_14 : decode cX3_depthOf 14 = .ok (.iconst 0, 1) := dk_3 (dk_at dksX3_depthOf_0 14 rfl rfl)
theorem dX3_depthOf_15 : decode cX3_depthOf 15 = .ok (.istore 4, 2) := dk_54 4 (dk_at dksX3_depthOf_0 15 rfl rfl)
theorem dX3_depthOf_17 : decode cX3_depthOf 17 = .ok (.iload 4, 2) := dk_21 4 (dk_at dksX3_depthOf_0 17 rfl rfl)
theorem dX3_depthOf_19 : decode cX3_depthOf 19 = .ok (.aload_n 0, 1) := dk_42 (dk_at dksX3_depthOf_0 19 rfl rfl)
theorem dX3_depthOf_20 : decode cX3_depthOf 20 = .ok (.iload_n 1, 1) := dk_27 (dk_at dksX3_depthOf_0 20 rfl rfl)
theorem dX3_depthOf_21 : decode cX3_depthOf 21 = .ok (.invokevirtual 179, 3) := dk_182 0 179 (dk_at dksX3_depthOf_0 21 rfl rfl)
theorem dX3_depthOf_24 : decode cX3_depthOf 24 = .ok (.if_icmp .ge 51, 3) := dk_162 0 51 (dk_at dksX3_depthOf_1 0 rfl rfl)
theorem dX3_depthOf_27 : decode cX3_depthOf 27 = .ok (.iload_n 2, 1) := dk_28 (dk_at dksX3_depthOf_1 3 rfl rfl)
theorem dX3_depthOf_28 : decode cX3_depthOf 28 = .ok (.aload_n 0, 1) := dk_42 (dk_at dksX3_depthOf_1 4 rfl rfl)
theorem dX3_depthOf_29 : decode cX3_depthOf 29 = .ok (.iload_n 1, 1) := dk_27 (dk_at dksX3_depthOf_1 5 rfl rfl)
theorem dX3_depthOf_30 : decode cX3_depthOf 30 = .ok (.iload 4, 2) := dk_21 4 (dk_at dksX3_depthOf_1 6 rfl rfl)
theorem dX3_depthOf_32 : decode cX3_depthOf 32 = .ok (.invokevirtual 163, 3) := dk_182 0 163 (dk_at dksX3_depthOf_1 8 rfl rfl)
theorem dX3_depthOf_35 : decode cX3_depthOf 35 = .ok (.bipush 40, 2) := dk_16 40 (dk_at dksX3_depthOf_1 11 rfl rfl)
theorem dX3_depthOf_37 : decode cX3_depthOf 37 = .ok (.if_icmp .ne 7, 3) := dk_160 0 7 (dk_at dksX3_depthOf_1 13 rfl rfl)
theorem dX3_depthOf_40 : decode cX3_depthOf 40 = .ok (.iconst 1, 1) := dk_4 (dk_at dksX3_depthOf_1 16 rfl rfl)
theorem dX3_depthOf_41 : decode cX3_depthOf 41 = .ok (.goto 20, 3) := dk_167 0 20 (dk_at dksX3_depthOf_1 17 rfl rfl)
theorem dX3_depthOf_44 : decode cX3_depthOf 44 = .ok (.aload_n 0, 1) := dk_42 (dk_at dksX3_depthOf_1 20 rfl rfl)
theorem dX3_depthOf_45 : decode cX3_depthOf 45 = .ok (.iload_n 1, 1) := dk_27 (dk_at dksX3_depthOf_1 21 rfl rfl)
theorem dX3_depthOf_46 : decode cX3_depthOf 46 = .ok (.iload 4, 2) := dk_21 4 (dk_at dksX3_depthOf_1 22 rfl rfl)
theorem dX3_depthOf_48 : decode cX3_depthOf 48 = .ok (.invokevirtual 163, 3) := dk_182 0 163 (dk_at dksX3_depthOf_2 0 rfl rfl)
theorem dX3_depthOf_51 : decode cX3_depthOf 51 = .ok (.bipush 41, 2) := dk_16 41 (dk_at dksX3_depthOf_2 3 rfl rfl)
theorem dX3_depthOf_53 : decode cX3_depthOf 53 = .ok (.if_icmp .ne 7, 3) := dk_160 0 7 (dk_at dksX3_depthOf_2 5 rfl rfl)
theorem dX3_depthOf_56 : decode cX3_depthOf 56 = .ok (.iconst (-1), 1) := dk_2 (dk_at dksX3_depthOf_2 8 rfl rfl)
theorem dX3_depthOf_57 : decode cX3_depthOf 57 = .ok (.goto 4, 3) := dk_167 0 4 (dk_at dksX3_depthOf_2 9 rfl rfl)
theorem dX3_depthOf_60 : decode cX3_depthOf 60 = .ok (.iconst 0, 1) := dk_3 (dk_at dksX3_depthOf_2 12 rfl rfl)
theorem dX3_depthOf_61 : decode cX3_depthOf 61 = .ok (.iadd, 1) := dk_96 (dk_at dksX3_depthOf_2 13 rfl rfl)
theorem dX3_depthOf_62 : decode cX3_depthOf 62 = .ok (.istore_n 2, 1) := dk_61 (dk_at dksX3_depthOf_2 14 rfl rfl)
theorem dX3_depthOf_63 : decode cX3_depthOf 63 = .ok (.iload_n 3, 1) := dk_29 (dk_at dksX3_depthOf_2 15 rfl rfl)
theorem dX3_depthOf_64 : decode cX3_depthOf 64 = .ok (.iload_n 2, 1) := dk_28 (dk_at dksX3_depthOf_2 16 rfl rfl)
theorem dX3_depthOf_65 : decode cX3_depthOf 65 = .ok (.invokestatic 137, 3) := dk_184 0 137 (dk_at dksX3_depthOf_2 17 rfl rfl)
theorem dX3_depthOf_68 : decode cX3_depthOf 68 = .ok (.istore_n 3, 1) := dk_62 (dk_at dksX3_depthOf_2 20 rfl rfl)
theorem dX3_depthOf_69 : decode cX3_depthOf 69 = .ok (.iinc 4 1, 3) := dk_132 4 1 (dk_at dksX3_depthOf_2 21 rfl rfl)
theorem dX3_depthOf_72 : decode cX3_depthOf 72 = .ok (.goto (-55), 3) := dk_167 255 201 (dk_at dksX3_depthOf_3 0 rfl rfl)
theorem dX3_depthOf_75 : decode cX3_depthOf 75 = .ok (.iload_n 3, 1) := dk_29 (dk_at dksX3_depthOf_3 3 rfl rfl)
theorem dX3_depthOf_76 : decode cX3_depthOf 76 = .ok (.ireturn, 1) := dk_172 (dk_at dksX3_depthOf_3 4 rfl rfl)
abbrev cX3_countOf : ByteArray := prog_11_method_68_code
def yX3_countOf : MethodName := ⟨RX3, "countOf", "(IC)I"⟩
def dkwX3_countOf_2 : List UInt8 := [132, 4, 1, 167, 255, 224, 29, 172]
abbrev dktX3_countOf_2 : List UInt8 := dkwX3_countOf_2 ++ []
def dkwX3_countOf_1 : List UInt8 := [162, 0, 28, 29, 42, 27, 21, 4, 182, 0, 163, 28, 160, 0, 7, 4, 167, 0, 4, 3, 96, 62]
abbrev dktX3_countOf_1 : List UInt8 := dkwX3_countOf_1 ++ dktX3_countOf_2
def dkwX3_countOf_0 : List UInt8 := [42, 27, 182, 0, 169, 153, 0, 5, 3, 172, 3, 62, 3, 54, 4, 21, 4, 42, 27, 182, 0, 179]
abbrev dktX3_countOf_0 : List UInt8 := dkwX3_countOf_0 ++ dktX3_countOf_1
theorem dksX3_countOf_0 : cX3_countOf.data.toList.drop 0 = dktX3_countOf_0 := by decide +kernel
theorem dksX3_countOf_1 : cX3_countOf.data.toList.drop 22 = dktX3_countOf_1 := dk_seg dksX3_countOf_0 22 rfl rfl
theorem dksX3_countOf_2 : cX3_countOf.data.toList.drop 44 = dktX3_countOf_2 := dk_seg dksX3_countOf_1 22 rfl rfl
theorem dX3_countOf_0 : decode cX3_countOf 0 = .ok (.aload_n 0, 1) := dk_42 (dk_at dksX3_countOf_0 0 rfl rfl)
theorem dX3_countOf_1 : decode cX3_countOf 1 = .ok (.iload_n 1, 1) := dk_27 (dk_at dksX3_countOf_0 1 rfl rfl)
theorem dX3_countOf_2 : decode cX3_countOf 2 = .ok (.invokevirtual 169, 3) := dk_182 0 169 (dk_at dksX3_countOf_0 2 rfl rfl)
theorem dX3_countOf_5 : decode cX3_countOf 5 = .ok (.ifCond .eq 5, 3) := dk_153 0 5 (dk_at dksX3_countOf_0 5 rfl rfl)
theorem dX3_countOf_8 : decode cX3_countOf 8 = .ok (.iconst 0, 1) := dk_3 (dk_at dksX3_countOf_0 8 rfl rfl)
theorem dX3_countOf_9 : decode cX3_countOf 9 = .ok (.ireturn, 1) := dk_172 (dk_at dksX3_countOf_0 9 rfl rfl)
theorem dX3_countOf_10 : decode cX3_countOf 10 = .ok (.iconst 0, 1) := dk_3 (dk_at dksX3_countOf_0 10 rfl rfl)
theorem dX3_countOf_11 : decode cX3_countOf 11 = .ok (.istore_n 3, 1) := dk_62 (dk_at dksX3_countOf_0 11 rfl rfl)
theorem dX3_countOf_12 : decode cX3_countOf 12 = .ok (.iconst 0, 1) := dk_3 (dk_at dksX3_countOf_0 12 rfl rfl)
theorem dX3_countOf_13 : decode cX3_countOf 13 = .ok (.istore 4, 2) := dk_54 4 (dk_at dksX3_countOf_0 13 rfl rfl)
theorem dX3_countOf_15 : decode cX3_countOf 15 = .ok (.iload 4, 2) := dk_21 4 (dk_at dksX3_countOf_0 15 rfl rfl)
theorem dX3_countOf_17 : decode cX3_countOf 17 = .ok (.aload_n 0, 1) := dk_42 (dk_at dksX3_countOf_0 17 rfl rfl)
theorem dX3_countOf_18 : decode cX3_countOf 18 = .ok (.iload_n 1, 1) := dk_27 (dk_at dksX3_countOf_0 18 rfl rfl)
theorem dX3_countOf_19 : decode cX3_countOf 19 = .ok (.invokevirtual 179, 3) := dk_182 0 179 (dk_at dksX3_countOf_0 19 rfl rfl)
theorem dX3_countOf_22 : decode cX3_countOf 22 = .ok (.if_icmp .ge 28, 3) := dk_162 0 28 (dk_at dksX3_countOf_1 0 rfl rfl)
theorem dX3_countOf_25 : decode cX3_countOf 25 = .ok (.iload_n 3, 1) := dk_29 (dk_at dksX3_countOf_1 3 rfl rfl)
theorem dX3_countOf_26 : decode cX3_countOf 26 = .ok (.aload_n 0, 1) := dk_42 (dk_at dksX3_countOf_1 4 rfl rfl)
theorem dX3_countOf_27 : decode cX3_countOf 27 = .ok (.iload_n 1, 1) := dk_27 (dk_at dksX3_countOf_1 5 rfl rfl)
theorem dX3_countOf_28 : decode cX3_countOf 28 = .ok (.iload 4, 2) := dk_21 4 (dk_at dksX3_countOf_1 6 rfl rfl)
theorem dX3_countOf_30 : decode cX3_countOf 30 = .ok (.invokevirtual 163, 3) := dk_182 0 163 (dk_at dksX3_countOf_1 8 rfl rfl)
theorem dX3_countOf_33 : decode cX3_countOf 33 = .ok (.iload_n 2, 1) := dk_28 (dk_at dksX3_countOf_1 11 rfl rfl)
theorem dX3_countOf_34 : decode cX3_countOf 34 = .ok (.if_icmp .ne 7, 3) := dk_160 0 7 (dk_at dksX3_countOf_1 12 rfl rfl)
theorem dX3_countOf_37 : decode cX3_countOf 37 = .ok (.iconst 1, 1) := dk_4 (dk_at dksX3_countOf_1 15 rfl rfl)
theorem dX3_countOf_38 : decode cX3_countOf 38 = .ok (.goto 4, 3) := dk_167 0 4 (dk_at dksX3_countOf_1 16 rfl rfl)
theorem dX3_countOf_41 : decode cX3_countOf 41 = .ok (.iconst 0, 1) := dk_3 (dk_at dksX3_countOf_1 19 rfl rfl)
theorem dX3_countOf_42 : decode cX3_countOf 42 = .ok (.iadd, 1) := dk_96 (dk_at dksX3_countOf_1 20 rfl rfl)
theorem dX3_countOf_43 : decode cX3_countOf 43 = .ok (.istore_n 3, 1) := dk_62 (dk_at dksX3_countOf_1 21 rfl rfl)
theorem dX3_countOf_44 : decode cX3_countOf 44 = .ok (.iinc 4 1, 3) := dk_132 4 1 (dk_at dksX3_countOf_2 0 rfl rfl)
theorem dX3_countOf_47 : decode cX3_countOf 47 = .ok (.goto (-32), 3) := dk_167 255 224 (dk_at dksX3_countOf_2 3 rfl rfl)
theorem dX3_countOf_50 : decode cX3_countOf 50 = .ok (.iload_n 3, 1) := dk_29 (dk_at dksX3_countOf_2 6 rfl rfl)
theorem dX3_countOf_51 : decode cX3_countOf 51 = .ok (.ireturn, 1) := dk_172 (dk_at dksX3_countOf_2 7 rfl rfl)
abbrev cX3_areAlike : ByteArray := prog_11_method_69_code
def yX3_areAlike : MethodName := ⟨RX3, "areAlike", "(II)Z"⟩
def dkwX3_areAlike_4 : List UInt8 := [167, 255, 216, 29, 172]
abbrev dktX3_areAlike_4 : List UInt8 := dkwX3_areAlike_4 ++ []
def dkwX3_areAlike_3 : List UInt8 := [21, 4, 182, 0, 163, 42, 28, 21, 4, 182, 0, 163, 160, 0, 7, 4, 167, 0, 4, 3, 62, 132, 4, 1]
abbrev dktX3_areAlike_3 : List UInt8 := dkwX3_areAlike_3 ++ dktX3_areAlike_4
def dkwX3_areAlike_2 : List UInt8 := [167, 0, 4, 3, 62, 3, 54, 4, 21, 4, 42, 27, 182, 0, 179, 162, 0, 36, 29, 153, 0, 32, 42, 27]
abbrev dktX3_areAlike_2 : List UInt8 := dkwX3_areAlike_2 ++ dktX3_areAlike_3
def dkwX3_areAlike_1 : List UInt8 := [182, 0, 70, 153, 0, 5, 3, 172, 42, 27, 182, 0, 179, 42, 28, 182, 0, 179, 160, 0, 7, 4]
abbrev dktX3_areAlike_1 : List UInt8 := dkwX3_areAlike_1 ++ dktX3_areAlike_2
def dkwX3_areAlike_0 : List UInt8 := [42, 42, 27, 182, 0, 151, 153, 0, 15, 42, 28, 182, 0, 151, 153, 0, 7, 3, 167, 0, 4, 4]
abbrev dktX3_areAlike_0 : List UInt8 := dkwX3_areAlike_0 ++ dktX3_areAlike_1
theorem dksX3_areAlike_0 : cX3_areAlike.data.toList.drop 0 = dktX3_areAlike_0 := by decide +kernel
theorem dksX3_areAlike_1 : cX3_areAlike.data.toList.drop 22 = dktX3_areAlike_1 := dk_seg dksX3_areAlike_0 22 rfl rfl
theorem dksX3_areAlike_2 : cX3_areAlike.data.toList.drop 44 = dktX3_areAlike_2 := dk_seg dksX3_areAlike_1 22 rfl rfl
theorem dksX3_areAlike_3 : cX3_areAlike.data.toList.drop 68 = dktX3_areAlike_3 := dk_seg dksX3_areAlike_2 24 rfl rfl
theorem dksX3_areAlike_4 : cX3_areAlike.data.toList.drop 92 = dktX3_areAlike_4 := dk_seg dksX3_areAlike_3 24 rfl rfl
theorem dX3_areAlike_0 : decode cX3_areAlike 0 = .ok (.aload_n 0, 1) := dk_42 (dk_at dksX3_areAlike_0 0 rfl rfl)
theorem dX3_areAlike_1 : decode cX3_areAlike 1 = .ok (.aload_n 0, 1) := dk_42 (dk_at dksX3_areAlike_0 1 rfl rfl)
theorem dX3_areAlike_2 : decode cX3_areAlike 2 = .ok (.iload_n 1, 1) := dk_27 (dk_at dksX3_areAlike_0 2 rfl rfl)
theorem dX3_areAlike_3 : decode cX3_areAlike 3 = .ok (.invokevirtual 151, 3) := dk_182 0 151 (dk_at dksX3_areAlike_0 3 rfl rfl)
theorem dX3_areAlike_6 : decode cX3_areAlike 6 = .ok (.ifCond .eq 15, 3) := dk_153 0 15 (dk_at dksX3_areAlike_0 6 rfl rfl)
theorem dX3_areAlike_9 : decode cX3_areAlike 9 = .ok (.aload_n 0, 1) := dk_42 (dk_at dksX3_areAlike_0 9 rfl rfl)
theorem dX3_areAlike_10 : decode cX3_areAlike 10 = .ok (.iload_n 2, 1) := dk_28 (dk_at dksX3_areAlike_0 10 rfl rfl)
theorem dX3_areAlike_11 : decode cX3_areAlike 11 = .ok (.invokevirtual 151, 3) := dk_182 0 151 (dk_at dksX3_areAlike_0 11 rfl rfl)
theorem dX3_areAlike_14 : decode cX3_areAlike 14 = .ok (.ifCond .eq 7, 3) := dk_153 0 7 (dk_at dksX3_areAlike_0 14 rfl rfl)
theorem dX3_areAlike_17 : decode cX3_areAlike 17 = .ok (.iconst 0, 1) := dk_3 (dk_at dksX3_areAlike_0 17 rfl rfl)
theorem dX3_areAlike_18 : decode cX3_areAlike 18 = .ok (.goto 4, 3) := dk_167 0 4 (dk_at dksX3_areAlike_0 18 rfl rfl)
theorem dX3_areAlike_21 : decode cX3_areAlike 21 = .ok (.iconst 1, 1) := dk_4 (dk_at dksX3_areAlike_0 21 rfl rfl)
theorem dX3_areAlike_22 : decode cX3_areAlike 22 = .ok (.invokevirtual 70, 3) := dk_182 0 70 (dk_at dksX3_areAlike_1 0 rfl rfl)
theorem dX3_areAlike_25 : decode cX3_areAlike 25 = .ok (.ifCond .eq 5, 3) := dk_153 0 5 (dk_at dksX3_areAlike_1 3 rfl rfl)
theorem dX3_areAlike_28 : decode cX3_areAlike 28 = .ok (.iconst 0, 1) := dk_3 (dk_at dksX3_areAlike_1 6 rfl rfl)
theorem dX3_areAlike_29 : decode cX3_areAlike 29 = .ok (.ireturn, 1) := dk_172 (dk_at dksX3_areAlike_1 7 rfl rfl)
theorem dX3_areAlike_30 : decode cX3_areAlike 30 = .ok (.aload_n 0, 1) := dk_42 (dk_at dksX3_areAlike_1 8 rfl rfl)
theorem dX3_areAlike_31 : decode cX3_areAlike 31 = .ok (.iload_n 1, 1) := dk_27 (dk_at dksX3_areAlike_1 9 rfl rfl)
theorem dX3_areAlike_32 : decode cX3_areAlike 32 = .ok (.invokevirtual 179, 3) := dk_182 0 179 (dk_at dksX3_areAlike_1 10 rfl rfl)
theorem dX3_areAlike_35 : decode cX3_areAlike 35 = .ok (.aload_n 0, 1) := dk_42 (dk_at dksX3_areAlike_1 13 rfl rfl)
theorem dX3_areAlike_36 : decode cX3_areAlike 36 = .ok (.iload_n 2, 1) := dk_28 (dk_at dksX3_areAlike_1 14 rfl rfl)
theorem dX3_areAlike_37 : decode cX3_areAlike 37 = .ok (.invokevirtual 179, 3) := dk_182 0 179 (dk_at dksX3_areAlike_1 15 rfl rfl)
theorem dX3_areAlike_40 : decode cX3_areAlike 40 = .ok (.if_icmp .ne 7, 3) := dk_160 0 7 (dk_at dksX3_areAlike_1 18 rfl rfl)
theorem dX3_areAlike_43 : decode cX3_areAlike 43 = .ok (.iconst 1, 1) := dk_4 (dk_at dksX3_areAlike_1 21 rfl rfl)
theorem dX3_areAlike_44 : decode cX3_areAlike 44 = .ok (.goto 4, 3) := dk_167 0 4 (dk_at dksX3_areAlike_2 0 rfl rfl)
theorem dX3_areAlike_47 : decode cX3_areAlike 47 = .ok (.iconst 0, 1) := dk_3 (dk_at dksX3_areAlike_2 3 rfl rfl)
theorem dX3_areAlike_48 : decode cX3_areAlike 48 = .ok (.istore_n 3, 1) := dk_62 (dk_at dksX3_areAlike_2 4 rfl rfl)
theorem dX3_areAlike_49 : decode cX3_areAlike 49 = .ok (.iconst 0, 1) := dk_3 (dk_at dksX3_areAlike_2 5 rfl rfl)
theorem dX3_areAlike_50 : decode cX3_areAlike 50 = .ok (.istore 4, 2) := dk_54 4 (dk_at dksX3_areAlike_2 6 rfl rfl)
theorem dX3_areAlike_52 : decode cX3_areAlike 52 = .ok (.iload 4, 2) := dk_21 4 (dk_at dksX3_areAlike_2 8 rfl rfl)
theorem dX3_areAlike_54 : decode cX3_areAlike 54 = .ok (.aload_n 0, 1) := dk_42 (dk_at dksX3_areAlike_2 10 rfl rfl)
theorem dX3_areAlike_55 : decode cX3_areAlike 55 = .ok (.iload_n 1, 1) := dk_27 (dk_at dksX3_areAlike_2 11 rfl rfl)
theorem dX3_areAlike_56 : decode cX3_areAlike 56 = .ok (.invokevirtual 179, 3) := dk_182 0 179 (dk_at dksX3_areAlike_2 12 rfl rfl)
theorem dX3_areAlike_59 : decode cX3_areAlike 59 = .ok (.if_icmp .ge 36, 3) := dk_162 0 36 (dk_at dksX3_areAlike_2 15 rfl rfl)
theorem dX3_areAlike_62 : decode cX3_areAlike 62 = .ok (.iload_n 3, 1) := dk_29 (dk_at dksX3_areAlike_2 18 rfl rfl)
theorem dX3_areAlike_63 : decode cX3_areAlike 63 = .ok (.ifCond .eq 32, 3) := dk_153 0 32 (dk_at dksX3_areAlike_2 19 rfl rfl)
theorem dX3_areAlike_66 : decode cX3_areAlike 66 = .ok (.aload_n 0, 1) := dk_42 (dk_at dksX3_areAlike_2 22 rfl rfl)
theorem dX3_areAlike_67 : decode cX3_areAlike 67 = .ok (.iload_n 1, 1) := dk_27 (dk_at dksX3_areAlike_2 23 rfl rfl)
theorem dX3_areAlike_68 : decode cX3_areAlike 68 = .ok (.iload 4, 2) := dk_21 4 (dk_at dksX3_areAlike_3 0 rfl rfl)
theorem dX3_areAlike_70 : decode cX3_areAlike 70 = .ok (.invokevirtual 163, 3) := dk_182 0 163 (dk_at dksX3_areAlike_3 2 rfl rfl)
theorem dX3_areAlike_73 : decode cX3_areAlike 73 = .ok (.aload_n 0, 1) := dk_42 (dk_at dksX3_areAlike_3 5 rfl rfl)
theorem dX3_areAlike_74 : decode cX3_areAlike 74 = .ok (.iload_n 2, 1) := dk_28 (dk_at dksX3_areAlike_3 6 rfl rfl)
theorem dX3_areAlike_75 : decode cX3_areAlike 75 = .ok (.iload 4, 2) := dk_21 4 (dk_at dksX3_areAlike_3 7 rfl rfl)
theorem dX3_areAlike_77 : decode cX3_areAlike 77 = .ok (.invokevirtual 163, 3) := dk_182 0 163 (dk_at dksX3_areAlike_3 9 rfl rfl)
theorem dX3_areAlike_80 : decode cX3_areAlike 80 = .ok (.if_icmp .ne 7, 3) := dk_160 0 7 (dk_at dksX3_areAlike_3 12 rfl rfl)
theorem dX3_areAlike_83 : decode cX3_areAlike 83 = .ok (.iconst 1, 1) := dk_4 (dk_at dksX3_areAlike_3 15 rfl rfl)
theorem dX3_areAlike_84 : decode cX3_areAlike 84 = .ok (.goto 4, 3) := dk_167 0 4 (dk_at dksX3_areAlike_3 16 rfl rfl)
theorem dX3_areAlike_87 : decode cX3_areAlike 87 = .ok (.iconst 0, 1) := dk_3 (dk_at dksX3_areAlike_3 19 rfl rfl)
theorem dX3_areAlike_88 : decode cX3_areAlike 88 = .ok (.istore_n 3, 1) := dk_62 (dk_at dksX3_areAlike_3 20 rfl rfl)
theorem dX3_areAlike_89 : decode cX3_areAlike 89 = .ok (.iinc 4 1, 3) := dk_132 4 1 (dk_at dksX3_areAlike_3 21 rfl rfl)
theorem dX3_areAlike_92 : decode cX3_areAlike 92 = .ok (.goto (-40), 3) := dk_167 255 216 (dk_at dksX3_areAlike_4 0 rfl rfl)
theorem dX3_areAlike_95 : decode cX3_areAlike 95 = .ok (.iload_n 3, 1) := dk_29 (dk_at dksX3_areAlike_4 3 rfl rfl)
theorem dX3_areAlike_96 : decode cX3_areAlike 96 = .ok (.ireturn, 1) := dk_172 (dk_at dksX3_areAlike_4 4 rfl rfl)
abbrev cX3_requestByValue : ByteArray := prog_11_method_70_code
def yX3_requestByValue : MethodName := ⟨RX3, "requestByValue", "(I)I"⟩
def dkwX3_requestByValue_4 : List UInt8 := [167, 255, 164, 42, 4, 181, 0, 52, 3, 172]
abbrev dktX3_requestByValue_4 : List UInt8 := dkwX3_requestByValue_4 ++ []
def dkwX3_requestByValue_3 : List UInt8 := [132, 4, 1, 167, 255, 200, 29, 27, 159, 0, 6, 167, 0, 10, 42, 3, 181, 0, 52, 28, 172, 132, 2, 1]
abbrev dktX3_requestByValue_3 : List UInt8 := dkwX3_requestByValue_3 ++ dktX3_requestByValue_4
def dkwX3_requestByValue_2 : List UInt8 := [182, 0, 172, 42, 28, 182, 0, 172, 160, 0, 13, 21, 4, 28, 162, 0, 7, 4, 167, 0, 4, 3, 96, 62]
abbrev dktX3_requestByValue_2 : List UInt8 := dkwX3_requestByValue_2 ++ dktX3_requestByValue_3
def dkwX3_requestByValue_1 : List UInt8 := [46, 162, 0, 51, 29, 42, 21, 4, 182, 0, 172, 42, 28, 182, 0, 172, 163, 0, 23, 42, 21, 4]
abbrev dktX3_requestByValue_1 : List UInt8 := dkwX3_requestByValue_1 ++ dktX3_requestByValue_2
def dkwX3_requestByValue_0 : List UInt8 := [3, 61, 28, 42, 180, 0, 7, 4, 46, 162, 0, 88, 3, 62, 3, 54, 4, 21, 4, 42, 180, 0, 7, 4]
abbrev dktX3_requestByValue_0 : List UInt8 := dkwX3_requestByValue_0 ++ dktX3_requestByValue_1
theorem dksX3_requestByValue_0 : cX3_requestByValue.data.toList.drop 0 = dktX3_requestByValue_0 := by decide +kernel
theorem dksX3_requestByValue_1 : cX3_requestByValue.data.toList.drop 24 = dktX3_requestByValue_1 := dk_seg dksX3_requestByValue_0 24 rfl rfl
theorem dksX3_requestByValue_2 : cX3_requestByValue.data.toList.drop 46 = dktX3_requestByValue_2 := dk_seg dksX3_requestByValue_1 22 rfl rfl
theorem dksX3_requestByValue_3 : cX3_requestByValue.data.toList.drop 70 = dktX3_requestByValue_3 := dk_seg dksX3_requestByValue_2 24 rfl rfl
theorem dksX3_requestByValue_4 : cX3_requestByValue.data.toList.drop 94 = dktX3_requestByValue_4 := dk_seg dksX3_requestByValue_3 24 rfl rfl
theorem dX3_requestByValue_0 : decode cX3_requestByValue 0 = .ok (.iconst 0, 1) := dk_3 (dk_at dksX3_requestByValue_0 0 rfl rfl)
theorem dX3_requestByValue_1 : decode cX3_requestByValue 1 = .ok (.istore_n 2, 1) := dk_61 (dk_at dksX3_requestByValue_0 1 rfl rfl)
theorem dX3_requestByValue_2 : decode cX3_requestByValue 2 = .ok (.iload_n 2, 1) := dk_28 (dk_at dksX3_requestByValue_0 2 rfl rfl)
theorem dX3_requestByValue_3 : decode cX3_requestByValue 3 = .ok (.aload_n 0, 1) := dk_42 (dk_at dksX3_requestByValue_0 3 rfl rfl)
theorem dX3_requestByValue_4 : decode cX3_requestByValue 4 = .ok (.getfield 7, 3) := dk_180 0 7 (dk_at dksX3_requestByValue_0 4 rfl rfl)
theorem dX3_requestByValue_7 : decode cX3_requestByValue 7 = .ok (.iconst 1, 1) := dk_4 (dk_at dksX3_requestByValue_0 7 rfl rfl)
theorem dX3_requestByValue_8 : decode cX3_requestByValue 8 = .ok (.iaload, 1) := dk_46 (dk_at dksX3_requestByValue_0 8 rfl rfl)
theorem dX3_requestByValue_9 : decode cX3_requestByValue 9 = .ok (.if_icmp .ge 88, 3) := dk_162 0 88 (dk_at dksX3_requestByValue_0 9 rfl rfl)
theorem dX3_requestByValue_12 : decode cX3_requestByValue 12 = .ok (.iconst 0, 1) := dk_3 (dk_at dksX3_requestByValue_0 12 rfl rfl)
theorem dX3_requestByValue_13 : decode cX3_requestByValue 13 = .ok (.istore_n 3, 1) := dk_62 (dk_at dksX3_requestByValue_0 13 rfl rfl)
theorem dX3_requestByValue_14 : decode cX3_requestByValue 14 = .ok (.iconst 0, 1) := dk_3 (dk_at dksX3_requestByValue_0 14 rfl rfl)
theorem dX3_requestByValue_15 : decode cX3_requestByValue 15 = .ok (.istore 4, 2) := dk_54 4 (dk_at dksX3_requestByValue_0 15 rfl rfl)
theorem dX3_requestByValue_17 : decode cX3_requestByValue 17 = .ok (.iload 4, 2) := dk_21 4 (dk_at dksX3_requestByValue_0 17 rfl rfl)
theorem dX3_requestByValue_19 : decode cX3_requestByValue 19 = .ok (.aload_n 0, 1) := dk_42 (dk_at dksX3_requestByValue_0 19 rfl rfl)
theorem dX3_requestByValue_20 : decode cX3_requestByValue 20 = .ok (.getfield 7, 3) := dk_180 0 7 (dk_at dksX3_requestByValue_0 20 rfl rfl)
theorem dX3_requestByValue_23 : decode cX3_requestByValue 23 = .ok (.iconst 1, 1) := dk_4 (dk_at dksX3_requestByValue_0 23 rfl rfl)
theorem dX3_requestByValue_24 : decode cX3_requestByValue 24 = .ok (.iaload, 1) := dk_46 (dk_at dksX3_requestByValue_1 0 rfl rfl)
theorem dX3_requestByValue_25 : decode cX3_requestByValue 25 = .ok (.if_icmp .ge 51, 3) := dk_162 0 51 (dk_at dksX3_requestByValue_1 1 rfl rfl)
theorem dX3_requestByValue_28 : decode cX3_requestByValue 28 = .ok (.iload_n 3, 1) := dk_29 (dk_at dksX3_requestByValue_1 4 rfl rfl)
theorem dX3_requestByValue_29 : decode cX3_requestByValue 29 = .ok (.aload_n 0, 1) := dk_42 (dk_at dksX3_requestByValue_1 5 rfl rfl)
theorem dX3_requestByValue_30 : decode cX3_requestByValue 30 = .ok (.iload 4, 2) := dk_21 4 (dk_at dksX3_requestByValue_1 6 rfl rfl)
theorem dX3_requestByValue_32 : decode cX3_requestByValue 32 = .ok (.invokevirtual 172, 3) := dk_182 0 172 (dk_at dksX3_requestByValue_1 8 rfl rfl)
theorem dX3_requestByValue_35 : decode cX3_requestByValue 35 = .ok (.aload_n 0, 1) := dk_42 (dk_at dksX3_requestByValue_1 11 rfl rfl)
theorem dX3_requestByValue_36 : decode cX3_requestByValue 36 = .ok (.iload_n 2, 1) := dk_28 (dk_at dksX3_requestByValue_1 12 rfl rfl)
theorem dX3_requestByValue_37 : decode cX3_requestByValue 37 = .ok (.invokevirtual 172, 3) := dk_182 0 172 (dk_at dksX3_requestByValue_1 13 rfl rfl)
theorem dX3_requestByValue_40 : decode cX3_requestByValue 40 = .ok (.if_icmp .gt 23, 3) := dk_163 0 23 (dk_at dksX3_requestByValue_1 16 rfl rfl)
theorem dX3_requestByValue_43 : decode cX3_requestByValue 43 = .ok (.aload_n 0, 1) := dk_42 (dk_at dksX3_requestByValue_1 19 rfl rfl)
theorem dX3_requestByValue_44 : decode cX3_requestByValue 44 = .ok (.iload 4, 2) := dk_21 4 (dk_at dksX3_requestByValue_1 20 rfl rfl)
theorem dX3_requestByValue_46 : decode cX3_requestByValue 46 = .ok (.invokevirtual 172, 3) := dk_182 0 172 (dk_at dksX3_requestByValue_2 0 rfl rfl)
theorem dX3_requestByValue_49 : decode cX3_requestByValue 49 = .ok (.aload_n 0, 1) := dk_42 (dk_at dksX3_requestByValue_2 3 rfl rfl)
theorem dX3_requestByValue_50 : decode cX3_requestByValue 50 = .ok (.iload_n 2, 1) := dk_28 (dk_at dksX3_requestByValue_2 4 rfl rfl)
theorem dX3_requestByValue_51 : decode cX3_requestByValue 51 = .ok (.invokevirtual 172, 3) := dk_182 0 172 (dk_at dksX3_requestByValue_2 5 rfl rfl)
theorem dX3_requestByValue_54 : decode cX3_requestByValue 54 = .ok (.if_icmp .ne 13, 3) := dk_160 0 13 (dk_at dksX3_requestByValue_2 8 rfl rfl)
theorem dX3_requestByValue_57 : decode cX3_requestByValue 57 = .ok (.iload 4, 2) := dk_21 4 (dk_at dksX3_requestByValue_2 11 rfl rfl)
theorem dX3_requestByValue_59 : decode cX3_requestByValue 59 = .ok (.iload_n 2, 1) := dk_28 (dk_at dksX3_requestByValue_2 13 rfl rfl)
theorem dX3_requestByValue_60 : decode cX3_requestByValue 60 = .ok (.if_icmp .ge 7, 3) := dk_162 0 7 (dk_at dksX3_requestByValue_2 14 rfl rfl)
theorem dX3_requestByValue_63 : decode cX3_requestByValue 63 = .ok (.iconst 1, 1) := dk_4 (dk_at dksX3_requestByValue_2 17 rfl rfl)
theorem dX3_requestByValue_64 : decode cX3_requestByValue 64 = .ok (.goto 4, 3) := dk_167 0 4 (dk_at dksX3_requestByValue_2 18 rfl rfl)
theorem dX3_requestByValue_67 : decode cX3_requestByValue 67 = .ok (.iconst 0, 1) := dk_3 (dk_at dksX3_requestByValue_2 21 rfl rfl)
theorem dX3_requestByValue_68 : decode cX3_requestByValue 68 = .ok (.iadd, 1) := dk_96 (dk_at dksX3_requestByValue_2 22 rfl rfl)
theorem dX3_requestByValue_69 : decode cX3_requestByValue 69 = .ok (.istore_n 3, 1) := dk_62 (dk_at dksX3_requestByValue_2 23 rfl rfl)
theorem dX3_requestByValue_70 : decode cX3_requestByValue 70 = .ok (.iinc 4 1, 3) := dk_132 4 1 (dk_at dksX3_requestByValue_3 0 rfl rfl)
theorem dX3_requestByValue_73 : decode cX3_requestByValue 73 = .ok (.goto (-56), 3) := dk_167 255 200 (dk_at dksX3_requestByValue_3 3 rfl rfl)
theorem dX3_requestByValue_76 : decode cX3_requestByValue 76 = .ok (.iload_n 3, 1) := dk_29 (dk_at dksX3_requestByValue_3 6 rfl rfl)
theorem dX3_requestByValue_77 : decode cX3_requestByValue 77 = .ok (.iload_n 1, 1) := dk_27 (dk_at dksX3_requestByValue_3 7 rfl rfl)
theorem dX3_requestByValue_78 : decode cX3_requestByValue 78 = .ok (.if_icmp .eq 6, 3) := dk_159 0 6 (dk_at dksX3_requestByValue_3 8 rfl rfl)
theorem dX3_requestByValue_81 : decode cX3_requestByValue 81 = .ok (.goto 10, 3) := dk_167 0 10 (dk_at dksX3_requestByValue_3 11 rfl rfl)
theorem dX3_requestByValue_84 : decode cX3_requestByValue 84 = .ok (.aload_n 0, 1) := dk_42 (dk_at dksX3_requestByValue_3 14 rfl rfl)
theorem dX3_requestByValue_85 : decode cX3_requestByValue 85 = .ok (.iconst 0, 1) := dk_3 (dk_at dksX3_requestByValue_3 15 rfl rfl)
theorem dX3_requestByValue_86 : decode cX3_requestByValue 86 = .ok (.putfield 52, 3) := dk_181 0 52 (dk_at dksX3_requestByValue_3 16 rfl rfl)
theorem dX3_requestByValue_89 : decode cX3_requestByValue 89 = .ok (.iload_n 2, 1) := dk_28 (dk_at dksX3_requestByValue_3 19 rfl rfl)
theorem dX3_requestByValue_90 : decode cX3_requestByValue 90 = .ok (.ireturn, 1) := dk_172 (dk_at dksX3_requestByValue_3 20 rfl rfl)
theorem dX3_requestByValue_91 : decode cX3_requestByValue 91 = .ok (.iinc 2 1, 3) := dk_132 2 1 (dk_at dksX3_requestByValue_3 21 rfl rfl)
theorem dX3_requestByValue_94 : decode cX3_requestByValue 94 = .ok (.goto (-92), 3) := dk_167 255 164 (dk_at dksX3_requestByValue_4 0 rfl rfl)
theorem dX3_requestByValue_97 : decode cX3_requestByValue 97 = .ok (.aload_n 0, 1) := dk_42 (dk_at dksX3_requestByValue_4 3 rfl rfl)
theorem dX3_requestByValue_98 : decode cX3_requestByValue 98 = .ok (.iconst 1, 1) := dk_4 (dk_at dksX3_requestByValue_4 4 rfl rfl)
theorem dX3_requestByValue_99 : decode cX3_requestByValue 99 = .ok (.putfield 52, 3) := dk_181 0 52 (dk_at dksX3_requestByValue_4 5 rfl rfl)
theorem dX3_requestByValue_102 : decode cX3_requestByValue 102 = .ok (.iconst 0, 1) := dk_3 (dk_at dksX3_requestByValue_4 8 rfl rfl)
theorem dX3_requestByValue_103 : decode cX3_requestByValue 103 = .ok (.ireturn, 1) := dk_172 (dk_at dksX3_requestByValue_4 9 rfl rfl)
abbrev cX3_setWidth : ByteArray := prog_11_method_72_code
def yX3_setWidth : MethodName := ⟨RX3, "setWidth", "(I)I"⟩
def dkwX3_setWidth_1 : List UInt8 := [172, 42, 180, 0, 7, 5, 46, 61, 42, 182, 0, 77, 42, 180, 0, 7, 5, 27, 79, 28, 172]
abbrev dktX3_setWidth_1 : List UInt8 := dkwX3_setWidth_1 ++ []
def dkwX3_setWidth_0 : List UInt8 := [42, 27, 16, 8, 16, 60, 184, 0, 62, 153, 0, 7, 3, 167, 0, 4, 4, 182, 0, 70, 153, 0, 5, 3]
abbrev dktX3_setWidth_0 : List UInt8 := dkwX3_setWidth_0 ++ dktX3_setWidth_1
theorem dksX3_setWidth_0 : cX3_setWidth.data.toList.drop 0 = dktX3_setWidth_0 := by decide +kernel
theorem dksX3_setWidth_1 : cX3_setWidth.data.toList.drop 24 = dktX3_setWidth_1 := dk_seg dksX3_setWidth_0 24 rfl rfl
theorem dX3_setWidth_0 : decode cX3_setWidth 0 = .ok (.aload_n 0, 1) := dk_42 (dk_at dksX3_setWidth_0 0 rfl rfl)
theorem dX3_setWidth_1 : decode cX3_setWidth 1 = .ok (.iload_n 1, 1) := dk_27 (dk_at dksX3_setWidth_0 1 rfl rfl)
theorem dX3_setWidth_2 : decode cX3_setWidth 2 = .ok (.bipush 8, 2) := dk_16 8 (dk_at dksX3_setWidth_0 2 rfl rfl)
theorem dX3_setWidth_4 : decode cX3_setWidth 4 = .ok (.bipush 60, 2) := dk_16 60 (dk_at dksX3_setWidth_0 4 rfl rfl)
theorem dX3_setWidth_6 : decode cX3_setWidth 6 = .ok (.invokestatic 62, 3) := dk_184 0 62 (dk_at dksX3_setWidth_0 6 rfl rfl)
theorem dX3_setWidth_9 : decode cX3_setWidth 9 = .ok (.ifCond .eq 7, 3) := dk_153 0 7 (dk_at dksX3_setWidth_0 9 rfl rfl)
theorem dX3_setWidth_12 : decode cX3_setWidth 12 = .ok (.iconst 0, 1) := dk_3 (dk_at dksX3_setWidth_0 12 rfl rfl)
theorem dX3_setWidth_13 : decode cX3_setWidth 13 = .ok (.goto 4, 3) := dk_167 0 4 (dk_at dksX3_setWidth_0 13 rfl rfl)
theorem dX3_setWidth_16 : decode cX3_setWidth 16 = .ok (.iconst 1, 1) := dk_4 (dk_at dksX3_setWidth_0 16 rfl rfl)
theorem dX3_setWidth_17 : decode cX3_setWidth 17 = .ok (.invokevirtual 70, 3) := dk_182 0 70 (dk_at dksX3_setWidth_0 17 rfl rfl)
theorem dX3_setWidth_20 : decode cX3_setWidth 20 = .ok (.ifCond .eq 5, 3) := dk_153 0 5 (dk_at dksX3_setWidth_0 20 rfl rfl)
theorem dX3_setWidth_23 : decode cX3_setWidth 23 = .ok (.iconst 0, 1) := dk_3 (dk_at dksX3_setWidth_0 23 rfl rfl)
theorem dX3_setWidth_24 : decode cX3_setWidth 24 = .ok (.ireturn, 1) := dk_172 (dk_at dksX3_setWidth_1 0 rfl rfl)
theorem dX3_setWidth_25 : decode cX3_setWidth 25 = .ok (.aload_n 0, 1) := dk_42 (dk_at dksX3_setWidth_1 1 rfl rfl)
theorem dX3_setWidth_26 : decode cX3_setWidth 26 = .ok (.getfield 7, 3) := dk_180 0 7 (dk_at dksX3_setWidth_1 2 rfl rfl)
theorem dX3_setWidth_29 : decode cX3_setWidth 29 = .ok (.iconst 2, 1) := dk_5 (dk_at dksX3_setWidth_1 5 rfl rfl)
theorem dX3_setWidth_30 : decode cX3_setWidth 30 = .ok (.iaload, 1) := dk_46 (dk_at dksX3_setWidth_1 6 rfl rfl)
theorem dX3_setWidth_31 : decode cX3_setWidth 31 = .ok (.istore_n 2, 1) := dk_61 (dk_at dksX3_setWidth_1 7 rfl rfl)
theorem dX3_setWidth_32 : decode cX3_setWidth 32 = .ok (.aload_n 0, 1) := dk_42 (dk_at dksX3_setWidth_1 8 rfl rfl)
theorem dX3_setWidth_33 : decode cX3_setWidth 33 = .ok (.invokevirtual 77, 3) := dk_182 0 77 (dk_at dksX3_setWidth_1 9 rfl rfl)
theorem dX3_setWidth_36 : decode cX3_setWidth 36 = .ok (.aload_n 0, 1) := dk_42 (dk_at dksX3_setWidth_1 12 rfl rfl)
theorem dX3_setWidth_37 : decode cX3_setWidth 37 = .ok (.getfield 7, 3) := dk_180 0 7 (dk_at dksX3_setWidth_1 13 rfl rfl)
theorem dX3_setWidth_40 : decode cX3_setWidth 40 = .ok (.iconst 2, 1) := dk_5 (dk_at dksX3_setWidth_1 16 rfl rfl)
theorem dX3_setWidth_41 : decode cX3_setWidth 41 = .ok (.iload_n 1, 1) := dk_27 (dk_at dksX3_setWidth_1 17 rfl rfl)
theorem dX3_setWidth_42 : decode cX3_setWidth 42 = .ok (.iastore, 1) := dk_79 (dk_at dksX3_setWidth_1 18 rfl rfl)
theorem dX3_setWidth_43 : decode cX3_setWidth 43 = .ok (.iload_n 2, 1) := dk_28 (dk_at dksX3_setWidth_1 19 rfl rfl)
theorem dX3_setWidth_44 : decode cX3_setWidth 44 = .ok (.ireturn, 1) := dk_172 (dk_at dksX3_setWidth_1 20 rfl rfl)
abbrev cX3_width : ByteArray := prog_11_method_73_code
def yX3_width : MethodName := ⟨RX3, "width", "()I"⟩
def dkwX3_width_0 : List UInt8 := [42, 3, 181, 0, 52, 42, 180, 0, 7, 5, 46, 172]
abbrev dktX3_width_0 : List UInt8 := dkwX3_width_0 ++ []
theorem dksX3_width_0 : cX3_width.data.toList.drop 0 = dktX3_width_0 := by decide +kernel
theorem dX3_width_0 : decode cX3_width 0 = .ok (.aload_n 0, 1) := dk_42 (dk_at dksX3_width_0 0 rfl rfl)
theorem dX3_width_1 : decode cX3_width 1 = .ok (.iconst 0, 1) := dk_3 (dk_at dksX3_width_0 1 rfl rfl)
theorem dX3_width_2 : decode cX3_width 2 = .ok (.putfield 52, 3) := dk_181 0 52 (dk_at dksX3_width_0 2 rfl rfl)
theorem dX3_width_5 : decode cX3_width 5 = .ok (.aload_n 0, 1) := dk_42 (dk_at dksX3_width_0 5 rfl rfl)
theorem dX3_width_6 : decode cX3_width 6 = .ok (.getfield 7, 3) := dk_180 0 7 (dk_at dksX3_width_0 6 rfl rfl)
theorem dX3_width_9 : decode cX3_width 9 = .ok (.iconst 2, 1) := dk_5 (dk_at dksX3_width_0 9 rfl rfl)
theorem dX3_width_10 : decode cX3_width 10 = .ok (.iaload, 1) := dk_46 (dk_at dksX3_width_0 10 rfl rfl)
theorem dX3_width_11 : decode cX3_width 11 = .ok (.ireturn, 1) := dk_172 (dk_at dksX3_width_0 11 rfl rfl)
abbrev cX3_raggedness : ByteArray := prog_11_method_74_code
def yX3_raggedness : MethodName := ⟨RX3, "raggedness", "()I"⟩
def dkwX3_raggedness_0 : List UInt8 := [42, 4, 182, 0, 183, 153, 0, 7, 3, 167, 0, 9, 42, 180, 0, 46, 3, 46, 172]
abbrev dktX3_raggedness_0 : List UInt8 := dkwX3_raggedness_0 ++ []
theorem dksX3_raggedness_0 : cX3_raggedness.data.toList.drop 0 = dktX3_raggedness_0 := by decide +kernel
theorem dX3_raggedness_0 : decode cX3_raggedness 0 = .ok (.aload_n 0, 1) := dk_42 (dk_at dksX3_raggedness_0 0 rfl rfl)
theorem dX3_raggedness_1 : decode cX3_raggedness 1 = .ok (.iconst 1, 1) := dk_4 (dk_at dksX3_raggedness_0 1 rfl rfl)
theorem dX3_raggedness_2 : decode cX3_raggedness 2 = .ok (.invokevirtual 183, 3) := dk_182 0 183 (dk_at dksX3_raggedness_0 2 rfl rfl)
theorem dX3_raggedness_5 : decode cX3_raggedness 5 = .ok (.ifCond .eq 7, 3) := dk_153 0 7 (dk_at dksX3_raggedness_0 5 rfl rfl)
theorem dX3_raggedness_8 : decode cX3_raggedness 8 = .ok (.iconst 0, 1) := dk_3 (dk_at dksX3_raggedness_0 8 rfl rfl)
theorem dX3_raggedness_9 : decode cX3_raggedness 9 = .ok (.goto 9, 3) := dk_167 0 9 (dk_at dksX3_raggedness_0 9 rfl rfl)
theorem dX3_raggedness_12 : decode cX3_raggedness 12 = .ok (.aload_n 0, 1) := dk_42 (dk_at dksX3_raggedness_0 12 rfl rfl)
theorem dX3_raggedness_13 : decode cX3_raggedness 13 = .ok (.getfield 46, 3) := dk_180 0 46 (dk_at dksX3_raggedness_0 13 rfl rfl)
theorem dX3_raggedness_16 : decode cX3_raggedness 16 = .ok (.iconst 0, 1) := dk_3 (dk_at dksX3_raggedness_0 16 rfl rfl)
theorem dX3_raggedness_17 : decode cX3_raggedness 17 = .ok (.iaload, 1) := dk_46 (dk_at dksX3_raggedness_0 17 rfl rfl)
theorem dX3_raggedness_18 : decode cX3_raggedness 18 = .ok (.ireturn, 1) := dk_172 (dk_at dksX3_raggedness_0 18 rfl rfl)
abbrev cX3_isTooLong : ByteArray := prog_11_method_71_code
def yX3_isTooLong : MethodName := ⟨RX3, "isTooLong", "(I)Z"⟩
def dkwX3_isTooLong_8 : List UInt8 := [21, 4, 79, 132, 4, 1, 167, 255, 146, 132, 2, 255, 167, 255, 121, 3, 172]
abbrev dktX3_isTooLong_8 : List UInt8 := dkwX3_isTooLong_8 ++ []
def dkwX3_isTooLong_7 : List UInt8 := [180, 0, 46, 28, 46, 164, 0, 6, 167, 0, 19, 42, 180, 0, 46, 28, 21, 6, 79, 42, 180, 0, 49, 28]
abbrev dktX3_isTooLong_7 : List UInt8 := dkwX3_isTooLong_7 ++ dktX3_isTooLong_8
def dkwX3_isTooLong_6 : List UInt8 := [3, 167, 0, 16, 21, 5, 21, 5, 104, 42, 180, 0, 46, 21, 4, 46, 96, 54, 6, 21, 6, 42]
abbrev dktX3_isTooLong_6 : List UInt8 := dkwX3_isTooLong_6 ++ dktX3_isTooLong_7
def dkwX3_isTooLong_5 : List UInt8 := [167, 0, 79, 42, 180, 0, 7, 5, 46, 29, 100, 54, 5, 21, 4, 42, 180, 0, 7, 4, 46, 160, 0, 7]
abbrev dktX3_isTooLong_5 : List UInt8 := dkwX3_isTooLong_5 ++ dktX3_isTooLong_6
def dkwX3_isTooLong_4 : List UInt8 := [42, 21, 4, 4, 100, 182, 0, 179, 4, 96, 96, 62, 29, 42, 180, 0, 7, 5, 46, 164, 0, 6]
abbrev dktX3_isTooLong_4 : List UInt8 := dkwX3_isTooLong_4 ++ dktX3_isTooLong_5
def dkwX3_isTooLong_3 : List UInt8 := [180, 0, 46, 28, 18, 182, 79, 28, 4, 96, 54, 4, 21, 4, 42, 180, 0, 7, 4, 46, 163, 0, 105, 29]
abbrev dktX3_isTooLong_3 : List UInt8 := dkwX3_isTooLong_3 ++ dktX3_isTooLong_4
def dkwX3_isTooLong_2 : List UInt8 := [42, 180, 0, 7, 4, 46, 3, 79, 42, 180, 0, 7, 4, 46, 4, 100, 61, 28, 155, 0, 137, 2, 62, 42]
abbrev dktX3_isTooLong_2 : List UInt8 := dkwX3_isTooLong_2 ++ dktX3_isTooLong_3
def dkwX3_isTooLong_1 : List UInt8 := [164, 0, 9, 42, 27, 182, 0, 70, 172, 132, 2, 1, 167, 255, 223, 42, 3, 181, 0, 52, 42, 180, 0, 46]
abbrev dktX3_isTooLong_1 : List UInt8 := dkwX3_isTooLong_1 ++ dktX3_isTooLong_2
def dkwX3_isTooLong_0 : List UInt8 := [3, 61, 28, 42, 180, 0, 7, 4, 46, 162, 0, 29, 42, 28, 182, 0, 179, 42, 180, 0, 7, 5, 46]
abbrev dktX3_isTooLong_0 : List UInt8 := dkwX3_isTooLong_0 ++ dktX3_isTooLong_1
theorem dksX3_isTooLong_0 : cX3_isTooLong.data.toList.drop 0 = dktX3_isTooLong_0 := by decide +kernel
theorem dksX3_isTooLong_1 : cX3_isTooLong.data.toList.drop 23 = dktX3_isTooLong_1 := dk_seg dksX3_isTooLong_0 23 rfl rfl
theorem dksX3_isTooLong_2 : cX3_isTooLong.data.toList.drop 47 = dktX3_isTooLong_2 := dk_seg dksX3_isTooLong_1 24 rfl rfl
theorem dksX3_isTooLong_3 : cX3_isTooLong.data.toList.drop 71 = dktX3_isTooLong_3 := dk_seg dksX3_isTooLong_2 24 rfl rfl
theorem dksX3_isTooLong_4 : cX3_isTooLong.data.toList.drop 95 = dktX3_isTooLong_4 := dk_seg dksX3_isTooLong_3 24 rfl rfl
theorem dksX3_isTooLong_5 : cX3_isTooLong.data.toList.drop 117 = dktX3_isTooLong_5 := dk_seg dksX3_isTooLong_4 22 rfl rfl
theorem dksX3_isTooLong_6 : cX3_isTooLong.data.toList.drop 141 = dktX3_isTooLong_6 := dk_seg dksX3_isTooLong_5 24 rfl rfl
theorem dksX3_isTooLong_7 : cX3_isTooLong.data.toList.drop 163 = dktX3_isTooLong_7 := dk_seg dksX3_isTooLong_6 22 rfl rfl
theorem dksX3_isTooLong_8 : cX3_isTooLong.data.toList.drop 187 = dktX3_isTooLong_8 := dk_seg dksX3_isTooLong_7 24 rfl rfl
theorem dX3_isTooLong_0 : decode cX3_isTooLong 0 = .ok (.iconst 0, 1) := dk_3 (dk_at dksX3_isTooLong_0 0 rfl rfl)
theorem dX3_isTooLong_1 : decode cX3_isTooLong 1 = .ok (.istore_n 2, 1) := dk_61 (dk_at dksX3_isTooLong_0 1 rfl rfl)
theorem dX3_isTooLong_2 : decode cX3_isTooLong 2 = .ok (.iload_n 2, 1) := dk_28 (dk_at dksX3_isTooLong_0 2 rfl rfl)
theorem dX3_isTooLong_3 : decode cX3_isTooLong 3 = .ok (.aload_n 0, 1) := dk_42 (dk_at dksX3_isTooLong_0 3 rfl rfl)
theorem dX3_isTooLong_4 : decode cX3_isTooLong 4 = .ok (.getfield 7, 3) := dk_180 0 7 (dk_at dksX3_isTooLong_0 4 rfl rfl)
theorem dX3_isTooLong_7 : decode cX3_isTooLong 7 = .ok (.iconst 1, 1) := dk_4 (dk_at dksX3_isTooLong_0 7 rfl rfl)
theorem dX3_isTooLong_8 : decode cX3_isTooLong 8 = .ok (.iaload, 1) := dk_46 (dk_at dksX3_isTooLong_0 8 rfl rfl)
theorem dX3_isTooLong_9 : decode cX3_isTooLong 9 = .ok (.if_icmp .ge 29, 3) := dk_162 0 29 (dk_at dksX3_isTooLong_0 9 rfl rfl)
theorem dX3_isTooLong_12 : decode cX3_isTooLong 12 = .ok (.aload_n 0, 1) := dk_42 (dk_at dksX3_isTooLong_0 12 rfl rfl)
theorem dX3_isTooLong_13 : decode cX3_isTooLong 13 = .ok (.iload_n 2, 1) := dk_28 (dk_at dksX3_isTooLong_0 13 rfl rfl)
theorem dX3_isTooLong_14 : decode cX3_isTooLong 14 = .ok (.invokevirtual 179, 3) := dk_182 0 179 (dk_at dksX3_isTooLong_0 14 rfl rfl)
theorem dX3_isTooLong_17 : decode cX3_isTooLong 17 = .ok (.aload_n 0, 1) := dk_42 (dk_at dksX3_isTooLong_0 17 rfl rfl)
theorem dX3_isTooLong_18 : decode cX3_isTooLong 18 = .ok (.getfield 7, 3) := dk_180 0 7 (dk_at dksX3_isTooLong_0 18 rfl rfl)
theorem dX3_isTooLong_21 : decode cX3_isTooLong 21 = .ok (.iconst 2, 1) := dk_5 (dk_at dksX3_isTooLong_0 21 rfl rfl)
theorem dX3_isTooLong_22 : decode cX3_isTooLong 22 = .ok (.iaload, 1) := dk_46 (dk_at dksX3_isTooLong_0 22 rfl rfl)
theorem dX3_isTooLong_23 : decode cX3_isTooLong 23 = .ok (.if_icmp .le 9, 3) := dk_164 0 9 (dk_at dksX3_isTooLong_1 0 rfl rfl)
theorem dX3_isTooLong_26 : decode cX3_isTooLong 26 = .ok (.aload_n 0, 1) := dk_42 (dk_at dksX3_isTooLong_1 3 rfl rfl)
theorem dX3_isTooLong_27 : decode cX3_isTooLong 27 = .ok (.iload_n 1, 1) := dk_27 (dk_at dksX3_isTooLong_1 4 rfl rfl)
theorem dX3_isTooLong_28 : decode cX3_isTooLong 28 = .ok (.invokevirtual 70, 3) := dk_182 0 70 (dk_at dksX3_isTooLong_1 5 rfl rfl)
theorem dX3_isTooLong_31 : decode cX3_isTooLong 31 = .ok (.ireturn, 1) := dk_172 (dk_at dksX3_isTooLong_1 8 rfl rfl)
theorem dX3_isTooLong_32 : decode cX3_isTooLong 32 = .ok (.iinc 2 1, 3) := dk_132 2 1 (dk_at dksX3_isTooLong_1 9 rfl rfl)
theorem dX3_isTooLong_35 : decode cX3_isTooLong 35 = .ok (.goto (-33), 3) := dk_167 255 223 (dk_at dksX3_isTooLong_1 12 rfl rfl)
theorem dX3_isTooLong_38 : decode cX3_isTooLong 38 = .ok (.aload_n 0, 1) := dk_42 (dk_at dksX3_isTooLong_1 15 rfl rfl)
theorem dX3_isTooLong_39 : decode cX3_isTooLong 39 = .ok (.iconst 0, 1) := dk_3 (dk_at dksX3_isTooLong_1 16 rfl rfl)
theorem dX3_isTooLong_40 : decode cX3_isTooLong 40 = .ok (.putfield 52, 3) := dk_181 0 52 (dk_at dksX3_isTooLong_1 17 rfl rfl)
theorem dX3_isTooLong_43 : decode cX3_isTooLong 43 = .ok (.aload_n 0, 1) := dk_42 (dk_at dksX3_isTooLong_1 20 rfl rfl)
theorem dX3_isTooLong_44 : decode cX3_isTooLong 44 = .ok (.getfield 46, 3) := dk_180 0 46 (dk_at dksX3_isTooLong_1 21 rfl rfl)
theorem dX3_isTooLong_47 : decode cX3_isTooLong 47 = .ok (.aload_n 0, 1) := dk_42 (dk_at dksX3_isTooLong_2 0 rfl rfl)
theorem dX3_isTooLong_48 : decode cX3_isTooLong 48 = .ok (.getfield 7, 3) := dk_180 0 7 (dk_at dksX3_isTooLong_2 1 rfl rfl)
theorem dX3_isTooLong_51 : decode cX3_isTooLong 51 = .ok (.iconst 1, 1) := dk_4 (dk_at dksX3_isTooLong_2 4 rfl rfl)
theorem dX3_isTooLong_52 : decode cX3_isTooLong 52 = .ok (.iaload, 1) := dk_46 (dk_at dksX3_isTooLong_2 5 rfl rfl)
theorem dX3_isTooLong_53 : decode cX3_isTooLong 53 = .ok (.iconst 0, 1) := dk_3 (dk_at dksX3_isTooLong_2 6 rfl rfl)
theorem dX3_isTooLong_54 : decode cX3_isTooLong 54 = .ok (.iastore, 1) := dk_79 (dk_at dksX3_isTooLong_2 7 rfl rfl)
theorem dX3_isTooLong_55 : decode cX3_isTooLong 55 = .ok (.aload_n 0, 1) := dk_42 (dk_at dksX3_isTooLong_2 8 rfl rfl)
theorem dX3_isTooLong_56 : decode cX3_isTooLong 56 = .ok (.getfield 7, 3) := dk_180 0 7 (dk_at dksX3_isTooLong_2 9 rfl rfl)
theorem dX3_isTooLong_59 : decode cX3_isTooLong 59 = .ok (.iconst 1, 1) := dk_4 (dk_at dksX3_isTooLong_2 12 rfl rfl)
theorem dX3_isTooLong_60 : decode cX3_isTooLong 60 = .ok (.iaload, 1) := dk_46 (dk_at dksX3_isTooLong_2 13 rfl rfl)
theorem dX3_isTooLong_61 : decode cX3_isTooLong 61 = .ok (.iconst 1, 1) := dk_4 (dk_at dksX3_isTooLong_2 14 rfl rfl)
theorem dX3_isTooLong_62 : decode cX3_isTooLong 62 = .ok (.isub, 1) := dk_100 (dk_at dksX3_isTooLong_2 15 rfl rfl)
theorem dX3_isTooLong_63 : decode cX3_isTooLong 63 = .ok (.istore_n 2, 1) := dk_61 (dk_at dksX3_isTooLong_2 16 rfl rfl)
theorem dX3_isTooLong_64 : decode cX3_isTooLong 64 = .ok (.iload_n 2, 1) := dk_28 (dk_at dksX3_isTooLong_2 17 rfl rfl)
theorem dX3_isTooLong_65 : decode cX3_isTooLong 65 = .ok (.ifCond .lt 137, 3) := dk_155 0 137 (dk_at dksX3_isTooLong_2 18 rfl rfl)
theorem dX3_isTooLong_68 : decode cX3_isTooLong 68 = .ok (.iconst (-1), 1) := dk_2 (dk_at dksX3_isTooLong_2 21 rfl rfl)
theorem dX3_isTooLong_69 : decode cX3_isTooLong 69 = .ok (.istore_n 3, 1) := dk_62 (dk_at dksX3_isTooLong_2 22 rfl rfl)
theorem dX3_isTooLong_70 : decode cX3_isTooLong 70 = .ok (.aload_n 0, 1) := dk_42 (dk_at dksX3_isTooLong_2 23 rfl rfl)
theorem dX3_isTooLong_71 : decode cX3_isTooLong 71 = .ok (.getfield 46, 3) := dk_180 0 46 (dk_at dksX3_isTooLong_3 0 rfl rfl)
theorem dX3_isTooLong_74 : decode cX3_isTooLong 74 = .ok (.iload_n 2, 1) := dk_28 (dk_at dksX3_isTooLong_3 3 rfl rfl)
theorem dX3_isTooLong_75 : decode cX3_isTooLong 75 = .ok (.ldc 182, 2) := dk_18 182 (dk_at dksX3_isTooLong_3 4 rfl rfl)
theorem dX3_isTooLong_77 : decode cX3_isTooLong 77 = .ok (.iastore, 1) := dk_79 (dk_at dksX3_isTooLong_3 6 rfl rfl)
theorem dX3_isTooLong_78 : decode cX3_isTooLong 78 = .ok (.iload_n 2, 1) := dk_28 (dk_at dksX3_isTooLong_3 7 rfl rfl)
theorem dX3_isTooLong_79 : decode cX3_isTooLong 79 = .ok (.iconst 1, 1) := dk_4 (dk_at dksX3_isTooLong_3 8 rfl rfl)
theorem dX3_isTooLong_80 : decode cX3_isTooLong 80 = .ok (.iadd, 1) := dk_96 (dk_at dksX3_isTooLong_3 9 rfl rfl)
theorem dX3_isTooLong_81 : decode cX3_isTooLong 81 = .ok (.istore 4, 2) := dk_54 4 (dk_at dksX3_isTooLong_3 10 rfl rfl)
theorem dX3_isTooLong_83 : decode cX3_isTooLong 83 = .ok (.iload 4, 2) := dk_21 4 (dk_at dksX3_isTooLong_3 12 rfl rfl)
theorem dX3_isTooLong_85 : decode cX3_isTooLong 85 = .ok (.aload_n 0, 1) := dk_42 (dk_at dksX3_isTooLong_3 14 rfl rfl)
theorem dX3_isTooLong_86 : decode cX3_isTooLong 86 = .ok (.getfield 7, 3) := dk_180 0 7 (dk_at dksX3_isTooLong_3 15 rfl rfl)
theorem dX3_isTooLong_89 : decode cX3_isTooLong 89 = .ok (.iconst 1, 1) := dk_4 (dk_at dksX3_isTooLong_3 18 rfl rfl)
theorem dX3_isTooLong_90 : decode cX3_isTooLong 90 = .ok (.iaload, 1) := dk_46 (dk_at dksX3_isTooLong_3 19 rfl rfl)
theorem dX3_isTooLong_91 : decode cX3_isTooLong 91 = .ok (.if_icmp .gt 105, 3) := dk_163 0 105 (dk_at dksX3_isTooLong_3 20 rfl rfl)
theorem dX3_isTooLong_94 : decode cX3_isTooLong 94 = .ok (.iload_n 3, 1) := dk_29 (dk_at dksX3_isTooLong_3 23 rfl rfl)
theorem dX3_isTooLong_95 : decode cX3_isTooLong 95 = .ok (.aload_n 0, 1) := dk_42 (dk_at dksX3_isTooLong_4 0 rfl rfl)
theorem dX3_isTooLong_96 : decode cX3_isTooLong 96 = .ok (.iload 4, 2) := dk_21 4 (dk_at dksX3_isTooLong_4 1 rfl rfl)
theorem dX3_isTooLong_98 : decode cX3_isTooLong 98 = .ok (.iconst 1, 1) := dk_4 (dk_at dksX3_isTooLong_4 3 rfl rfl)
theorem dX3_isTooLong_99 : decode cX3_isTooLong 99 = .ok (.isub, 1) := dk_100 (dk_at dksX3_isTooLong_4 4 rfl rfl)
theorem dX3_isTooLong_100 : decode cX3_isTooLong 100 = .ok (.invokevirtual 179, 3) := dk_182 0 179 (dk_at dksX3_isTooLong_4 5 rfl rfl)
theorem dX3_isTooLong_103 : decode cX3_isTooLong 103 = .ok (.iconst 1, 1) := dk_4 (dk_at dksX3_isTooLong_4 8 rfl rfl)
theorem dX3_isTooLong_104 : decode cX3_isTooLong 104 = .ok (.iadd, 1) := dk_96 (dk_at dksX3_isTooLong_4 9 rfl rfl)
theorem dX3_isTooLong_105 : decode cX3_isTooLong 105 = .ok (.iadd, 1) := dk_96 (dk_at dksX3_isTooLong_4 10 rfl rfl)
theorem dX3_isTooLong_106 : decode cX3_isTooLong 106 = .ok (.istore_n 3, 1) := dk_62 (dk_at dksX3_isTooLong_4 11 rfl rfl)
theorem dX3_isTooLong_107 : decode cX3_isTooLong 107 = .ok (.iload_n 3, 1) := dk_29 (dk_at dksX3_isTooLong_4 12 rfl rfl)
theorem dX3_isTooLong_108 : decode cX3_isTooLong 108 = .ok (.aload_n 0, 1) := dk_42 (dk_at dksX3_isTooLong_4 13 rfl rfl)
theorem dX3_isTooLong_109 : decode cX3_isTooLong 109 = .ok (.getfield 7, 3) := dk_180 0 7 (dk_at dksX3_isTooLong_4 14 rfl rfl)
theorem dX3_isTooLong_112 : decode cX3_isTooLong 112 = .ok (.iconst 2, 1) := dk_5 (dk_at dksX3_isTooLong_4 17 rfl rfl)
theorem dX3_isTooLong_113 : decode cX3_isTooLong 113 = .ok (.iaload, 1) := dk_46 (dk_at dksX3_isTooLong_4 18 rfl rfl)
theorem dX3_isTooLong_114 : decode cX3_isTooLong 114 = .ok (.if_icmp .le 6, 3) := dk_164 0 6 (dk_at dksX3_isTooLong_4 19 rfl rfl)
theorem dX3_isTooLong_117 : decode cX3_isTooLong 117 = .ok (.goto 79, 3) := dk_167 0 79 (dk_at dksX3_isTooLong_5 0 rfl rfl)
theorem dX3_isTooLong_120 : decode cX3_isTooLong 120 = .ok (.aload_n 0, 1) := dk_42 (dk_at dksX3_isTooLong_5 3 rfl rfl)
theorem dX3_isTooLong_121 : decode cX3_isTooLong 121 = .ok (.getfield 7, 3) := dk_180 0 7 (dk_at dksX3_isTooLong_5 4 rfl rfl)
theorem dX3_isTooLong_124 : decode cX3_isTooLong 124 = .ok (.iconst 2, 1) := dk_5 (dk_at dksX3_isTooLong_5 7 rfl rfl)
theorem dX3_isTooLong_125 : decode cX3_isTooLong 125 = .ok (.iaload, 1) := dk_46 (dk_at dksX3_isTooLong_5 8 rfl rfl)
theorem dX3_isTooLong_126 : decode cX3_isTooLong 126 = .ok (.iload_n 3, 1) := dk_29 (dk_at dksX3_isTooLong_5 9 rfl rfl)
theorem dX3_isTooLong_127 : decode cX3_isTooLong 127 = .ok (.isub, 1) := dk_100 (dk_at dksX3_isTooLong_5 10 rfl rfl)
theorem dX3_isTooLong_128 : decode cX3_isTooLong 128 = .ok (.istore 5, 2) := dk_54 5 (dk_at dksX3_isTooLong_5 11 rfl rfl)
theorem dX3_isTooLong_130 : decode cX3_isTooLong 130 = .ok (.iload 4, 2) := dk_21 4 (dk_at dksX3_isTooLong_5 13 rfl rfl)
theorem dX3_isTooLong_132 : decode cX3_isTooLong 132 = .ok (.aload_n 0, 1) := dk_42 (dk_at dksX3_isTooLong_5 15 rfl rfl)
theorem dX3_isTooLong_133 : decode cX3_isTooLong 133 = .ok (.getfield 7, 3) := dk_180 0 7 (dk_at dksX3_isTooLong_5 16 rfl rfl)
theorem dX3_isTooLong_136 : decode cX3_isTooLong 136 = .ok (.iconst 1, 1) := dk_4 (dk_at dksX3_isTooLong_5 19 rfl rfl)
theorem dX3_isTooLong_137 : decode cX3_isTooLong 137 = .ok (.iaload, 1) := dk_46 (dk_at dksX3_isTooLong_5 20 rfl rfl)
theorem dX3_isTooLong_138 : decode cX3_isTooLong 138 = .ok (.if_icmp .ne 7, 3) := dk_160 0 7 (dk_at dksX3_isTooLong_5 21 rfl rfl)
theorem dX3_isTooLong_141 : decode cX3_isTooLong 141 = .ok (.iconst 0, 1) := dk_3 (dk_at dksX3_isTooLong_6 0 rfl rfl)
theorem dX3_isTooLong_142 : decode cX3_isTooLong 142 = .ok (.goto 16, 3) := dk_167 0 16 (dk_at dksX3_isTooLong_6 1 rfl rfl)
theorem dX3_isTooLong_145 : decode cX3_isTooLong 145 = .ok (.iload 5, 2) := dk_21 5 (dk_at dksX3_isTooLong_6 4 rfl rfl)
theorem dX3_isTooLong_147 : decode cX3_isTooLong 147 = .ok (.iload 5, 2) := dk_21 5 (dk_at dksX3_isTooLong_6 6 rfl rfl)
theorem dX3_isTooLong_149 : decode cX3_isTooLong 149 = .ok (.imul, 1) := dk_104 (dk_at dksX3_isTooLong_6 8 rfl rfl)
theorem dX3_isTooLong_150 : decode cX3_isTooLong 150 = .ok (.aload_n 0, 1) := dk_42 (dk_at dksX3_isTooLong_6 9 rfl rfl)
theorem dX3_isTooLong_151 : decode cX3_isTooLong 151 = .ok (.getfield 46, 3) := dk_180 0 46 (dk_at dksX3_isTooLong_6 10 rfl rfl)
theorem dX3_isTooLong_154 : decode cX3_isTooLong 154 = .ok (.iload 4, 2) := dk_21 4 (dk_at dksX3_isTooLong_6 13 rfl rfl)
theorem dX3_isTooLong_156 : decode cX3_isTooLong 156 = .ok (.iaload, 1) := dk_46 (dk_at dksX3_isTooLong_6 15 rfl rfl)
theorem dX3_isTooLong_157 : decode cX3_isTooLong 157 = .ok (.iadd, 1) := dk_96 (dk_at dksX3_isTooLong_6 16 rfl rfl)
theorem dX3_isTooLong_158 : decode cX3_isTooLong 158 = .ok (.istore 6, 2) := dk_54 6 (dk_at dksX3_isTooLong_6 17 rfl rfl)
theorem dX3_isTooLong_160 : decode cX3_isTooLong 160 = .ok (.iload 6, 2) := dk_21 6 (dk_at dksX3_isTooLong_6 19 rfl rfl)
theorem dX3_isTooLong_162 : decode cX3_isTooLong 162 = .ok (.aload_n 0, 1) := dk_42 (dk_at dksX3_isTooLong_6 21 rfl rfl)
theorem dX3_isTooLong_163 : decode cX3_isTooLong 163 = .ok (.getfield 46, 3) := dk_180 0 46 (dk_at dksX3_isTooLong_7 0 rfl rfl)
theorem dX3_isTooLong_166 : decode cX3_isTooLong 166 = .ok (.iload_n 2, 1) := dk_28 (dk_at dksX3_isTooLong_7 3 rfl rfl)
theorem dX3_isTooLong_167 : decode cX3_isTooLong 167 = .ok (.iaload, 1) := dk_46 (dk_at dksX3_isTooLong_7 4 rfl rfl)
theorem dX3_isTooLong_168 : decode cX3_isTooLong 168 = .ok (.if_icmp .le 6, 3) := dk_164 0 6 (dk_at dksX3_isTooLong_7 5 rfl rfl)
theorem dX3_isTooLong_171 : decode cX3_isTooLong 171 = .ok (.goto 19, 3) := dk_167 0 19 (dk_at dksX3_isTooLong_7 8 rfl rfl)
theorem dX3_isTooLong_174 : decode cX3_isTooLong 174 = .ok (.aload_n 0, 1) := dk_42 (dk_at dksX3_isTooLong_7 11 rfl rfl)
theorem dX3_isTooLong_175 : decode cX3_isTooLong 175 = .ok (.getfield 46, 3) := dk_180 0 46 (dk_at dksX3_isTooLong_7 12 rfl rfl)
theorem dX3_isTooLong_178 : decode cX3_isTooLong 178 = .ok (.iload_n 2, 1) := dk_28 (dk_at dksX3_isTooLong_7 15 rfl rfl)
theorem dX3_isTooLong_179 : decode cX3_isTooLong 179 = .ok (.iload 6, 2) := dk_21 6 (dk_at dksX3_isTooLong_7 16 rfl rfl)
theorem dX3_isTooLong_181 : decode cX3_isTooLong 181 = .ok (.iastore, 1) := dk_79 (dk_at dksX3_isTooLong_7 18 rfl rfl)
theorem dX3_isTooLong_182 : decode cX3_isTooLong 182 = .ok (.aload_n 0, 1) := dk_42 (dk_at dksX3_isTooLong_7 19 rfl rfl)
theorem dX3_isTooLong_183 : decode cX3_isTooLong 183 = .ok (.getfield 49, 3) := dk_180 0 49 (dk_at dksX3_isTooLong_7 20 rfl rfl)
theorem dX3_isTooLong_186 : decode cX3_isTooLong 186 = .ok (.iload_n 2, 1) := dk_28 (dk_at dksX3_isTooLong_7 23 rfl rfl)
theorem dX3_isTooLong_187 : decode cX3_isTooLong 187 = .ok (.iload 4, 2) := dk_21 4 (dk_at dksX3_isTooLong_8 0 rfl rfl)
theorem dX3_isTooLong_189 : decode cX3_isTooLong 189 = .ok (.iastore, 1) := dk_79 (dk_at dksX3_isTooLong_8 2 rfl rfl)
theorem dX3_isTooLong_190 : decode cX3_isTooLong 190 = .ok (.iinc 4 1, 3) := dk_132 4 1 (dk_at dksX3_isTooLong_8 3 rfl rfl)
theorem dX3_isTooLong_193 : decode cX3_isTooLong 193 = .ok (.goto (-110), 3) := dk_167 255 146 (dk_at dksX3_isTooLong_8 6 rfl rfl)
theorem dX3_isTooLong_196 : decode cX3_isTooLong 196 = .ok (.iinc 2 (-1), 3) := dk_132 2 255 (dk_at dksX3_isTooLong_8 9 rfl rfl)
theorem dX3_isTooLong_199 : decode cX3_isTooLong 199 = .ok (.goto (-135), 3) := dk_167 255 121 (dk_at dksX3_isTooLong_8 12 rfl rfl)
theorem dX3_isTooLong_202 : decode cX3_isTooLong 202 = .ok (.iconst 0, 1) := dk_3 (dk_at dksX3_isTooLong_8 15 rfl rfl)
theorem dX3_isTooLong_203 : decode cX3_isTooLong 203 = .ok (.ireturn, 1) := dk_172 (dk_at dksX3_isTooLong_8 16 rfl rfl)
abbrev cX3_raggednessByTrying : ByteArray := prog_11_method_75_code
def yX3_raggednessByTrying : MethodName := ⟨RX3, "raggednessByTrying", "()I"⟩
def dkwX3_raggednessByTrying_0 : List UInt8 := [42, 4, 182, 0, 183, 153, 0, 7, 3, 167, 0, 9, 42, 180, 0, 46, 3, 46, 172]
abbrev dktX3_raggednessByTrying_0 : List UInt8 := dkwX3_raggednessByTrying_0 ++ []
theorem dksX3_raggednessByTrying_0 : cX3_raggednessByTrying.data.toList.drop 0 = dktX3_raggednessByTrying_0 := by decide +kernel
theorem dX3_raggednessByTrying_0 : decode cX3_raggednessByTrying 0 = .ok (.aload_n 0, 1) := dk_42 (dk_at dksX3_raggednessByTrying_0 0 rfl rfl)
theorem dX3_raggednessByTrying_1 : decode cX3_raggednessByTrying 1 = .ok (.iconst 1, 1) := dk_4 (dk_at dksX3_raggednessByTrying_0 1 rfl rfl)
theorem dX3_raggednessByTrying_2 : decode cX3_raggednessByTrying 2 = .ok (.invokevirtual 183, 3) := dk_182 0 183 (dk_at dksX3_raggednessByTrying_0 2 rfl rfl)
theorem dX3_raggednessByTrying_5 : decode cX3_raggednessByTrying 5 = .ok (.ifCond .eq 7, 3) := dk_153 0 7 (dk_at dksX3_raggednessByTrying_0 5 rfl rfl)
theorem dX3_raggednessByTrying_8 : decode cX3_raggednessByTrying 8 = .ok (.iconst 0, 1) := dk_3 (dk_at dksX3_raggednessByTrying_0 8 rfl rfl)
theorem dX3_raggednessByTrying_9 : decode cX3_raggednessByTrying 9 = .ok (.goto 9, 3) := dk_167 0 9 (dk_at dksX3_raggednessByTrying_0 9 rfl rfl)
theorem dX3_raggednessByTrying_12 : decode cX3_raggednessByTrying 12 = .ok (.aload_n 0, 1) := dk_42 (dk_at dksX3_raggednessByTrying_0 12 rfl rfl)
theorem dX3_raggednessByTrying_13 : decode cX3_raggednessByTrying 13 = .ok (.getfield 46, 3) := dk_180 0 46 (dk_at dksX3_raggednessByTrying_0 13 rfl rfl)
theorem dX3_raggednessByTrying_16 : decode cX3_raggednessByTrying 16 = .ok (.iconst 0, 1) := dk_3 (dk_at dksX3_raggednessByTrying_0 16 rfl rfl)
theorem dX3_raggednessByTrying_17 : decode cX3_raggednessByTrying 17 = .ok (.iaload, 1) := dk_46 (dk_at dksX3_raggednessByTrying_0 17 rfl rfl)
theorem dX3_raggednessByTrying_18 : decode cX3_raggednessByTrying 18 = .ok (.ireturn, 1) := dk_172 (dk_at dksX3_raggednessByTrying_0 18 rfl rfl)
abbrev cX3_lineCount : ByteArray := prog_11_method_77_code
def yX3_lineCount : MethodName := ⟨RX3, "lineCount", "()I"⟩
def dkwX3_lineCount_0 : List UInt8 := [42, 4, 182, 0, 183, 153, 0, 7, 3, 167, 0, 13, 42, 42, 180, 0, 7, 4, 46, 182, 0, 186, 172]
abbrev dktX3_lineCount_0 : List UInt8 := dkwX3_lineCount_0 ++ []
theorem dksX3_lineCount_0 : cX3_lineCount.data.toList.drop 0 = dktX3_lineCount_0 := by decide +kernel
theorem dX3_lineCount_0 : decode cX3_lineCount 0 = .ok (.aload_n 0, 1) := dk_42 (dk_at dksX3_lineCount_0 0 rfl rfl)
theorem dX3_lineCount_1 : decode cX3_lineCount 1 = .ok (.iconst 1, 1) := dk_4 (dk_at dksX3_lineCount_0 1 rfl rfl)
theorem dX3_lineCount_2 : decode cX3_lineCount 2 = .ok (.invokevirtual 183, 3) := dk_182 0 183 (dk_at dksX3_lineCount_0 2 rfl rfl)
theorem dX3_lineCount_5 : decode cX3_lineCount 5 = .ok (.ifCond .eq 7, 3) := dk_153 0 7 (dk_at dksX3_lineCount_0 5 rfl rfl)
theorem dX3_lineCount_8 : decode cX3_lineCount 8 = .ok (.iconst 0, 1) := dk_3 (dk_at dksX3_lineCount_0 8 rfl rfl)
theorem dX3_lineCount_9 : decode cX3_lineCount 9 = .ok (.goto 13, 3) := dk_167 0 13 (dk_at dksX3_lineCount_0 9 rfl rfl)
theorem dX3_lineCount_12 : decode cX3_lineCount 12 = .ok (.aload_n 0, 1) := dk_42 (dk_at dksX3_lineCount_0 12 rfl rfl)
theorem dX3_lineCount_13 : decode cX3_lineCount 13 = .ok (.aload_n 0, 1) := dk_42 (dk_at dksX3_lineCount_0 13 rfl rfl)
theorem dX3_lineCount_14 : decode cX3_lineCount 14 = .ok (.getfield 7, 3) := dk_180 0 7 (dk_at dksX3_lineCount_0 14 rfl rfl)
theorem dX3_lineCount_17 : decode cX3_lineCount 17 = .ok (.iconst 1, 1) := dk_4 (dk_at dksX3_lineCount_0 17 rfl rfl)
theorem dX3_lineCount_18 : decode cX3_lineCount 18 = .ok (.iaload, 1) := dk_46 (dk_at dksX3_lineCount_0 18 rfl rfl)
theorem dX3_lineCount_19 : decode cX3_lineCount 19 = .ok (.invokevirtual 186, 3) := dk_182 0 186 (dk_at dksX3_lineCount_0 19 rfl rfl)
theorem dX3_lineCount_22 : decode cX3_lineCount 22 = .ok (.ireturn, 1) := dk_172 (dk_at dksX3_lineCount_0 22 rfl rfl)
abbrev cX3_line : ByteArray := prog_11_method_76_code
def yX3_line : MethodName := ⟨RX3, "line", "(I)I"⟩
def dkwX3_line_1 : List UInt8 := [42, 180, 0, 49, 29, 46, 62, 132, 2, 1, 167, 255, 226, 28, 172]
abbrev dktX3_line_1 : List UInt8 := dkwX3_line_1 ++ []
def dkwX3_line_0 : List UInt8 := [3, 61, 3, 62, 29, 42, 180, 0, 7, 4, 46, 162, 0, 26, 42, 180, 0, 49, 29, 46, 27, 163, 0, 16]
abbrev dktX3_line_0 : List UInt8 := dkwX3_line_0 ++ dktX3_line_1
theorem dksX3_line_0 : cX3_line.data.toList.drop 0 = dktX3_line_0 := by decide +kernel
theorem dksX3_line_1 : cX3_line.data.toList.drop 24 = dktX3_line_1 := dk_seg dksX3_line_0 24 rfl rfl
theorem dX3_line_0 : decode cX3_line 0 = .ok (.iconst 0, 1) := dk_3 (dk_at dksX3_line_0 0 rfl rfl)
theorem dX3_line_1 : decode cX3_line 1 = .ok (.istore_n 2, 1) := dk_61 (dk_at dksX3_line_0 1 rfl rfl)
theorem dX3_line_2 : decode cX3_line 2 = .ok (.iconst 0, 1) := dk_3 (dk_at dksX3_line_0 2 rfl rfl)
theorem dX3_line_3 : decode cX3_line 3 = .ok (.istore_n 3, 1) := dk_62 (dk_at dksX3_line_0 3 rfl rfl)
theorem dX3_line_4 : decode cX3_line 4 = .ok (.iload_n 3, 1) := dk_29 (dk_at dksX3_line_0 4 rfl rfl)
theorem dX3_line_5 : decode cX3_line 5 = .ok (.aload_n 0, 1) := dk_42 (dk_at dksX3_line_0 5 rfl rfl)
theorem dX3_line_6 : decode cX3_line 6 = .ok (.getfield 7, 3) := dk_180 0 7 (dk_at dksX3_line_0 6 rfl rfl)
theorem dX3_line_9 : decode cX3_line 9 = .ok (.iconst 1, 1) := dk_4 (dk_at dksX3_line_0 9 rfl rfl)
theorem dX3_line_10 : decode cX3_line 10 = .ok (.iaload, 1) := dk_46 (dk_at dksX3_line_0 10 rfl rfl)
theorem dX3_line_11 : decode cX3_line 11 = .ok (.if_icmp .ge 26, 3) := dk_162 0 26 (dk_at dksX3_line_0 11 rfl rfl)
theorem dX3_line_14 : decode cX3_line 14 = .ok (.aload_n 0, 1) := dk_42 (dk_at dksX3_line_0 14 rfl rfl)
theorem dX3_line_15 : decode cX3_line 15 = .ok (.getfield 49, 3) := dk_180 0 49 (dk_at dksX3_line_0 15 rfl rfl)
theorem dX3_line_18 : decode cX3_line 18 = .ok (.iload_n 3, 1) := dk_29 (dk_at dksX3_line_0 18 rfl rfl)
theorem dX3_line_19 : decode cX3_line 19 = .ok (.iaload, 1) := dk_46 (dk_at dksX3_line_0 19 rfl rfl)
theorem dX3_line_20 : decode cX3_line 20 = .ok (.iload_n 1, 1) := dk_27 (dk_at dksX3_line_0 20 rfl rfl)
theorem dX3_line_21 : decode cX3_line 21 = .ok (.if_icmp .gt 16, 3) := dk_163 0 16 (dk_at dksX3_line_0 21 rfl rfl)
theorem dX3_line_24 : decode cX3_line 24 = .ok (.aload_n 0, 1) := dk_42 (dk_at dksX3_line_1 0 rfl rfl)
theorem dX3_line_25 : decode cX3_line 25 = .ok (.getfield 49, 3) := dk_180 0 49 (dk_at dksX3_line_1 1 rfl rfl)
theorem dX3_line_28 : decode cX3_line 28 = .ok (.iload_n 3, 1) := dk_29 (dk_at dksX3_line_1 4 rfl rfl)
theorem dX3_line_29 : decode cX3_line 29 = .ok (.iaload, 1) := dk_46 (dk_at dksX3_line_1 5 rfl rfl)
theorem dX3_line_30 : decode cX3_line 30 = .ok (.istore_n 3, 1) := dk_62 (dk_at dksX3_line_1 6 rfl rfl)
theorem dX3_line_31 : decode cX3_line 31 = .ok (.iinc 2 1, 3) := dk_132 2 1 (dk_at dksX3_line_1 7 rfl rfl)
theorem dX3_line_34 : decode cX3_line 34 = .ok (.goto (-30), 3) := dk_167 255 226 (dk_at dksX3_line_1 10 rfl rfl)
theorem dX3_line_37 : decode cX3_line 37 = .ok (.iload_n 2, 1) := dk_28 (dk_at dksX3_line_1 13 rfl rfl)
theorem dX3_line_38 : decode cX3_line 38 = .ok (.ireturn, 1) := dk_172 (dk_at dksX3_line_1 14 rfl rfl)
abbrev cX3_lineOf : ByteArray := prog_11_method_78_code
def yX3_lineOf : MethodName := ⟨RX3, "lineOf", "(I)I"⟩
def dkwX3_lineOf_1 : List UInt8 := [182, 0, 186, 172]
abbrev dktX3_lineOf_1 : List UInt8 := dkwX3_lineOf_1 ++ []
def dkwX3_lineOf_0 : List UInt8 := [42, 27, 182, 0, 169, 154, 0, 11, 42, 5, 182, 0, 183, 153, 0, 7, 3, 167, 0, 8, 42, 27]
abbrev dktX3_lineOf_0 : List UInt8 := dkwX3_lineOf_0 ++ dktX3_lineOf_1
theorem dksX3_lineOf_0 : cX3_lineOf.data.toList.drop 0 = dktX3_lineOf_0 := by decide +kernel
theorem dksX3_lineOf_1 : cX3_lineOf.data.toList.drop 22 = dktX3_lineOf_1 := dk_seg dksX3_lineOf_0 22 rfl rfl
theorem dX3_lineOf_0 : decode cX3_lineOf 0 = .ok (.aload_n 0, 1) := dk_42 (dk_at dksX3_lineOf_0 0 rfl rfl)
theorem dX3_lineOf_1 : decode cX3_lineOf 1 = .ok (.iload_n 1, 1) := dk_27 (dk_at dksX3_lineOf_0 1 rfl rfl)
theorem dX3_lineOf_2 : decode cX3_lineOf 2 = .ok (.invokevirtual 169, 3) := dk_182 0 169 (dk_at dksX3_lineOf_0 2 rfl rfl)
theorem dX3_lineOf_5 : decode cX3_lineOf 5 = .ok (.ifCond .ne 11, 3) := dk_154 0 11 (dk_at dksX3_lineOf_0 5 rfl rfl)
theorem dX3_lineOf_8 : decode cX3_lineOf 8 = .ok (.aload_n 0, 1) := dk_42 (dk_at dksX3_lineOf_0 8 rfl rfl)
theorem dX3_lineOf_9 : decode cX3_lineOf 9 = .ok (.iconst 2, 1) := dk_5 (dk_at dksX3_lineOf_0 9 rfl rfl)
theorem dX3_lineOf_10 : decode cX3_lineOf 10 = .ok (.invokevirtual 183, 3) := dk_182 0 183 (dk_at dksX3_lineOf_0 10 rfl rfl)
theorem dX3_lineOf_13 : decode cX3_lineOf 13 = .ok (.ifCond .eq 7, 3) := dk_153 0 7 (dk_at dksX3_lineOf_0 13 rfl rfl)
theorem dX3_lineOf_16 : decode cX3_lineOf 16 = .ok (.iconst 0, 1) := dk_3 (dk_at dksX3_lineOf_0 16 rfl rfl)
theorem dX3_lineOf_17 : decode cX3_lineOf 17 = .ok (.goto 8, 3) := dk_167 0 8 (dk_at dksX3_lineOf_0 17 rfl rfl)
theorem dX3_lineOf_20 : decode cX3_lineOf 20 = .ok (.aload_n 0, 1) := dk_42 (dk_at dksX3_lineOf_0 20 rfl rfl)
theorem dX3_lineOf_21 : decode cX3_lineOf 21 = .ok (.iload_n 1, 1) := dk_27 (dk_at dksX3_lineOf_0 21 rfl rfl)
theorem dX3_lineOf_22 : decode cX3_lineOf 22 = .ok (.invokevirtual 186, 3) := dk_182 0 186 (dk_at dksX3_lineOf_1 0 rfl rfl)
theorem dX3_lineOf_25 : decode cX3_lineOf 25 = .ok (.ireturn, 1) := dk_172 (dk_at dksX3_lineOf_1 3 rfl rfl)
abbrev cX3_grantedCount : ByteArray := prog_11_method_79_code
def yX3_grantedCount : MethodName := ⟨RX3, "grantedCount", "()I"⟩
def dkwX3_grantedCount_0 : List UInt8 := [42, 3, 181, 0, 52, 42, 180, 0, 7, 6, 46, 172]
abbrev dktX3_grantedCount_0 : List UInt8 := dkwX3_grantedCount_0 ++ []
theorem dksX3_grantedCount_0 : cX3_grantedCount.data.toList.drop 0 = dktX3_grantedCount_0 := by decide +kernel
theorem dX3_grantedCount_0 : decode cX3_grantedCount 0 = .ok (.aload_n 0, 1) := dk_42 (dk_at dksX3_grantedCount_0 0 rfl rfl)
theorem dX3_grantedCount_1 : decode cX3_grantedCount 1 = .ok (.iconst 0, 1) := dk_3 (dk_at dksX3_grantedCount_0 1 rfl rfl)
theorem dX3_grantedCount_2 : decode cX3_grantedCount 2 = .ok (.putfield 52, 3) := dk_181 0 52 (dk_at dksX3_grantedCount_0 2 rfl rfl)
theorem dX3_grantedCount_5 : decode cX3_grantedCount 5 = .ok (.aload_n 0, 1) := dk_42 (dk_at dksX3_grantedCount_0 5 rfl rfl)
theorem dX3_grantedCount_6 : decode cX3_grantedCount 6 = .ok (.getfield 7, 3) := dk_180 0 7 (dk_at dksX3_grantedCount_0 6 rfl rfl)
theorem dX3_grantedCount_9 : decode cX3_grantedCount 9 = .ok (.iconst 3, 1) := dk_6 (dk_at dksX3_grantedCount_0 9 rfl rfl)
theorem dX3_grantedCount_10 : decode cX3_grantedCount 10 = .ok (.iaload, 1) := dk_46 (dk_at dksX3_grantedCount_0 10 rfl rfl)
theorem dX3_grantedCount_11 : decode cX3_grantedCount 11 = .ok (.ireturn, 1) := dk_172 (dk_at dksX3_grantedCount_0 11 rfl rfl)
abbrev cX3_spent : ByteArray := prog_11_method_80_code
def yX3_spent : MethodName := ⟨RX3, "spent", "()J"⟩
def dkwX3_spent_0 : List UInt8 := [42, 3, 181, 0, 52, 42, 180, 0, 7, 7, 46, 133, 173]
abbrev dktX3_spent_0 : List UInt8 := dkwX3_spent_0 ++ []
theorem dksX3_spent_0 : cX3_spent.data.toList.drop 0 = dktX3_spent_0 := by decide +kernel
theorem dX3_spent_0 : decode cX3_spent 0 = .ok (.aload_n 0, 1) := dk_42 (dk_at dksX3_spent_0 0 rfl rfl)
theorem dX3_spent_1 : decode cX3_spent 1 = .ok (.iconst 0, 1) := dk_3 (dk_at dksX3_spent_0 1 rfl rfl)
theorem dX3_spent_2 : decode cX3_spent 2 = .ok (.putfield 52, 3) := dk_181 0 52 (dk_at dksX3_spent_0 2 rfl rfl)
theorem dX3_spent_5 : decode cX3_spent 5 = .ok (.aload_n 0, 1) := dk_42 (dk_at dksX3_spent_0 5 rfl rfl)
theorem dX3_spent_6 : decode cX3_spent 6 = .ok (.getfield 7, 3) := dk_180 0 7 (dk_at dksX3_spent_0 6 rfl rfl)
theorem dX3_spent_9 : decode cX3_spent 9 = .ok (.iconst 4, 1) := dk_7 (dk_at dksX3_spent_0 9 rfl rfl)
theorem dX3_spent_10 : decode cX3_spent 10 = .ok (.iaload, 1) := dk_46 (dk_at dksX3_spent_0 10 rfl rfl)
theorem dX3_spent_11 : decode cX3_spent 11 = .ok (.i2l, 1) := dk_133 (dk_at dksX3_spent_0 11 rfl rfl)
theorem dX3_spent_12 : decode cX3_spent 12 = .ok (.lreturn, 1) := dk_173 (dk_at dksX3_spent_0 12 rfl rfl)
abbrev cX3_gained : ByteArray := prog_11_method_81_code
def yX3_gained : MethodName := ⟨RX3, "gained", "()I"⟩
def dkwX3_gained_0 : List UInt8 := [42, 3, 181, 0, 52, 42, 180, 0, 7, 8, 46, 172]
abbrev dktX3_gained_0 : List UInt8 := dkwX3_gained_0 ++ []
theorem dksX3_gained_0 : cX3_gained.data.toList.drop 0 = dktX3_gained_0 := by decide +kernel
theorem dX3_gained_0 : decode cX3_gained 0 = .ok (.aload_n 0, 1) := dk_42 (dk_at dksX3_gained_0 0 rfl rfl)
theorem dX3_gained_1 : decode cX3_gained 1 = .ok (.iconst 0, 1) := dk_3 (dk_at dksX3_gained_0 1 rfl rfl)
theorem dX3_gained_2 : decode cX3_gained 2 = .ok (.putfield 52, 3) := dk_181 0 52 (dk_at dksX3_gained_0 2 rfl rfl)
theorem dX3_gained_5 : decode cX3_gained 5 = .ok (.aload_n 0, 1) := dk_42 (dk_at dksX3_gained_0 5 rfl rfl)
theorem dX3_gained_6 : decode cX3_gained 6 = .ok (.getfield 7, 3) := dk_180 0 7 (dk_at dksX3_gained_0 6 rfl rfl)
theorem dX3_gained_9 : decode cX3_gained 9 = .ok (.iconst 5, 1) := dk_8 (dk_at dksX3_gained_0 9 rfl rfl)
theorem dX3_gained_10 : decode cX3_gained 10 = .ok (.iaload, 1) := dk_46 (dk_at dksX3_gained_0 10 rfl rfl)
theorem dX3_gained_11 : decode cX3_gained 11 = .ok (.ireturn, 1) := dk_172 (dk_at dksX3_gained_0 11 rfl rfl)
abbrev cX3_lost : ByteArray := prog_11_method_82_code
def yX3_lost : MethodName := ⟨RX3, "lost", "()I"⟩
def dkwX3_lost_0 : List UInt8 := [42, 3, 181, 0, 52, 42, 180, 0, 7, 16, 6, 46, 172]
abbrev dktX3_lost_0 : List UInt8 := dkwX3_lost_0 ++ []
theorem dksX3_lost_0 : cX3_lost.data.toList.drop 0 = dktX3_lost_0 := by decide +kernel
theorem dX3_lost_0 : decode cX3_lost 0 = .ok (.aload_n 0, 1) := dk_42 (dk_at dksX3_lost_0 0 rfl rfl)
theorem dX3_lost_1 : decode cX3_lost 1 = .ok (.iconst 0, 1) := dk_3 (dk_at dksX3_lost_0 1 rfl rfl)
theorem dX3_lost_2 : decode cX3_lost 2 = .ok (.putfield 52, 3) := dk_181 0 52 (dk_at dksX3_lost_0 2 rfl rfl)
theorem dX3_lost_5 : decode cX3_lost 5 = .ok (.aload_n 0, 1) := dk_42 (dk_at dksX3_lost_0 5 rfl rfl)
theorem dX3_lost_6 : decode cX3_lost 6 = .ok (.getfield 7, 3) := dk_180 0 7 (dk_at dksX3_lost_0 6 rfl rfl)
theorem dX3_lost_9 : decode cX3_lost 9 = .ok (.bipush 6, 2) := dk_16 6 (dk_at dksX3_lost_0 9 rfl rfl)
theorem dX3_lost_11 : decode cX3_lost 11 = .ok (.iaload, 1) := dk_46 (dk_at dksX3_lost_0 11 rfl rfl)
theorem dX3_lost_12 : decode cX3_lost 12 = .ok (.ireturn, 1) := dk_172 (dk_at dksX3_lost_0 12 rfl rfl)
abbrev cX3_meanValue : ByteArray := prog_11_method_83_code
def yX3_meanValue : MethodName := ⟨RX3, "meanValue", "()D"⟩
def dkwX3_meanValue_2 : List UInt8 := [167, 255, 235, 27, 135, 42, 180, 0, 7, 4, 46, 135, 111, 175]
abbrev dktX3_meanValue_2 : List UInt8 := dkwX3_meanValue_2 ++ []
def dkwX3_meanValue_1 : List UInt8 := [60, 3, 61, 28, 42, 180, 0, 7, 4, 46, 162, 0, 17, 27, 42, 28, 182, 0, 172, 96, 60, 132, 2, 1]
abbrev dktX3_meanValue_1 : List UInt8 := dkwX3_meanValue_1 ++ dktX3_meanValue_2
def dkwX3_meanValue_0 : List UInt8 := [42, 42, 180, 0, 7, 4, 46, 154, 0, 7, 4, 167, 0, 4, 3, 182, 0, 70, 153, 0, 5, 14, 175, 3]
abbrev dktX3_meanValue_0 : List UInt8 := dkwX3_meanValue_0 ++ dktX3_meanValue_1
theorem dksX3_meanValue_0 : cX3_meanValue.data.toList.drop 0 = dktX3_meanValue_0 := by decide +kernel
theorem dksX3_meanValue_1 : cX3_meanValue.data.toList.drop 24 = dktX3_meanValue_1 := dk_seg dksX3_meanValue_0 24 rfl rfl
theorem dksX3_meanValue_2 : cX3_meanValue.data.toList.drop 48 = dktX3_meanValue_2 := dk_seg dksX3_meanValue_1 24 rfl rfl
theorem dX3_meanValue_0 : decode cX3_meanValue 0 = .ok (.aload_n 0, 1) := dk_42 (dk_at dksX3_meanValue_0 0 rfl rfl)
theorem dX3_meanValue_1 : decode cX3_meanValue 1 = .ok (.aload_n 0, 1) := dk_42 (dk_at dksX3_meanValue_0 1 rfl rfl)
theorem dX3_meanValue_2 : decode cX3_meanValue 2 = .ok (.getfield 7, 3) := dk_180 0 7 (dk_at dksX3_meanValue_0 2 rfl rfl)
theorem dX3_meanValue_5 : decode cX3_meanValue 5 = .ok (.iconst 1, 1) := dk_4 (dk_at dksX3_meanValue_0 5 rfl rfl)
theorem dX3_meanValue_6 : decode cX3_meanValue 6 = .ok (.iaload, 1) := dk_46 (dk_at dksX3_meanValue_0 6 rfl rfl)
theorem dX3_meanValue_7 : decode cX3_meanValue 7 = .ok (.ifCond .ne 7, 3) := dk_154 0 7 (dk_at dksX3_meanValue_0 7 rfl rfl)
theorem dX3_meanValue_10 : decode cX3_meanValue 10 = .ok (.iconst 1, 1) := dk_4 (dk_at dksX3_meanValue_0 10 rfl rfl)
theorem dX3_meanValue_11 : decode cX3_meanValue 11 = .ok (.goto 4, 3) := dk_167 0 4 (dk_at dksX3_meanValue_0 11 rfl rfl)
theorem dX3_meanValue_14 : decode cX3_meanValue 14 = .ok (.iconst 0, 1) := dk_3 (dk_at dksX3_meanValue_0 14 rfl rfl)
theorem dX3_meanValue_15 : decode cX3_meanValue 15 = .ok (.invokevirtual 70, 3) := dk_182 0 70 (dk_at dksX3_meanValue_0 15 rfl rfl)
theorem dX3_meanValue_18 : decode cX3_meanValue 18 = .ok (.ifCond .eq 5, 3) := dk_153 0 5 (dk_at dksX3_meanValue_0 18 rfl rfl)
theorem dX3_meanValue_21 : decode cX3_meanValue 21 = .ok (.dconst 0, 1) := dk_14 (dk_at dksX3_meanValue_0 21 rfl rfl)
theorem dX3_meanValue_22 : decode cX3_meanValue 22 = .ok (.dreturn, 1) := dk_175 (dk_at dksX3_meanValue_0 22 rfl rfl)
theorem dX3_meanValue_23 : decode cX3_meanValue 23 = .ok (.iconst 0, 1) := dk_3 (dk_at dksX3_meanValue_0 23 rfl rfl)
theorem dX3_meanValue_24 : decode cX3_meanValue 24 = .ok (.istore_n 1, 1) := dk_60 (dk_at dksX3_meanValue_1 0 rfl rfl)
theorem dX3_meanValue_25 : decode cX3_meanValue 25 = .ok (.iconst 0, 1) := dk_3 (dk_at dksX3_meanValue_1 1 rfl rfl)
theorem dX3_meanValue_26 : decode cX3_meanValue 26 = .ok (.istore_n 2, 1) := dk_61 (dk_at dksX3_meanValue_1 2 rfl rfl)
theorem dX3_meanValue_27 : decode cX3_meanValue 27 = .ok (.iload_n 2, 1) := dk_28 (dk_at dksX3_meanValue_1 3 rfl rfl)
theorem dX3_meanValue_28 : decode cX3_meanValue 28 = .ok (.aload_n 0, 1) := dk_42 (dk_at dksX3_meanValue_1 4 rfl rfl)
theorem dX3_meanValue_29 : decode cX3_meanValue 29 = .ok (.getfield 7, 3) := dk_180 0 7 (dk_at dksX3_meanValue_1 5 rfl rfl)
theorem dX3_meanValue_32 : decode cX3_meanValue 32 = .ok (.iconst 1, 1) := dk_4 (dk_at dksX3_meanValue_1 8 rfl rfl)
theorem dX3_meanValue_33 : decode cX3_meanValue 33 = .ok (.iaload, 1) := dk_46 (dk_at dksX3_meanValue_1 9 rfl rfl)
theorem dX3_meanValue_34 : decode cX3_meanValue 34 = .ok (.if_icmp .ge 17, 3) := dk_162 0 17 (dk_at dksX3_meanValue_1 10 rfl rfl)
theorem dX3_meanValue_37 : decode cX3_meanValue 37 = .ok (.iload_n 1, 1) := dk_27 (dk_at dksX3_meanValue_1 13 rfl rfl)
theorem dX3_meanValue_38 : decode cX3_meanValue 38 = .ok (.aload_n 0, 1) := dk_42 (dk_at dksX3_meanValue_1 14 rfl rfl)
theorem dX3_meanValue_39 : decode cX3_meanValue 39 = .ok (.iload_n 2, 1) := dk_28 (dk_at dksX3_meanValue_1 15 rfl rfl)
theorem dX3_meanValue_40 : decode cX3_meanValue 40 = .ok (.invokevirtual 172, 3) := dk_182 0 172 (dk_at dksX3_meanValue_1 16 rfl rfl)
theorem dX3_meanValue_43 : decode cX3_meanValue 43 = .ok (.iadd, 1) := dk_96 (dk_at dksX3_meanValue_1 19 rfl rfl)
theorem dX3_meanValue_44 : decode cX3_meanValue 44 = .ok (.istore_n 1, 1) := dk_60 (dk_at dksX3_meanValue_1 20 rfl rfl)
theorem dX3_meanValue_45 : decode cX3_meanValue 45 = .ok (.iinc 2 1, 3) := dk_132 2 1 (dk_at dksX3_meanValue_1 21 rfl rfl)
theorem dX3_meanValue_48 : decode cX3_meanValue 48 = .ok (.goto (-21), 3) := dk_167 255 235 (dk_at dksX3_meanValue_2 0 rfl rfl)
theorem dX3_meanValue_51 : decode cX3_meanValue 51 = .ok (.iload_n 1, 1) := dk_27 (dk_at dksX3_meanValue_2 3 rfl rfl)
theorem dX3_meanValue_52 : decode cX3_meanValue 52 = .ok (.i2d, 1) := dk_135 (dk_at dksX3_meanValue_2 4 rfl rfl)
theorem dX3_meanValue_53 : decode cX3_meanValue 53 = .ok (.aload_n 0, 1) := dk_42 (dk_at dksX3_meanValue_2 5 rfl rfl)
theorem dX3_meanValue_54 : decode cX3_meanValue 54 = .ok (.getfield 7, 3) := dk_180 0 7 (dk_at dksX3_meanValue_2 6 rfl rfl)
theorem dX3_meanValue_57 : decode cX3_meanValue 57 = .ok (.iconst 1, 1) := dk_4 (dk_at dksX3_meanValue_2 9 rfl rfl)
theorem dX3_meanValue_58 : decode cX3_meanValue 58 = .ok (.iaload, 1) := dk_46 (dk_at dksX3_meanValue_2 10 rfl rfl)
theorem dX3_meanValue_59 : decode cX3_meanValue 59 = .ok (.i2d, 1) := dk_135 (dk_at dksX3_meanValue_2 11 rfl rfl)
theorem dX3_meanValue_60 : decode cX3_meanValue 60 = .ok (.ddiv, 1) := dk_111 (dk_at dksX3_meanValue_2 12 rfl rfl)
theorem dX3_meanValue_61 : decode cX3_meanValue 61 = .ok (.dreturn, 1) := dk_175 (dk_at dksX3_meanValue_2 13 rfl rfl)
abbrev cX3_favorShare : ByteArray := prog_11_method_85_code
def yX3_favorShare : MethodName := ⟨RX3, "favorShare", "(I)F"⟩
def dkwX3_favorShare_2 : List UInt8 := [182, 0, 189, 134, 110, 174]
abbrev dktX3_favorShare_2 : List UInt8 := dkwX3_favorShare_2 ++ []
def dkwX3_favorShare_1 : List UInt8 := [3, 182, 0, 70, 153, 0, 7, 11, 167, 0, 19, 42, 180, 0, 7, 16, 16, 27, 96, 46, 134, 42]
abbrev dktX3_favorShare_1 : List UInt8 := dkwX3_favorShare_1 ++ dktX3_favorShare_2
def dkwX3_favorShare_0 : List UInt8 := [42, 42, 27, 182, 0, 66, 154, 0, 7, 4, 167, 0, 15, 42, 182, 0, 189, 154, 0, 7, 5, 167, 0, 4]
abbrev dktX3_favorShare_0 : List UInt8 := dkwX3_favorShare_0 ++ dktX3_favorShare_1
theorem dksX3_favorShare_0 : cX3_favorShare.data.toList.drop 0 = dktX3_favorShare_0 := by decide +kernel
theorem dksX3_favorShare_1 : cX3_favorShare.data.toList.drop 24 = dktX3_favorShare_1 := dk_seg dksX3_favorShare_0 24 rfl rfl
theorem dksX3_favorShare_2 : cX3_favorShare.data.toList.drop 46 = dktX3_favorShare_2 := dk_seg dksX3_favorShare_1 22 rfl rfl
theorem dX3_favorShare_0 : decode cX3_favorShare 0 = .ok (.aload_n 0, 1) := dk_42 (dk_at dksX3_favorShare_0 0 rfl rfl)
theorem dX3_favorShare_1 : decode cX3_favorShare 1 = .ok (.aload_n 0, 1) := dk_42 (dk_at dksX3_favorShare_0 1 rfl rfl)
theorem dX3_favorShare_2 : decode cX3_favorShare 2 = .ok (.iload_n 1, 1) := dk_27 (dk_at dksX3_favorShare_0 2 rfl rfl)
theorem dX3_favorShare_3 : decode cX3_favorShare 3 = .ok (.invokevirtual 66, 3) := dk_182 0 66 (dk_at dksX3_favorShare_0 3 rfl rfl)
theorem dX3_favorShare_6 : decode cX3_favorShare 6 = .ok (.ifCond .ne 7, 3) := dk_154 0 7 (dk_at dksX3_favorShare_0 6 rfl rfl)
theorem dX3_favorShare_9 : decode cX3_favorShare 9 = .ok (.iconst 1, 1) := dk_4 (dk_at dksX3_favorShare_0 9 rfl rfl)
theorem dX3_favorShare_10 : decode cX3_favorShare 10 = .ok (.goto 15, 3) := dk_167 0 15 (dk_at dksX3_favorShare_0 10 rfl rfl)
theorem dX3_favorShare_13 : decode cX3_favorShare 13 = .ok (.aload_n 0, 1) := dk_42 (dk_at dksX3_favorShare_0 13 rfl rfl)
theorem dX3_favorShare_14 : decode cX3_favorShare 14 = .ok (.invokevirtual 189, 3) := dk_182 0 189 (dk_at dksX3_favorShare_0 14 rfl rfl)
theorem dX3_favorShare_17 : decode cX3_favorShare 17 = .ok (.ifCond .ne 7, 3) := dk_154 0 7 (dk_at dksX3_favorShare_0 17 rfl rfl)
theorem dX3_favorShare_20 : decode cX3_favorShare 20 = .ok (.iconst 2, 1) := dk_5 (dk_at dksX3_favorShare_0 20 rfl rfl)
theorem dX3_favorShare_21 : decode cX3_favorShare 21 = .ok (.goto 4, 3) := dk_167 0 4 (dk_at dksX3_favorShare_0 21 rfl rfl)
theorem dX3_favorShare_24 : decode cX3_favorShare 24 = .ok (.iconst 0, 1) := dk_3 (dk_at dksX3_favorShare_1 0 rfl rfl)
theorem dX3_favorShare_25 : decode cX3_favorShare 25 = .ok (.invokevirtual 70, 3) := dk_182 0 70 (dk_at dksX3_favorShare_1 1 rfl rfl)
theorem dX3_favorShare_28 : decode cX3_favorShare 28 = .ok (.ifCond .eq 7, 3) := dk_153 0 7 (dk_at dksX3_favorShare_1 4 rfl rfl)
theorem dX3_favorShare_31 : decode cX3_favorShare 31 = .ok (.fconst 0, 1) := dk_11 (dk_at dksX3_favorShare_1 7 rfl rfl)
theorem dX3_favorShare_32 : decode cX3_favorShare 32 = .ok (.goto 19, 3) := dk_167 0 19 (dk_at dksX3_favorShare_1 8 rfl rfl)
theorem dX3_favorShare_35 : decode cX3_favorShare 35 = .ok (.aload_n 0, 1) := dk_42 (dk_at dksX3_favorShare_1 11 rfl rfl)
theorem dX3_favorShare_36 : decode cX3_favorShare 36 = .ok (.getfield 7, 3) := dk_180 0 7 (dk_at dksX3_favorShare_1 12 rfl rfl)
theorem dX3_favorShare_39 : decode cX3_favorShare 39 = .ok (.bipush 16, 2) := dk_16 16 (dk_at dksX3_favorShare_1 15 rfl rfl)
theorem dX3_favorShare_41 : decode cX3_favorShare 41 = .ok (.iload_n 1, 1) := dk_27 (dk_at dksX3_favorShare_1 17 rfl rfl)
theorem dX3_favorShare_42 : decode cX3_favorShare 42 = .ok (.iadd, 1) := dk_96 (dk_at dksX3_favorShare_1 18 rfl rfl)
theorem dX3_favorShare_43 : decode cX3_favorShare 43 = .ok (.iaload, 1) := dk_46 (dk_at dksX3_favorShare_1 19 rfl rfl)
theorem dX3_favorShare_44 : decode cX3_favorShare 44 = .ok (.i2f, 1) := dk_134 (dk_at dksX3_favorShare_1 20 rfl rfl)
theorem dX3_favorShare_45 : decode cX3_favorShare 45 = .ok (.aload_n 0, 1) := dk_42 (dk_at dksX3_favorShare_1 21 rfl rfl)
theorem dX3_favorShare_46 : decode cX3_favorShare 46 = .ok (.invokevirtual 189, 3) := dk_182 0 189 (dk_at dksX3_favorShare_2 0 rfl rfl)
theorem dX3_favorShare_49 : decode cX3_favorShare 49 = .ok (.i2f, 1) := dk_134 (dk_at dksX3_favorShare_2 3 rfl rfl)
theorem dX3_favorShare_50 : decode cX3_favorShare 50 = .ok (.fdiv, 1) := dk_110 (dk_at dksX3_favorShare_2 4 rfl rfl)
theorem dX3_favorShare_51 : decode cX3_favorShare 51 = .ok (.freturn, 1) := dk_174 (dk_at dksX3_favorShare_2 5 rfl rfl)
abbrev cX3_allFavor : ByteArray := prog_11_method_84_code
def yX3_allFavor : MethodName := ⟨RX3, "allFavor", "()I"⟩
def dkwX3_allFavor_1 : List UInt8 := [132, 2, 1, 167, 255, 235, 27, 172]
abbrev dktX3_allFavor_1 : List UInt8 := dkwX3_allFavor_1 ++ []
def dkwX3_allFavor_0 : List UInt8 := [3, 60, 3, 61, 28, 16, 8, 162, 0, 21, 27, 42, 180, 0, 7, 16, 16, 28, 96, 46, 96, 60]
abbrev dktX3_allFavor_0 : List UInt8 := dkwX3_allFavor_0 ++ dktX3_allFavor_1
theorem dksX3_allFavor_0 : cX3_allFavor.data.toList.drop 0 = dktX3_allFavor_0 := by decide +kernel
theorem dksX3_allFavor_1 : cX3_allFavor.data.toList.drop 22 = dktX3_allFavor_1 := dk_seg dksX3_allFavor_0 22 rfl rfl
theorem dX3_allFavor_0 : decode cX3_allFavor 0 = .ok (.iconst 0, 1) := dk_3 (dk_at dksX3_allFavor_0 0 rfl rfl)
theorem dX3_allFavor_1 : decode cX3_allFavor 1 = .ok (.istore_n 1, 1) := dk_60 (dk_at dksX3_allFavor_0 1 rfl rfl)
theorem dX3_allFavor_2 : decode cX3_allFavor 2 = .ok (.iconst 0, 1) := dk_3 (dk_at dksX3_allFavor_0 2 rfl rfl)
theorem dX3_allFavor_3 : decode cX3_allFavor 3 = .ok (.istore_n 2, 1) := dk_61 (dk_at dksX3_allFavor_0 3 rfl rfl)
theorem dX3_allFavor_4 : decode cX3_allFavor 4 = .ok (.iload_n 2, 1) := dk_28 (dk_at dksX3_allFavor_0 4 rfl rfl)
theorem dX3_allFavor_5 : decode cX3_allFavor 5 = .ok (.bipush 8, 2) := dk_16 8 (dk_at dksX3_allFavor_0 5 rfl rfl)
theorem dX3_allFavor_7 : decode cX3_allFavor 7 = .ok (.if_icmp .ge 21, 3) := dk_162 0 21 (dk_at dksX3_allFavor_0 7 rfl rfl)
theorem dX3_allFavor_10 : decode cX3_allFavor 10 = .ok (.iload_n 1, 1) := dk_27 (dk_at dksX3_allFavor_0 10 rfl rfl)
theorem dX3_allFavor_11 : decode cX3_allFavor 11 = .ok (.aload_n 0, 1) := dk_42 (dk_at dksX3_allFavor_0 11 rfl rfl)
theorem dX3_allFavor_12 : decode cX3_allFavor 12 = .ok (.getfield 7, 3) := dk_180 0 7 (dk_at dksX3_allFavor_0 12 rfl rfl)
theorem dX3_allFavor_15 : decode cX3_allFavor 15 = .ok (.bipush 16, 2) := dk_16 16 (dk_at dksX3_allFavor_0 15 rfl rfl)
theorem dX3_allFavor_17 : decode cX3_allFavor 17 = .ok (.iload_n 2, 1) := dk_28 (dk_at dksX3_allFavor_0 17 rfl rfl)
theorem dX3_allFavor_18 : decode cX3_allFavor 18 = .ok (.iadd, 1) := dk_96 (dk_at dksX3_allFavor_0 18 rfl rfl)
theorem dX3_allFavor_19 : decode cX3_allFavor 19 = .ok (.iaload, 1) := dk_46 (dk_at dksX3_allFavor_0 19 rfl rfl)
theorem dX3_allFavor_20 : decode cX3_allFavor 20 = .ok (.iadd, 1) := dk_96 (dk_at dksX3_allFavor_0 20 rfl rfl)
theorem dX3_allFavor_21 : decode cX3_allFavor 21 = .ok (.istore_n 1, 1) := dk_60 (dk_at dksX3_allFavor_0 21 rfl rfl)
theorem dX3_allFavor_22 : decode cX3_allFavor 22 = .ok (.iinc 2 1, 3) := dk_132 2 1 (dk_at dksX3_allFavor_1 0 rfl rfl)
theorem dX3_allFavor_25 : decode cX3_allFavor 25 = .ok (.goto (-21), 3) := dk_167 255 235 (dk_at dksX3_allFavor_1 3 rfl rfl)
theorem dX3_allFavor_28 : decode cX3_allFavor 28 = .ok (.iload_n 1, 1) := dk_27 (dk_at dksX3_allFavor_1 6 rfl rfl)
theorem dX3_allFavor_29 : decode cX3_allFavor 29 = .ok (.ireturn, 1) := dk_172 (dk_at dksX3_allFavor_1 7 rfl rfl)
abbrev cX3_writeLine : ByteArray := prog_11_method_87_code
def yX3_writeLine : MethodName := ⟨RX3, "writeLine", "(I)I"⟩
def dkwX3_writeLine_5 : List UInt8 := [180, 0, 192, 172]
abbrev dktX3_writeLine_5 : List UInt8 := dkwX3_writeLine_5 ++ []
def dkwX3_writeLine_4 : List UInt8 := [42, 42, 28, 29, 182, 0, 163, 182, 0, 195, 132, 3, 1, 167, 255, 234, 132, 2, 1, 167, 255, 191, 42]
abbrev dktX3_writeLine_4 : List UInt8 := dkwX3_writeLine_4 ++ dktX3_writeLine_5
def dkwX3_writeLine_3 : List UInt8 := [42, 180, 0, 192, 158, 0, 9, 42, 16, 32, 182, 0, 195, 3, 62, 29, 42, 28, 182, 0, 179, 162, 0, 19]
abbrev dktX3_writeLine_3 : List UInt8 := dkwX3_writeLine_3 ++ dktX3_writeLine_4
def dkwX3_writeLine_2 : List UInt8 := [3, 61, 28, 42, 180, 0, 7, 4, 46, 162, 0, 61, 42, 28, 182, 0, 186, 27, 159, 0, 6, 167, 0, 43]
abbrev dktX3_writeLine_2 : List UInt8 := dkwX3_writeLine_2 ++ dktX3_writeLine_3
def dkwX3_writeLine_1 : List UInt8 := [184, 0, 62, 153, 0, 7, 3, 167, 0, 4, 4, 182, 0, 70, 153, 0, 5, 3, 172, 42, 3, 181, 0, 192]
abbrev dktX3_writeLine_1 : List UInt8 := dkwX3_writeLine_1 ++ dktX3_writeLine_2
def dkwX3_writeLine_0 : List UInt8 := [42, 4, 182, 0, 183, 154, 0, 35, 42, 27, 3, 42, 42, 180, 0, 7, 4, 46, 182, 0, 186, 4, 100]
abbrev dktX3_writeLine_0 : List UInt8 := dkwX3_writeLine_0 ++ dktX3_writeLine_1
theorem dksX3_writeLine_0 : cX3_writeLine.data.toList.drop 0 = dktX3_writeLine_0 := by decide +kernel
theorem dksX3_writeLine_1 : cX3_writeLine.data.toList.drop 23 = dktX3_writeLine_1 := dk_seg dksX3_writeLine_0 23 rfl rfl
theorem dksX3_writeLine_2 : cX3_writeLine.data.toList.drop 47 = dktX3_writeLine_2 := dk_seg dksX3_writeLine_1 24 rfl rfl
theorem dksX3_writeLine_3 : cX3_writeLine.data.toList.drop 71 = dktX3_writeLine_3 := dk_seg dksX3_writeLine_2 24 rfl rfl
theorem dksX3_writeLine_4 : cX3_writeLine.data.toList.drop 95 = dktX3_writeLine_4 := dk_seg dksX3_writeLine_3 24 rfl rfl
theorem dksX3_writeLine_5 : cX3_writeLine.data.toList.drop 118 = dktX3_writeLine_5 := dk_seg dksX3_writeLine_4 23 rfl rfl
theorem dX3_writeLine_0 : decode cX3_writeLine 0 = .ok (.aload_n 0, 1) := dk_42 (dk_at dksX3_writeLine_0 0 rfl rfl)
theorem dX3_writeLine_1 : decode cX3_writeLine 1 = .ok (.iconst 1, 1) := dk_4 (dk_at dksX3_writeLine_0 1 rfl rfl)
theorem dX3_writeLine_2 : decode cX3_writeLine 2 = .ok (.invokevirtual 183, 3) := dk_182 0 183 (dk_at dksX3_writeLine_0 2 rfl rfl)
theorem dX3_writeLine_5 : decode cX3_writeLine 5 = .ok (.ifCond .ne 35, 3) := dk_154 0 35 (dk_at dksX3_writeLine_0 5 rfl rfl)
theorem dX3_writeLine_8 : decode cX3_writeLine 8 = .ok (.aload_n 0, 1) := dk_42 (dk_at dksX3_writeLine_0 8 rfl rfl)
theorem dX3_writeLine_9 : decode cX3_writeLine 9 = .ok (.iload_n 1, 1) := dk_27 (dk_at dksX3_writeLine_0 9 rfl rfl)
theorem dX3_writeLine_10 : decode cX3_writeLine 10 = .ok (.iconst 0, 1) := dk_3 (dk_at dksX3_writeLine_0 10 rfl rfl)
theorem dX3_writeLine_11 : decode cX3_writeLine 11 = .ok (.aload_n 0, 1) := dk_42 (dk_at dksX3_writeLine_0 11 rfl rfl)
theorem dX3_writeLine_12 : decode cX3_writeLine 12 = .ok (.aload_n 0, 1) := dk_42 (dk_at dksX3_writeLine_0 12 rfl rfl)
theorem dX3_writeLine_13 : decode cX3_writeLine 13 = .ok (.getfield 7, 3) := dk_180 0 7 (dk_at dksX3_writeLine_0 13 rfl rfl)
theorem dX3_writeLine_16 : decode cX3_writeLine 16 = .ok (.iconst 1, 1) := dk_4 (dk_at dksX3_writeLine_0 16 rfl rfl)
theorem dX3_writeLine_17 : decode cX3_writeLine 17 = .ok (.iaload, 1) := dk_46 (dk_at dksX3_writeLine_0 17 rfl rfl)
theorem dX3_writeLine_18 : decode cX3_writeLine 18 = .ok (.invokevirtual 186, 3) := dk_182 0 186 (dk_at dksX3_writeLine_0 18 rfl rfl)
theorem dX3_writeLine_21 : decode cX3_writeLine 21 = .ok (.iconst 1, 1) := dk_4 (dk_at dksX3_writeLine_0 21 rfl rfl)
theorem dX3_writeLine_22 : decode cX3_writeLine 22 = .ok (.isub, 1) := dk_100 (dk_at dksX3_writeLine_0 22 rfl rfl)
theorem dX3_writeLine_23 : decode cX3_writeLine 23 = .ok (.invokestatic 62, 3) := dk_184 0 62 (dk_at dksX3_writeLine_1 0 rfl rfl)
theorem dX3_writeLine_26 : decode cX3_writeLine 26 = .ok (.ifCond .eq 7, 3) := dk_153 0 7 (dk_at dksX3_writeLine_1 3 rfl rfl)
theorem dX3_writeLine_29 : decode cX3_writeLine 29 = .ok (.iconst 0, 1) := dk_3 (dk_at dksX3_writeLine_1 6 rfl rfl)
theorem dX3_writeLine_30 : decode cX3_writeLine 30 = .ok (.goto 4, 3) := dk_167 0 4 (dk_at dksX3_writeLine_1 7 rfl rfl)
theorem dX3_writeLine_33 : decode cX3_writeLine 33 = .ok (.iconst 1, 1) := dk_4 (dk_at dksX3_writeLine_1 10 rfl rfl)
theorem dX3_writeLine_34 : decode cX3_writeLine 34 = .ok (.invokevirtual 70, 3) := dk_182 0 70 (dk_at dksX3_writeLine_1 11 rfl rfl)
theorem dX3_writeLine_37 : decode cX3_writeLine 37 = .ok (.ifCond .eq 5, 3) := dk_153 0 5 (dk_at dksX3_writeLine_1 14 rfl rfl)
theorem dX3_writeLine_40 : decode cX3_writeLine 40 = .ok (.iconst 0, 1) := dk_3 (dk_at dksX3_writeLine_1 17 rfl rfl)
theorem dX3_writeLine_41 : decode cX3_writeLine 41 = .ok (.ireturn, 1) := dk_172 (dk_at dksX3_writeLine_1 18 rfl rfl)
theorem dX3_writeLine_42 : decode cX3_writeLine 42 = .ok (.aload_n 0, 1) := dk_42 (dk_at dksX3_writeLine_1 19 rfl rfl)
theorem dX3_writeLine_43 : decode cX3_writeLine 43 = .ok (.iconst 0, 1) := dk_3 (dk_at dksX3_writeLine_1 20 rfl rfl)
theorem dX3_writeLine_44 : decode cX3_writeLine 44 = .ok (.putfield 192, 3) := dk_181 0 192 (dk_at dksX3_writeLine_1 21 rfl rfl)
theorem dX3_writeLine_47 : decode cX3_writeLine 47 = .ok (.iconst 0, 1) := dk_3 (dk_at dksX3_writeLine_2 0 rfl rfl)
theorem dX3_writeLine_48 : decode cX3_writeLine 48 = .ok (.istore_n 2, 1) := dk_61 (dk_at dksX3_writeLine_2 1 rfl rfl)
theorem dX3_writeLine_49 : decode cX3_writeLine 49 = .ok (.iload_n 2, 1) := dk_28 (dk_at dksX3_writeLine_2 2 rfl rfl)
theorem dX3_writeLine_50 : decode cX3_writeLine 50 = .ok (.aload_n 0, 1) := dk_42 (dk_at dksX3_writeLine_2 3 rfl rfl)
theorem dX3_writeLine_51 : decode cX3_writeLine 51 = .ok (.getfield 7, 3) := dk_180 0 7 (dk_at dksX3_writeLine_2 4 rfl rfl)
theorem dX3_writeLine_54 : decode cX3_writeLine 54 = .ok (.iconst 1, 1) := dk_4 (dk_at dksX3_writeLine_2 7 rfl rfl)
theorem dX3_writeLine_55 : decode cX3_writeLine 55 = .ok (.iaload, 1) := dk_46 (dk_at dksX3_writeLine_2 8 rfl rfl)
theorem dX3_writeLine_56 : decode cX3_writeLine 56 = .ok (.if_icmp .ge 61, 3) := dk_162 0 61 (dk_at dksX3_writeLine_2 9 rfl rfl)
theorem dX3_writeLine_59 : decode cX3_writeLine 59 = .ok (.aload_n 0, 1) := dk_42 (dk_at dksX3_writeLine_2 12 rfl rfl)
theorem dX3_writeLine_60 : decode cX3_writeLine 60 = .ok (.iload_n 2, 1) := dk_28 (dk_at dksX3_writeLine_2 13 rfl rfl)
theorem dX3_writeLine_61 : decode cX3_writeLine 61 = .ok (.invokevirtual 186, 3) := dk_182 0 186 (dk_at dksX3_writeLine_2 14 rfl rfl)
theorem dX3_writeLine_64 : decode cX3_writeLine 64 = .ok (.iload_n 1, 1) := dk_27 (dk_at dksX3_writeLine_2 17 rfl rfl)
theorem dX3_writeLine_65 : decode cX3_writeLine 65 = .ok (.if_icmp .eq 6, 3) := dk_159 0 6 (dk_at dksX3_writeLine_2 18 rfl rfl)
theorem dX3_writeLine_68 : decode cX3_writeLine 68 = .ok (.goto 43, 3) := dk_167 0 43 (dk_at dksX3_writeLine_2 21 rfl rfl)
theorem dX3_writeLine_71 : decode cX3_writeLine 71 = .ok (.aload_n 0, 1) := dk_42 (dk_at dksX3_writeLine_3 0 rfl rfl)
theorem dX3_writeLine_72 : decode cX3_writeLine 72 = .ok (.getfield 192, 3) := dk_180 0 192 (dk_at dksX3_writeLine_3 1 rfl rfl)
theorem dX3_writeLine_75 : decode cX3_writeLine 75 = .ok (.ifCond .le 9, 3) := dk_158 0 9 (dk_at dksX3_writeLine_3 4 rfl rfl)
theorem dX3_writeLine_78 : decode cX3_writeLine 78 = .ok (.aload_n 0, 1) := dk_42 (dk_at dksX3_writeLine_3 7 rfl rfl)
theorem dX3_writeLine_79 : decode cX3_writeLine 79 = .ok (.bipush 32, 2) := dk_16 32 (dk_at dksX3_writeLine_3 8 rfl rfl)
theorem dX3_writeLine_81 : decode cX3_writeLine 81 = .ok (.invokevirtual 195, 3) := dk_182 0 195 (dk_at dksX3_writeLine_3 10 rfl rfl)
theorem dX3_writeLine_84 : decode cX3_writeLine 84 = .ok (.iconst 0, 1) := dk_3 (dk_at dksX3_writeLine_3 13 rfl rfl)
theorem dX3_writeLine_85 : decode cX3_writeLine 85 = .ok (.istore_n 3, 1) := dk_62 (dk_at dksX3_writeLine_3 14 rfl rfl)
theorem dX3_writeLine_86 : decode cX3_writeLine 86 = .ok (.iload_n 3, 1) := dk_29 (dk_at dksX3_writeLine_3 15 rfl rfl)
theorem dX3_writeLine_87 : decode cX3_writeLine 87 = .ok (.aload_n 0, 1) := dk_42 (dk_at dksX3_writeLine_3 16 rfl rfl)
theorem dX3_writeLine_88 : decode cX3_writeLine 88 = .ok (.iload_n 2, 1) := dk_28 (dk_at dksX3_writeLine_3 17 rfl rfl)
theorem dX3_writeLine_89 : decode cX3_writeLine 89 = .ok (.invokevirtual 179, 3) := dk_182 0 179 (dk_at dksX3_writeLine_3 18 rfl rfl)
theorem dX3_writeLine_92 : decode cX3_writeLine 92 = .ok (.if_icmp .ge 19, 3) := dk_162 0 19 (dk_at dksX3_writeLine_3 21 rfl rfl)
theorem dX3_writeLine_95 : decode cX3_writeLine 95 = .ok (.aload_n 0, 1) := dk_42 (dk_at dksX3_writeLine_4 0 rfl rfl)
theorem dX3_writeLine_96 : decode cX3_writeLine 96 = .ok (.aload_n 0, 1) := dk_42 (dk_at dksX3_writeLine_4 1 rfl rfl)
theorem dX3_writeLine_97 : decode cX3_writeLine 97 = .ok (.iload_n 2, 1) := dk_28 (dk_at dksX3_writeLine_4 2 rfl rfl)
theorem dX3_writeLine_98 : decode cX3_writeLine 98 = .ok (.iload_n 3, 1) := dk_29 (dk_at dksX3_writeLine_4 3 rfl rfl)
theorem dX3_writeLine_99 : decode cX3_writeLine 99 = .ok (.invokevirtual 163, 3) := dk_182 0 163 (dk_at dksX3_writeLine_4 4 rfl rfl)
theorem dX3_writeLine_102 : decode cX3_writeLine 102 = .ok (.invokevirtual 195, 3) := dk_182 0 195 (dk_at dksX3_writeLine_4 7 rfl rfl)
theorem dX3_writeLine_105 : decode cX3_writeLine 105 = .ok (.iinc 3 1, 3) := dk_132 3 1 (dk_at dksX3_writeLine_4 10 rfl rfl)
theorem dX3_writeLine_108 : decode cX3_writeLine 108 = .ok (.goto (-22), 3) := dk_167 255 234 (dk_at dksX3_writeLine_4 13 rfl rfl)
theorem dX3_writeLine_111 : decode cX3_writeLine 111 = .ok (.iinc 2 1, 3) := dk_132 2 1 (dk_at dksX3_writeLine_4 16 rfl rfl)
theorem dX3_writeLine_114 : decode cX3_writeLine 114 = .ok (.goto (-65), 3) := dk_167 255 191 (dk_at dksX3_writeLine_4 19 rfl rfl)
theorem dX3_writeLine_117 : decode cX3_writeLine 117 = .ok (.aload_n 0, 1) := dk_42 (dk_at dksX3_writeLine_4 22 rfl rfl)
theorem dX3_writeLine_118 : decode cX3_writeLine 118 = .ok (.getfield 192, 3) := dk_180 0 192 (dk_at dksX3_writeLine_5 0 rfl rfl)
theorem dX3_writeLine_121 : decode cX3_writeLine 121 = .ok (.ireturn, 1) := dk_172 (dk_at dksX3_writeLine_5 3 rfl rfl)
abbrev cX3_writes : ByteArray := prog_11_method_86_code
def yX3_writes : MethodName := ⟨RX3, "writes", "(I)V"⟩
def dkwX3_writes_0 : List UInt8 := [42, 180, 0, 26, 42, 180, 0, 192, 27, 146, 85, 42, 89, 180, 0, 192, 4, 96, 181, 0, 192, 177]
abbrev dktX3_writes_0 : List UInt8 := dkwX3_writes_0 ++ []
theorem dksX3_writes_0 : cX3_writes.data.toList.drop 0 = dktX3_writes_0 := by decide +kernel
theorem dX3_writes_0 : decode cX3_writes 0 = .ok (.aload_n 0, 1) := dk_42 (dk_at dksX3_writes_0 0 rfl rfl)
theorem dX3_writes_1 : decode cX3_writes 1 = .ok (.getfield 26, 3) := dk_180 0 26 (dk_at dksX3_writes_0 1 rfl rfl)
theorem dX3_writes_4 : decode cX3_writes 4 = .ok (.aload_n 0, 1) := dk_42 (dk_at dksX3_writes_0 4 rfl rfl)
theorem dX3_writes_5 : decode cX3_writes 5 = .ok (.getfield 192, 3) := dk_180 0 192 (dk_at dksX3_writes_0 5 rfl rfl)
theorem dX3_writes_8 : decode cX3_writes 8 = .ok (.iload_n 1, 1) := dk_27 (dk_at dksX3_writes_0 8 rfl rfl)
theorem dX3_writes_9 : decode cX3_writes 9 = .ok (.i2c, 1) := dk_146 (dk_at dksX3_writes_0 9 rfl rfl)
theorem dX3_writes_10 : decode cX3_writes 10 = .ok (.castore, 1) := dk_85 (dk_at dksX3_writes_0 10 rfl rfl)
theorem dX3_writes_11 : decode cX3_writes 11 = .ok (.aload_n 0, 1) := dk_42 (dk_at dksX3_writes_0 11 rfl rfl)
theorem dX3_writes_12 : decode cX3_writes 12 = .ok (.dup, 1) := dk_89 (dk_at dksX3_writes_0 12 rfl rfl)
theorem dX3_writes_13 : decode cX3_writes 13 = .ok (.getfield 192, 3) := dk_180 0 192 (dk_at dksX3_writes_0 13 rfl rfl)
theorem dX3_writes_16 : decode cX3_writes 16 = .ok (.iconst 1, 1) := dk_4 (dk_at dksX3_writes_0 16 rfl rfl)
theorem dX3_writes_17 : decode cX3_writes 17 = .ok (.iadd, 1) := dk_96 (dk_at dksX3_writes_0 17 rfl rfl)
theorem dX3_writes_18 : decode cX3_writes 18 = .ok (.putfield 192, 3) := dk_181 0 192 (dk_at dksX3_writes_0 18 rfl rfl)
theorem dX3_writes_21 : decode cX3_writes 21 = .ok (.return_, 1) := dk_177 (dk_at dksX3_writes_0 21 rfl rfl)
abbrev cX3_writeProcession : ByteArray := prog_11_method_88_code
def yX3_writeProcession : MethodName := ⟨RX3, "writeProcession", "()I"⟩
def dkwX3_writeProcession_3 : List UInt8 := [180, 0, 37, 27, 46, 96, 182, 0, 195, 132, 1, 1, 167, 255, 190, 42, 180, 0, 192, 172]
abbrev dktX3_writeProcession_3 : List UInt8 := dkwX3_writeProcession_3 ++ []
def dkwX3_writeProcession_2 : List UInt8 := [27, 46, 122, 4, 126, 4, 160, 0, 8, 16, 62, 167, 0, 5, 16, 44, 182, 0, 195, 42, 16, 48, 42]
abbrev dktX3_writeProcession_2 : List UInt8 := dkwX3_writeProcession_2 ++ dktX3_writeProcession_3
def dkwX3_writeProcession_1 : List UInt8 := [162, 0, 62, 27, 158, 0, 39, 42, 42, 42, 180, 0, 37, 27, 4, 100, 46, 182, 0, 73, 42, 180, 0, 37]
abbrev dktX3_writeProcession_1 : List UInt8 := dkwX3_writeProcession_1 ++ dktX3_writeProcession_2
def dkwX3_writeProcession_0 : List UInt8 := [42, 3, 181, 0, 52, 42, 4, 182, 0, 107, 42, 3, 181, 0, 192, 3, 60, 27, 42, 180, 0, 7, 3, 46]
abbrev dktX3_writeProcession_0 : List UInt8 := dkwX3_writeProcession_0 ++ dktX3_writeProcession_1
theorem dksX3_writeProcession_0 : cX3_writeProcession.data.toList.drop 0 = dktX3_writeProcession_0 := by decide +kernel
theorem dksX3_writeProcession_1 : cX3_writeProcession.data.toList.drop 24 = dktX3_writeProcession_1 := dk_seg dksX3_writeProcession_0 24 rfl rfl
theorem dksX3_writeProcession_2 : cX3_writeProcession.data.toList.drop 48 = dktX3_writeProcession_2 := dk_seg dksX3_writeProcession_1 24 rfl rfl
theorem dksX3_writeProcession_3 : cX3_writeProcession.data.toList.drop 71 = dktX3_writeProcession_3 := dk_seg dksX3_writeProcession_2 23 rfl rfl
theorem dX3_writeProcession_0 : decode cX3_writeProcession 0 = .ok (.aload_n 0, 1) := dk_42 (dk_at dksX3_writeProcession_0 0 rfl rfl)
theorem dX3_writeProcession_1 : decode cX3_writeProcession 1 = .ok (.iconst 0, 1) := dk_3 (dk_at dksX3_writeProcession_0 1 rfl rfl)
theorem dX3_writeProcession_2 : decode cX3_writeProcession 2 = .ok (.putfield 52, 3) := dk_181 0 52 (dk_at dksX3_writeProcession_0 2 rfl rfl)
theorem dX3_writeProcession_5 : decode cX3_writeProcession 5 = .ok (.aload_n 0, 1) := dk_42 (dk_at dksX3_writeProcession_0 5 rfl rfl)
theorem dX3_writeProcession_6 : decode cX3_writeProcession 6 = .ok (.iconst 1, 1) := dk_4 (dk_at dksX3_writeProcession_0 6 rfl rfl)
theorem dX3_writeProcession_7 : decode cX3_writeProcession 7 = .ok (.invokevirtual 107, 3) := dk_182 0 107 (dk_at dksX3_writeProcession_0 7 rfl rfl)
theorem dX3_writeProcession_10 : decode cX3_writeProcession 10 = .ok (.aload_n 0, 1) := dk_42 (dk_at dksX3_writeProcession_0 10 rfl rfl)
theorem dX3_writeProcession_11 : decode cX3_writeProcession 11 = .ok (.iconst 0, 1) := dk_3 (dk_at dksX3_writeProcession_0 11 rfl rfl)
theorem dX3_writeProcession_12 : decode cX3_writeProcession 12 = .ok (.putfield 192, 3) := dk_181 0 192 (dk_at dksX3_writeProcession_0 12 rfl rfl)
theorem dX3_writeProcession_15 : decode cX3_writeProcession 15 = .ok (.iconst 0, 1) := dk_3 (dk_at dksX3_writeProcession_0 15 rfl rfl)
theorem dX3_writeProcession_16 : decode cX3_writeProcession 16 = .ok (.istore_n 1, 1) := dk_60 (dk_at dksX3_writeProcession_0 16 rfl rfl)
theorem dX3_writeProcession_17 : decode cX3_writeProcession 17 = .ok (.iload_n 1, 1) := dk_27 (dk_at dksX3_writeProcession_0 17 rfl rfl)
theorem dX3_writeProcession_18 : decode cX3_writeProcession 18 = .ok (.aload_n 0, 1) := dk_42 (dk_at dksX3_writeProcession_0 18 rfl rfl)
theorem dX3_writeProcession_19 : decode cX3_writeProcession 19 = .ok (.getfield 7, 3) := dk_180 0 7 (dk_at dksX3_writeProcession_0 19 rfl rfl)
theorem dX3_writeProcession_22 : decode cX3_writeProcession 22 = .ok (.iconst 0, 1) := dk_3 (dk_at dksX3_writeProcession_0 22 rfl rfl)
theorem dX3_writeProcession_23 : decode cX3_writeProcession 23 = .ok (.iaload, 1) := dk_46 (dk_at dksX3_writeProcession_0 23 rfl rfl)
theorem dX3_writeProcession_24 : decode cX3_writeProcession 24 = .ok (.if_icmp .ge 62, 3) := dk_162 0 62 (dk_at dksX3_writeProcession_1 0 rfl rfl)
theorem dX3_writeProcession_27 : decode cX3_writeProcession 27 = .ok (.iload_n 1, 1) := dk_27 (dk_at dksX3_writeProcession_1 3 rfl rfl)
theorem dX3_writeProcession_28 : decode cX3_writeProcession 28 = .ok (.ifCond .le 39, 3) := dk_158 0 39 (dk_at dksX3_writeProcession_1 4 rfl rfl)
theorem dX3_writeProcession_31 : decode cX3_writeProcession 31 = .ok (.aload_n 0, 1) := dk_42 (dk_at dksX3_writeProcession_1 7 rfl rfl)
theorem dX3_writeProcession_32 : decode cX3_writeProcession 32 = .ok (.aload_n 0, 1) := dk_42 (dk_at dksX3_writeProcession_1 8 rfl rfl)
theorem dX3_writeProcession_33 : decode cX3_writeProcession 33 = .ok (.aload_n 0, 1) := dk_42 (dk_at dksX3_writeProcession_1 9 rfl rfl)
theorem dX3_writeProcession_34 : decode cX3_writeProcession 34 = .ok (.getfield 37, 3) := dk_180 0 37 (dk_at dksX3_writeProcession_1 10 rfl rfl)
theorem dX3_writeProcession_37 : decode cX3_writeProcession 37 = .ok (.iload_n 1, 1) := dk_27 (dk_at dksX3_writeProcession_1 13 rfl rfl)
theorem dX3_writeProcession_38 : decode cX3_writeProcession 38 = .ok (.iconst 1, 1) := dk_4 (dk_at dksX3_writeProcession_1 14 rfl rfl)
theorem dX3_writeProcession_39 : decode cX3_writeProcession 39 = .ok (.isub, 1) := dk_100 (dk_at dksX3_writeProcession_1 15 rfl rfl)
theorem dX3_writeProcession_40 : decode cX3_writeProcession 40 = .ok (.iaload, 1) := dk_46 (dk_at dksX3_writeProcession_1 16 rfl rfl)
theorem dX3_writeProcession_41 : decode cX3_writeProcession 41 = .ok (.invokevirtual 73, 3) := dk_182 0 73 (dk_at dksX3_writeProcession_1 17 rfl rfl)
theorem dX3_writeProcession_44 : decode cX3_writeProcession 44 = .ok (.aload_n 0, 1) := dk_42 (dk_at dksX3_writeProcession_1 20 rfl rfl)
theorem dX3_writeProcession_45 : decode cX3_writeProcession 45 = .ok (.getfield 37, 3) := dk_180 0 37 (dk_at dksX3_writeProcession_1 21 rfl rfl)
theorem dX3_writeProcession_48 : decode cX3_writeProcession 48 = .ok (.iload_n 1, 1) := dk_27 (dk_at dksX3_writeProcession_2 0 rfl rfl)
theorem dX3_writeProcession_49 : decode cX3_writeProcession 49 = .ok (.iaload, 1) := dk_46 (dk_at dksX3_writeProcession_2 1 rfl rfl)
theorem dX3_writeProcession_50 : decode cX3_writeProcession 50 = .ok (.ishr, 1) := dk_122 (dk_at dksX3_writeProcession_2 2 rfl rfl)
theorem dX3_writeProcession_51 : decode cX3_writeProcession 51 = .ok (.iconst 1, 1) := dk_4 (dk_at dksX3_writeProcession_2 3 rfl rfl)
theorem dX3_writeProcession_52 : decode cX3_writeProcession 52 = .ok (.iand, 1) := dk_126 (dk_at dksX3_writeProcession_2 4 rfl rfl)
theorem dX3_writeProcession_53 : decode cX3_writeProcession 53 = .ok (.iconst 1, 1) := dk_4 (dk_at dksX3_writeProcession_2 5 rfl rfl)
theorem dX3_writeProcession_54 : decode cX3_writeProcession 54 = .ok (.if_icmp .ne 8, 3) := dk_160 0 8 (dk_at dksX3_writeProcession_2 6 rfl rfl)
theorem dX3_writeProcession_57 : decode cX3_writeProcession 57 = .ok (.bipush 62, 2) := dk_16 62 (dk_at dksX3_writeProcession_2 9 rfl rfl)
theorem dX3_writeProcession_59 : decode cX3_writeProcession 59 = .ok (.goto 5, 3) := dk_167 0 5 (dk_at dksX3_writeProcession_2 11 rfl rfl)
theorem dX3_writeProcession_62 : decode cX3_writeProcession 62 = .ok (.bipush 44, 2) := dk_16 44 (dk_at dksX3_writeProcession_2 14 rfl rfl)
theorem dX3_writeProcession_64 : decode cX3_writeProcession 64 = .ok (.invokevirtual 195, 3) := dk_182 0 195 (dk_at dksX3_writeProcession_2 16 rfl rfl)
theorem dX3_writeProcession_67 : decode cX3_writeProcession 67 = .ok (.aload_n 0, 1) := dk_42 (dk_at dksX3_writeProcession_2 19 rfl rfl)
theorem dX3_writeProcession_68 : decode cX3_writeProcession 68 = .ok (.bipush 48, 2) := dk_16 48 (dk_at dksX3_writeProcession_2 20 rfl rfl)
theorem dX3_writeProcession_70 : decode cX3_writeProcession 70 = .ok (.aload_n 0, 1) := dk_42 (dk_at dksX3_writeProcession_2 22 rfl rfl)
theorem dX3_writeProcession_71 : decode cX3_writeProcession 71 = .ok (.getfield 37, 3) := dk_180 0 37 (dk_at dksX3_writeProcession_3 0 rfl rfl)
theorem dX3_writeProcession_74 : decode cX3_writeProcession 74 = .ok (.iload_n 1, 1) := dk_27 (dk_at dksX3_writeProcession_3 3 rfl rfl)
theorem dX3_writeProcession_75 : decode cX3_writeProcession 75 = .ok (.iaload, 1) := dk_46 (dk_at dksX3_writeProcession_3 4 rfl rfl)
theorem dX3_writeProcession_76 : decode cX3_writeProcession 76 = .ok (.iadd, 1) := dk_96 (dk_at dksX3_writeProcession_3 5 rfl rfl)
theorem dX3_writeProcession_77 : decode cX3_writeProcession 77 = .ok (.invokevirtual 195, 3) := dk_182 0 195 (dk_at dksX3_writeProcession_3 6 rfl rfl)
theorem dX3_writeProcession_80 : decode cX3_writeProcession 80 = .ok (.iinc 1 1, 3) := dk_132 1 1 (dk_at dksX3_writeProcession_3 9 rfl rfl)
theorem dX3_writeProcession_83 : decode cX3_writeProcession 83 = .ok (.goto (-66), 3) := dk_167 255 190 (dk_at dksX3_writeProcession_3 12 rfl rfl)
theorem dX3_writeProcession_86 : decode cX3_writeProcession 86 = .ok (.aload_n 0, 1) := dk_42 (dk_at dksX3_writeProcession_3 15 rfl rfl)
theorem dX3_writeProcession_87 : decode cX3_writeProcession 87 = .ok (.getfield 192, 3) := dk_180 0 192 (dk_at dksX3_writeProcession_3 16 rfl rfl)
theorem dX3_writeProcession_90 : decode cX3_writeProcession 90 = .ok (.ireturn, 1) := dk_172 (dk_at dksX3_writeProcession_3 19 rfl rfl)
abbrev cX3_outputAt : ByteArray := prog_11_method_89_code
def yX3_outputAt : MethodName := ⟨RX3, "outputAt", "(I)C"⟩
def dkwX3_outputAt_1 : List UInt8 := [153, 0, 8, 16, 32, 167, 0, 9, 42, 180, 0, 26, 27, 52, 172]
abbrev dktX3_outputAt_1 : List UInt8 := dkwX3_outputAt_1 ++ []
def dkwX3_outputAt_0 : List UInt8 := [42, 27, 3, 42, 180, 0, 192, 4, 100, 184, 0, 62, 153, 0, 7, 3, 167, 0, 4, 4, 182, 0, 70]
abbrev dktX3_outputAt_0 : List UInt8 := dkwX3_outputAt_0 ++ dktX3_outputAt_1
theorem dksX3_outputAt_0 : cX3_outputAt.data.toList.drop 0 = dktX3_outputAt_0 := by decide +kernel
theorem dksX3_outputAt_1 : cX3_outputAt.data.toList.drop 23 = dktX3_outputAt_1 := dk_seg dksX3_outputAt_0 23 rfl rfl
theorem dX3_outputAt_0 : decode cX3_outputAt 0 = .ok (.aload_n 0, 1) := dk_42 (dk_at dksX3_outputAt_0 0 rfl rfl)
theorem dX3_outputAt_1 : decode cX3_outputAt 1 = .ok (.iload_n 1, 1) := dk_27 (dk_at dksX3_outputAt_0 1 rfl rfl)
theorem dX3_outputAt_2 : decode cX3_outputAt 2 = .ok (.iconst 0, 1) := dk_3 (dk_at dksX3_outputAt_0 2 rfl rfl)
theorem dX3_outputAt_3 : decode cX3_outputAt 3 = .ok (.aload_n 0, 1) := dk_42 (dk_at dksX3_outputAt_0 3 rfl rfl)
theorem dX3_outputAt_4 : decode cX3_outputAt 4 = .ok (.getfield 192, 3) := dk_180 0 192 (dk_at dksX3_outputAt_0 4 rfl rfl)
theorem dX3_outputAt_7 : decode cX3_outputAt 7 = .ok (.iconst 1, 1) := dk_4 (dk_at dksX3_outputAt_0 7 rfl rfl)
theorem dX3_outputAt_8 : decode cX3_outputAt 8 = .ok (.isub, 1) := dk_100 (dk_at dksX3_outputAt_0 8 rfl rfl)
theorem dX3_outputAt_9 : decode cX3_outputAt 9 = .ok (.invokestatic 62, 3) := dk_184 0 62 (dk_at dksX3_outputAt_0 9 rfl rfl)
theorem dX3_outputAt_12 : decode cX3_outputAt 12 = .ok (.ifCond .eq 7, 3) := dk_153 0 7 (dk_at dksX3_outputAt_0 12 rfl rfl)
theorem dX3_outputAt_15 : decode cX3_outputAt 15 = .ok (.iconst 0, 1) := dk_3 (dk_at dksX3_outputAt_0 15 rfl rfl)
theorem dX3_outputAt_16 : decode cX3_outputAt 16 = .ok (.goto 4, 3) := dk_167 0 4 (dk_at dksX3_outputAt_0 16 rfl rfl)
theorem dX3_outputAt_19 : decode cX3_outputAt 19 = .ok (.iconst 1, 1) := dk_4 (dk_at dksX3_outputAt_0 19 rfl rfl)
theorem dX3_outputAt_20 : decode cX3_outputAt 20 = .ok (.invokevirtual 70, 3) := dk_182 0 70 (dk_at dksX3_outputAt_0 20 rfl rfl)
theorem dX3_outputAt_23 : decode cX3_outputAt 23 = .ok (.ifCond .eq 8, 3) := dk_153 0 8 (dk_at dksX3_outputAt_1 0 rfl rfl)
theorem dX3_outputAt_26 : decode cX3_outputAt 26 = .ok (.bipush 32, 2) := dk_16 32 (dk_at dksX3_outputAt_1 3 rfl rfl)
theorem dX3_outputAt_28 : decode cX3_outputAt 28 = .ok (.goto 9, 3) := dk_167 0 9 (dk_at dksX3_outputAt_1 5 rfl rfl)
theorem dX3_outputAt_31 : decode cX3_outputAt 31 = .ok (.aload_n 0, 1) := dk_42 (dk_at dksX3_outputAt_1 8 rfl rfl)
theorem dX3_outputAt_32 : decode cX3_outputAt 32 = .ok (.getfield 26, 3) := dk_180 0 26 (dk_at dksX3_outputAt_1 9 rfl rfl)
theorem dX3_outputAt_35 : decode cX3_outputAt 35 = .ok (.iload_n 1, 1) := dk_27 (dk_at dksX3_outputAt_1 12 rfl rfl)
theorem dX3_outputAt_36 : decode cX3_outputAt 36 = .ok (.caload, 1) := dk_52 (dk_at dksX3_outputAt_1 13 rfl rfl)
theorem dX3_outputAt_37 : decode cX3_outputAt 37 = .ok (.ireturn, 1) := dk_172 (dk_at dksX3_outputAt_1 14 rfl rfl)
abbrev cX3_isConsistent : ByteArray := prog_11_method_90_code
def yX3_isConsistent : MethodName := ⟨RX3, "isConsistent", "()Z"⟩
def dkwX3_isConsistent_2 : List UInt8 := [172]
abbrev dktX3_isConsistent_2 : List UInt8 := dkwX3_isConsistent_2 ++ []
def dkwX3_isConsistent_1 : List UInt8 := [96, 42, 180, 0, 7, 16, 6, 46, 100, 42, 180, 0, 7, 7, 46, 100, 160, 0, 7, 4, 167, 0, 4, 3]
abbrev dktX3_isConsistent_1 : List UInt8 := dkwX3_isConsistent_1 ++ dktX3_isConsistent_2
def dkwX3_isConsistent_0 : List UInt8 := [42, 3, 181, 0, 52, 42, 182, 0, 189, 16, 20, 42, 180, 0, 7, 3, 46, 104, 42, 180, 0, 7, 8, 46]
abbrev dktX3_isConsistent_0 : List UInt8 := dkwX3_isConsistent_0 ++ dktX3_isConsistent_1
theorem dksX3_isConsistent_0 : cX3_isConsistent.data.toList.drop 0 = dktX3_isConsistent_0 := by decide +kernel
theorem dksX3_isConsistent_1 : cX3_isConsistent.data.toList.drop 24 = dktX3_isConsistent_1 := dk_seg dksX3_isConsistent_0 24 rfl rfl
theorem dksX3_isConsistent_2 : cX3_isConsistent.data.toList.drop 48 = dktX3_isConsistent_2 := dk_seg dksX3_isConsistent_1 24 rfl rfl
theorem dX3_isConsistent_0 : decode cX3_isConsistent 0 = .ok (.aload_n 0, 1) := dk_42 (dk_at dksX3_isConsistent_0 0 rfl rfl)
theorem dX3_isConsistent_1 : decode cX3_isConsistent 1 = .ok (.iconst 0, 1) := dk_3 (dk_at dksX3_isConsistent_0 1 rfl rfl)
theorem dX3_isConsistent_2 : decode cX3_isConsistent 2 = .ok (.putfield 52, 3) := dk_181 0 52 (dk_at dksX3_isConsistent_0 2 rfl rfl)
theorem dX3_isConsistent_5 : decode cX3_isConsistent 5 = .ok (.aload_n 0, 1) := dk_42 (dk_at dksX3_isConsistent_0 5 rfl rfl)
theorem dX3_isConsistent_6 : decode cX3_isConsistent 6 = .ok (.invokevirtual 189, 3) := dk_182 0 189 (dk_at dksX3_isConsistent_0 6 rfl rfl)
theorem dX3_isConsistent_9 : decode cX3_isConsistent 9 = .ok (.bipush 20, 2) := dk_16 20 (dk_at dksX3_isConsistent_0 9 rfl rfl)
theorem dX3_isConsistent_11 : decode cX3_isConsistent 11 = .ok (.aload_n 0, 1) := dk_42 (dk_at dksX3_isConsistent_0 11 rfl rfl)
theorem dX3_isConsistent_12 : decode cX3_isConsistent 12 = .ok (.getfield 7, 3) := dk_180 0 7 (dk_at dksX3_isConsistent_0 12 rfl rfl)
theorem dX3_isConsistent_15 : decode cX3_isConsistent 15 = .ok (.iconst 0, 1) := dk_3 (dk_at dksX3_isConsistent_0 15 rfl rfl)
theorem dX3_isConsistent_16 : decode cX3_isConsistent 16 = .ok (.iaload, 1) := dk_46 (dk_at dksX3_isConsistent_0 16 rfl rfl)
theorem dX3_isConsistent_17 : decode cX3_isConsistent 17 = .ok (.imul, 1) := dk_104 (dk_at dksX3_isConsistent_0 17 rfl rfl)
theorem dX3_isConsistent_18 : decode cX3_isConsistent 18 = .ok (.aload_n 0, 1) := dk_42 (dk_at dksX3_isConsistent_0 18 rfl rfl)
theorem dX3_isConsistent_19 : decode cX3_isConsistent 19 = .ok (.getfield 7, 3) := dk_180 0 7 (dk_at dksX3_isConsistent_0 19 rfl rfl)
theorem dX3_isConsistent_22 : decode cX3_isConsistent 22 = .ok (.iconst 5, 1) := dk_8 (dk_at dksX3_isConsistent_0 22 rfl rfl)
theorem dX3_isConsistent_23 : decode cX3_isConsistent 23 = .ok (.iaload, 1) := dk_46 (dk_at dksX3_isConsistent_0 23 rfl rfl)
theorem dX3_isConsistent_24 : decode cX3_isConsistent 24 = .ok (.iadd, 1) := dk_96 (dk_at dksX3_isConsistent_1 0 rfl rfl)
theorem dX3_isConsistent_25 : decode cX3_isConsistent 25 = .ok (.aload_n 0, 1) := dk_42 (dk_at dksX3_isConsistent_1 1 rfl rfl)
theorem dX3_isConsistent_26 : decode cX3_isConsistent 26 = .ok (.getfield 7, 3) := dk_180 0 7 (dk_at dksX3_isConsistent_1 2 rfl rfl)
theorem dX3_isConsistent_29 : decode cX3_isConsistent 29 = .ok (.bipush 6, 2) := dk_16 6 (dk_at dksX3_isConsistent_1 5 rfl rfl)
theorem dX3_isConsistent_31 : decode cX3_isConsistent 31 = .ok (.iaload, 1) := dk_46 (dk_at dksX3_isConsistent_1 7 rfl rfl)
theorem dX3_isConsistent_32 : decode cX3_isConsistent 32 = .ok (.isub, 1) := dk_100 (dk_at dksX3_isConsistent_1 8 rfl rfl)
theorem dX3_isConsistent_33 : decode cX3_isConsistent 33 = .ok (.aload_n 0, 1) := dk_42 (dk_at dksX3_isConsistent_1 9 rfl rfl)
theorem dX3_isConsistent_34 : decode cX3_isConsistent 34 = .ok (.getfield 7, 3) := dk_180 0 7 (dk_at dksX3_isConsistent_1 10 rfl rfl)
theorem dX3_isConsistent_37 : decode cX3_isConsistent 37 = .ok (.iconst 4, 1) := dk_7 (dk_at dksX3_isConsistent_1 13 rfl rfl)
theorem dX3_isConsistent_38 : decode cX3_isConsistent 38 = .ok (.iaload, 1) := dk_46 (dk_at dksX3_isConsistent_1 14 rfl rfl)
theorem dX3_isConsistent_39 : decode cX3_isConsistent 39 = .ok (.isub, 1) := dk_100 (dk_at dksX3_isConsistent_1 15 rfl rfl)
theorem dX3_isConsistent_40 : decode cX3_isConsistent 40 = .ok (.if_icmp .ne 7, 3) := dk_160 0 7 (dk_at dksX3_isConsistent_1 16 rfl rfl)
theorem dX3_isConsistent_43 : decode cX3_isConsistent 43 = .ok (.iconst 1, 1) := dk_4 (dk_at dksX3_isConsistent_1 19 rfl rfl)
theorem dX3_isConsistent_44 : decode cX3_isConsistent 44 = .ok (.goto 4, 3) := dk_167 0 4 (dk_at dksX3_isConsistent_1 20 rfl rfl)
theorem dX3_isConsistent_47 : decode cX3_isConsistent 47 = .ok (.iconst 0, 1) := dk_3 (dk_at dksX3_isConsistent_1 23 rfl rfl)
theorem dX3_isConsistent_48 : decode cX3_isConsistent 48 = .ok (.ireturn, 1) := dk_172 (dk_at dksX3_isConsistent_2 0 rfl rfl)
abbrev cX3_undo : ByteArray := prog_11_method_91_code
def yX3_undo : MethodName := ⟨RX3, "undo", "()I"⟩
def dkwX3_undo_2 : List UInt8 := [3, 184, 0, 58, 42, 180, 0, 55, 172]
abbrev dktX3_undo_2 : List UInt8 := dkwX3_undo_2 ++ []
def dkwX3_undo_1 : List UInt8 := [180, 0, 55, 4, 100, 181, 0, 55, 42, 180, 0, 13, 17, 0, 188, 42, 180, 0, 55, 104, 42, 180, 0, 7]
abbrev dktX3_undo_1 : List UInt8 := dkwX3_undo_1 ++ dktX3_undo_2
def dkwX3_undo_0 : List UInt8 := [42, 42, 180, 0, 55, 154, 0, 7, 4, 167, 0, 4, 3, 182, 0, 70, 153, 0, 5, 3, 172, 42, 89]
abbrev dktX3_undo_0 : List UInt8 := dkwX3_undo_0 ++ dktX3_undo_1
theorem dksX3_undo_0 : cX3_undo.data.toList.drop 0 = dktX3_undo_0 := by decide +kernel
theorem dksX3_undo_1 : cX3_undo.data.toList.drop 23 = dktX3_undo_1 := dk_seg dksX3_undo_0 23 rfl rfl
theorem dksX3_undo_2 : cX3_undo.data.toList.drop 47 = dktX3_undo_2 := dk_seg dksX3_undo_1 24 rfl rfl
theorem dX3_undo_0 : decode cX3_undo 0 = .ok (.aload_n 0, 1) := dk_42 (dk_at dksX3_undo_0 0 rfl rfl)
theorem dX3_undo_1 : decode cX3_undo 1 = .ok (.aload_n 0, 1) := dk_42 (dk_at dksX3_undo_0 1 rfl rfl)
theorem dX3_undo_2 : decode cX3_undo 2 = .ok (.getfield 55, 3) := dk_180 0 55 (dk_at dksX3_undo_0 2 rfl rfl)
theorem dX3_undo_5 : decode cX3_undo 5 = .ok (.ifCond .ne 7, 3) := dk_154 0 7 (dk_at dksX3_undo_0 5 rfl rfl)
theorem dX3_undo_8 : decode cX3_undo 8 = .ok (.iconst 1, 1) := dk_4 (dk_at dksX3_undo_0 8 rfl rfl)
theorem dX3_undo_9 : decode cX3_undo 9 = .ok (.goto 4, 3) := dk_167 0 4 (dk_at dksX3_undo_0 9 rfl rfl)
theorem dX3_undo_12 : decode cX3_undo 12 = .ok (.iconst 0, 1) := dk_3 (dk_at dksX3_undo_0 12 rfl rfl)
theorem dX3_undo_13 : decode cX3_undo 13 = .ok (.invokevirtual 70, 3) := dk_182 0 70 (dk_at dksX3_undo_0 13 rfl rfl)
theorem dX3_undo_16 : decode cX3_undo 16 = .ok (.ifCond .eq 5, 3) := dk_153 0 5 (dk_at dksX3_undo_0 16 rfl rfl)
theorem dX3_undo_19 : decode cX3_undo 19 = .ok (.iconst 0, 1) := dk_3 (dk_at dksX3_undo_0 19 rfl rfl)
theorem dX3_undo_20 : decode cX3_undo 20 = .ok (.ireturn, 1) := dk_172 (dk_at dksX3_undo_0 20 rfl rfl)
theorem dX3_undo_21 : decode cX3_undo 21 = .ok (.aload_n 0, 1) := dk_42 (dk_at dksX3_undo_0 21 rfl rfl)
theorem dX3_undo_22 : decode cX3_undo 22 = .ok (.dup, 1) := dk_89 (dk_at dksX3_undo_0 22 rfl rfl)
theorem dX3_undo_23 : decode cX3_undo 23 = .ok (.getfield 55, 3) := dk_180 0 55 (dk_at dksX3_undo_1 0 rfl rfl)
theorem dX3_undo_26 : decode cX3_undo 26 = .ok (.iconst 1, 1) := dk_4 (dk_at dksX3_undo_1 3 rfl rfl)
theorem dX3_undo_27 : decode cX3_undo 27 = .ok (.isub, 1) := dk_100 (dk_at dksX3_undo_1 4 rfl rfl)
theorem dX3_undo_28 : decode cX3_undo 28 = .ok (.putfield 55, 3) := dk_181 0 55 (dk_at dksX3_undo_1 5 rfl rfl)
theorem dX3_undo_31 : decode cX3_undo 31 = .ok (.aload_n 0, 1) := dk_42 (dk_at dksX3_undo_1 8 rfl rfl)
theorem dX3_undo_32 : decode cX3_undo 32 = .ok (.getfield 13, 3) := dk_180 0 13 (dk_at dksX3_undo_1 9 rfl rfl)
theorem dX3_undo_35 : decode cX3_undo 35 = .ok (.sipush 188, 3) := dk_17 0 188 (dk_at dksX3_undo_1 12 rfl rfl)
theorem dX3_undo_38 : decode cX3_undo 38 = .ok (.aload_n 0, 1) := dk_42 (dk_at dksX3_undo_1 15 rfl rfl)
theorem dX3_undo_39 : decode cX3_undo 39 = .ok (.getfield 55, 3) := dk_180 0 55 (dk_at dksX3_undo_1 16 rfl rfl)
theorem dX3_undo_42 : decode cX3_undo 42 = .ok (.imul, 1) := dk_104 (dk_at dksX3_undo_1 19 rfl rfl)
theorem dX3_undo_43 : decode cX3_undo 43 = .ok (.aload_n 0, 1) := dk_42 (dk_at dksX3_undo_1 20 rfl rfl)
theorem dX3_undo_44 : decode cX3_undo 44 = .ok (.getfield 7, 3) := dk_180 0 7 (dk_at dksX3_undo_1 21 rfl rfl)
theorem dX3_undo_47 : decode cX3_undo 47 = .ok (.iconst 0, 1) := dk_3 (dk_at dksX3_undo_2 0 rfl rfl)
theorem dX3_undo_48 : decode cX3_undo 48 = .ok (.invokestatic 58, 3) := dk_184 0 58 (dk_at dksX3_undo_2 1 rfl rfl)
theorem dX3_undo_51 : decode cX3_undo 51 = .ok (.aload_n 0, 1) := dk_42 (dk_at dksX3_undo_2 4 rfl rfl)
theorem dX3_undo_52 : decode cX3_undo 52 = .ok (.getfield 55, 3) := dk_180 0 55 (dk_at dksX3_undo_2 5 rfl rfl)
theorem dX3_undo_55 : decode cX3_undo 55 = .ok (.ireturn, 1) := dk_172 (dk_at dksX3_undo_2 8 rfl rfl)
abbrev cX3_undoCount : ByteArray := prog_11_method_92_code
def yX3_undoCount : MethodName := ⟨RX3, "undoCount", "()I"⟩
def dkwX3_undoCount_0 : List UInt8 := [42, 3, 181, 0, 52, 42, 180, 0, 55, 172]
abbrev dktX3_undoCount_0 : List UInt8 := dkwX3_undoCount_0 ++ []
theorem dksX3_undoCount_0 : cX3_undoCount.data.toList.drop 0 = dktX3_undoCount_0 := by decide +kernel
theorem dX3_undoCount_0 : decode cX3_undoCount 0 = .ok (.aload_n 0, 1) := dk_42 (dk_at dksX3_undoCount_0 0 rfl rfl)
theorem dX3_undoCount_1 : decode cX3_undoCount 1 = .ok (.iconst 0, 1) := dk_3 (dk_at dksX3_undoCount_0 1 rfl rfl)
theorem dX3_undoCount_2 : decode cX3_undoCount 2 = .ok (.putfield 52, 3) := dk_181 0 52 (dk_at dksX3_undoCount_0 2 rfl rfl)
theorem dX3_undoCount_5 : decode cX3_undoCount 5 = .ok (.aload_n 0, 1) := dk_42 (dk_at dksX3_undoCount_0 5 rfl rfl)
theorem dX3_undoCount_6 : decode cX3_undoCount 6 = .ok (.getfield 55, 3) := dk_180 0 55 (dk_at dksX3_undoCount_0 6 rfl rfl)
theorem dX3_undoCount_9 : decode cX3_undoCount 9 = .ok (.ireturn, 1) := dk_172 (dk_at dksX3_undoCount_0 9 rfl rfl)
abbrev cX3_save : ByteArray := prog_11_method_93_code
def yX3_save : MethodName := ⟨RX3, "save", "()I"⟩
def dkwX3_save_1 : List UInt8 := [180, 0, 7, 4, 46, 172]
abbrev dktX3_save_1 : List UInt8 := dkwX3_save_1 ++ []
def dkwX3_save_0 : List UInt8 := [42, 3, 181, 0, 52, 42, 4, 181, 0, 198, 42, 180, 0, 7, 3, 42, 180, 0, 16, 3, 184, 0, 58, 42]
abbrev dktX3_save_0 : List UInt8 := dkwX3_save_0 ++ dktX3_save_1
theorem dksX3_save_0 : cX3_save.data.toList.drop 0 = dktX3_save_0 := by decide +kernel
theorem dksX3_save_1 : cX3_save.data.toList.drop 24 = dktX3_save_1 := dk_seg dksX3_save_0 24 rfl rfl
theorem dX3_save_0 : decode cX3_save 0 = .ok (.aload_n 0, 1) := dk_42 (dk_at dksX3_save_0 0 rfl rfl)
theorem dX3_save_1 : decode cX3_save 1 = .ok (.iconst 0, 1) := dk_3 (dk_at dksX3_save_0 1 rfl rfl)
theorem dX3_save_2 : decode cX3_save 2 = .ok (.putfield 52, 3) := dk_181 0 52 (dk_at dksX3_save_0 2 rfl rfl)
theorem dX3_save_5 : decode cX3_save 5 = .ok (.aload_n 0, 1) := dk_42 (dk_at dksX3_save_0 5 rfl rfl)
theorem dX3_save_6 : decode cX3_save 6 = .ok (.iconst 1, 1) := dk_4 (dk_at dksX3_save_0 6 rfl rfl)
theorem dX3_save_7 : decode cX3_save 7 = .ok (.putfield 198, 3) := dk_181 0 198 (dk_at dksX3_save_0 7 rfl rfl)
theorem dX3_save_10 : decode cX3_save 10 = .ok (.aload_n 0, 1) := dk_42 (dk_at dksX3_save_0 10 rfl rfl)
theorem dX3_save_11 : decode cX3_save 11 = .ok (.getfield 7, 3) := dk_180 0 7 (dk_at dksX3_save_0 11 rfl rfl)
theorem dX3_save_14 : decode cX3_save 14 = .ok (.iconst 0, 1) := dk_3 (dk_at dksX3_save_0 14 rfl rfl)
theorem dX3_save_15 : decode cX3_save 15 = .ok (.aload_n 0, 1) := dk_42 (dk_at dksX3_save_0 15 rfl rfl)
theorem dX3_save_16 : decode cX3_save 16 = .ok (.getfield 16, 3) := dk_180 0 16 (dk_at dksX3_save_0 16 rfl rfl)
theorem dX3_save_19 : decode cX3_save 19 = .ok (.iconst 0, 1) := dk_3 (dk_at dksX3_save_0 19 rfl rfl)
theorem dX3_save_20 : decode cX3_save 20 = .ok (.invokestatic 58, 3) := dk_184 0 58 (dk_at dksX3_save_0 20 rfl rfl)
theorem dX3_save_23 : decode cX3_save 23 = .ok (.aload_n 0, 1) := dk_42 (dk_at dksX3_save_0 23 rfl rfl)
theorem dX3_save_24 : decode cX3_save 24 = .ok (.getfield 7, 3) := dk_180 0 7 (dk_at dksX3_save_1 0 rfl rfl)
theorem dX3_save_27 : decode cX3_save 27 = .ok (.iconst 1, 1) := dk_4 (dk_at dksX3_save_1 3 rfl rfl)
theorem dX3_save_28 : decode cX3_save 28 = .ok (.iaload, 1) := dk_46 (dk_at dksX3_save_1 4 rfl rfl)
theorem dX3_save_29 : decode cX3_save 29 = .ok (.ireturn, 1) := dk_172 (dk_at dksX3_save_1 5 rfl rfl)
abbrev cX3_restore : ByteArray := prog_11_method_94_code
def yX3_restore : MethodName := ⟨RX3, "restore", "()I"⟩
def dkwX3_restore_1 : List UInt8 := [180, 0, 16, 3, 42, 180, 0, 7, 3, 184, 0, 58, 42, 3, 181, 0, 55, 42, 180, 0, 7, 4, 46, 172]
abbrev dktX3_restore_1 : List UInt8 := dkwX3_restore_1 ++ []
def dkwX3_restore_0 : List UInt8 := [42, 42, 180, 0, 198, 153, 0, 7, 3, 167, 0, 4, 4, 182, 0, 70, 153, 0, 5, 3, 172, 42]
abbrev dktX3_restore_0 : List UInt8 := dkwX3_restore_0 ++ dktX3_restore_1
theorem dksX3_restore_0 : cX3_restore.data.toList.drop 0 = dktX3_restore_0 := by decide +kernel
theorem dksX3_restore_1 : cX3_restore.data.toList.drop 22 = dktX3_restore_1 := dk_seg dksX3_restore_0 22 rfl rfl
theorem dX3_restore_0 : decode cX3_restore 0 = .ok (.aload_n 0, 1) := dk_42 (dk_at dksX3_restore_0 0 rfl rfl)
theorem dX3_restore_1 : decode cX3_restore 1 = .ok (.aload_n 0, 1) := dk_42 (dk_at dksX3_restore_0 1 rfl rfl)
theorem dX3_restore_2 : decode cX3_restore 2 = .ok (.getfield 198, 3) := dk_180 0 198 (dk_at dksX3_restore_0 2 rfl rfl)
theorem dX3_restore_5 : decode cX3_restore 5 = .ok (.ifCond .eq 7, 3) := dk_153 0 7 (dk_at dksX3_restore_0 5 rfl rfl)
theorem dX3_restore_8 : decode cX3_restore 8 = .ok (.iconst 0, 1) := dk_3 (dk_at dksX3_restore_0 8 rfl rfl)
theorem dX3_restore_9 : decode cX3_restore 9 = .ok (.goto 4, 3) := dk_167 0 4 (dk_at dksX3_restore_0 9 rfl rfl)
theorem dX3_restore_12 : decode cX3_restore 12 = .ok (.iconst 1, 1) := dk_4 (dk_at dksX3_restore_0 12 rfl rfl)
theorem dX3_restore_13 : decode cX3_restore 13 = .ok (.invokevirtual 70, 3) := dk_182 0 70 (dk_at dksX3_restore_0 13 rfl rfl)
theorem dX3_restore_16 : decode cX3_restore 16 = .ok (.ifCond .eq 5, 3) := dk_153 0 5 (dk_at dksX3_restore_0 16 rfl rfl)
theorem dX3_restore_19 : decode cX3_restore 19 = .ok (.iconst 0, 1) := dk_3 (dk_at dksX3_restore_0 19 rfl rfl)
theorem dX3_restore_20 : decode cX3_restore 20 = .ok (.ireturn, 1) := dk_172 (dk_at dksX3_restore_0 20 rfl rfl)
theorem dX3_restore_21 : decode cX3_restore 21 = .ok (.aload_n 0, 1) := dk_42 (dk_at dksX3_restore_0 21 rfl rfl)
theorem dX3_restore_22 : decode cX3_restore 22 = .ok (.getfield 16, 3) := dk_180 0 16 (dk_at dksX3_restore_1 0 rfl rfl)
theorem dX3_restore_25 : decode cX3_restore 25 = .ok (.iconst 0, 1) := dk_3 (dk_at dksX3_restore_1 3 rfl rfl)
theorem dX3_restore_26 : decode cX3_restore 26 = .ok (.aload_n 0, 1) := dk_42 (dk_at dksX3_restore_1 4 rfl rfl)
theorem dX3_restore_27 : decode cX3_restore 27 = .ok (.getfield 7, 3) := dk_180 0 7 (dk_at dksX3_restore_1 5 rfl rfl)
theorem dX3_restore_30 : decode cX3_restore 30 = .ok (.iconst 0, 1) := dk_3 (dk_at dksX3_restore_1 8 rfl rfl)
theorem dX3_restore_31 : decode cX3_restore 31 = .ok (.invokestatic 58, 3) := dk_184 0 58 (dk_at dksX3_restore_1 9 rfl rfl)
theorem dX3_restore_34 : decode cX3_restore 34 = .ok (.aload_n 0, 1) := dk_42 (dk_at dksX3_restore_1 12 rfl rfl)
theorem dX3_restore_35 : decode cX3_restore 35 = .ok (.iconst 0, 1) := dk_3 (dk_at dksX3_restore_1 13 rfl rfl)
theorem dX3_restore_36 : decode cX3_restore 36 = .ok (.putfield 55, 3) := dk_181 0 55 (dk_at dksX3_restore_1 14 rfl rfl)
theorem dX3_restore_39 : decode cX3_restore 39 = .ok (.aload_n 0, 1) := dk_42 (dk_at dksX3_restore_1 17 rfl rfl)
theorem dX3_restore_40 : decode cX3_restore 40 = .ok (.getfield 7, 3) := dk_180 0 7 (dk_at dksX3_restore_1 18 rfl rfl)
theorem dX3_restore_43 : decode cX3_restore 43 = .ok (.iconst 1, 1) := dk_4 (dk_at dksX3_restore_1 21 rfl rfl)
theorem dX3_restore_44 : decode cX3_restore 44 = .ok (.iaload, 1) := dk_46 (dk_at dksX3_restore_1 22 rfl rfl)
theorem dX3_restore_45 : decode cX3_restore 45 = .ok (.ireturn, 1) := dk_172 (dk_at dksX3_restore_1 23 rfl rfl)
theorem q84 : (Jvm.Cond.initialized "RoyalCourtModel") ∈ lw_all := lw_g (lw_at lw_m1 18 rfl) rfl
theorem q348 : (Jvm.Cond.selects "RoyalCourtModel" ({ cls := "java/lang/Object", name := "getClass", desc := "()Ljava/lang/Class;" } : Jvm.MethodName) ({ cls := "java/lang/Object", name := "getClass", desc := "()Ljava/lang/Class;" } : Jvm.MethodName)) ∈ lw_all := lw_g (lw_at lw_m2 42 rfl) rfl
theorem q1736 : (Jvm.Cond.instantiable "RoyalCourtModel" (20 : Nat)) ∈ lw_all := lw_g (lw_at lw_m7 230 rfl) rfl
theorem q1738 : (Jvm.Cond.instanceMethod ({ cls := "RoyalCourtModel", name := "<init>", desc := "()V" } : Jvm.MethodName)) ∈ lw_all := lw_g (lw_at lw_m7 232 rfl) rfl
theorem q1739 : (Jvm.Cond.code ({ cls := "RoyalCourtModel", name := "<init>", desc := "()V" } : Jvm.MethodName) prog_11_method_1_code (1 : Nat) (Option.none : Option Jvm.ClassFile.FieldType)) ∈ lw_all := lw_g (lw_at lw_m7 233 rfl) rfl
theorem q1740 : (Jvm.Cond.methodLink "RoyalCourtModel" (1 : Nat) ({ cls := "java/lang/Object", name := "<init>", desc := "()V" } : Jvm.MethodName)) ∈ lw_all := lw_g (lw_at lw_m7 234 rfl) rfl
theorem q1741 : (Jvm.Cond.fieldLink "RoyalCourtModel" (7 : Nat) "RoyalCourtModel" "g" "[I") ∈ lw_all := lw_g (lw_at lw_m7 235 rfl) rfl
theorem q1742 : (Jvm.Cond.fieldLink "RoyalCourtModel" (13 : Nat) "RoyalCourtModel" "kept" "[I") ∈ lw_all := lw_g (lw_at lw_m7 236 rfl) rfl
theorem q1743 : (Jvm.Cond.fieldLink "RoyalCourtModel" (16 : Nat) "RoyalCourtModel" "saved" "[I") ∈ lw_all := lw_g (lw_at lw_m7 237 rfl) rfl
theorem q1744 : (Jvm.Cond.fieldLink "RoyalCourtModel" (198 : Nat) "RoyalCourtModel" "isSaved" "Z") ∈ lw_all := lw_g (lw_at lw_m7 238 rfl) rfl
theorem q1745 : (Jvm.Cond.fieldLink "RoyalCourtModel" (55 : Nat) "RoyalCourtModel" "changes" "I") ∈ lw_all := lw_g (lw_at lw_m7 239 rfl) rfl
theorem q1746 : (Jvm.Cond.fieldLink "RoyalCourtModel" (52 : Nat) "RoyalCourtModel" "code" "I") ∈ lw_all := lw_g (lw_at lw_m8 0 rfl) rfl
theorem q1747 : (Jvm.Cond.fieldLink "RoyalCourtModel" (19 : Nat) "RoyalCourtModel" "input" "[I") ∈ lw_all := lw_g (lw_at lw_m8 1 rfl) rfl
theorem q1748 : (Jvm.Cond.fieldLink "RoyalCourtModel" (115 : Nat) "RoyalCourtModel" "length" "I") ∈ lw_all := lw_g (lw_at lw_m8 2 rfl) rfl
theorem q1749 : (Jvm.Cond.fieldLink "RoyalCourtModel" (22 : Nat) "RoyalCourtModel" "fault" "I") ∈ lw_all := lw_g (lw_at lw_m8 3 rfl) rfl
theorem q1750 : (Jvm.Cond.fieldLink "RoyalCourtModel" (26 : Nat) "RoyalCourtModel" "signs" "[C") ∈ lw_all := lw_g (lw_at lw_m8 4 rfl) rfl
theorem q1751 : (Jvm.Cond.fieldLink "RoyalCourtModel" (192 : Nat) "RoyalCourtModel" "signMany" "I") ∈ lw_all := lw_g (lw_at lw_m8 5 rfl) rfl
theorem q1752 : (Jvm.Cond.fieldLink "RoyalCourtModel" (30 : Nat) "RoyalCourtModel" "ways" "[J") ∈ lw_all := lw_g (lw_at lw_m8 6 rfl) rfl
theorem q1753 : (Jvm.Cond.fieldLink "RoyalCourtModel" (34 : Nat) "RoyalCourtModel" "needs" "[I") ∈ lw_all := lw_g (lw_at lw_m8 7 rfl) rfl
theorem q1754 : (Jvm.Cond.fieldLink "RoyalCourtModel" (37 : Nat) "RoyalCourtModel" "walk" "[I") ∈ lw_all := lw_g (lw_at lw_m8 8 rfl) rfl
theorem q1755 : (Jvm.Cond.fieldLink "RoyalCourtModel" (118 : Nat) "RoyalCourtModel" "at" "I") ∈ lw_all := lw_g (lw_at lw_m8 9 rfl) rfl
theorem q1756 : (Jvm.Cond.fieldLink "RoyalCourtModel" (40 : Nat) "RoyalCourtModel" "one" "[I") ∈ lw_all := lw_g (lw_at lw_m8 10 rfl) rfl
theorem q1757 : (Jvm.Cond.fieldLink "RoyalCourtModel" (43 : Nat) "RoyalCourtModel" "several" "[I") ∈ lw_all := lw_g (lw_at lw_m8 11 rfl) rfl
theorem q1758 : (Jvm.Cond.fieldLink "RoyalCourtModel" (160 : Nat) "RoyalCourtModel" "place" "I") ∈ lw_all := lw_g (lw_at lw_m8 12 rfl) rfl
theorem q1759 : (Jvm.Cond.fieldLink "RoyalCourtModel" (46 : Nat) "RoyalCourtModel" "ragged" "[I") ∈ lw_all := lw_g (lw_at lw_m8 13 rfl) rfl
theorem q1760 : (Jvm.Cond.fieldLink "RoyalCourtModel" (49 : Nat) "RoyalCourtModel" "nextLine" "[I") ∈ lw_all := lw_g (lw_at lw_m8 14 rfl) rfl
theorem q1761 : (Jvm.Cond.laysFinal "RoyalCourtModel" "RoyalCourtModel" "g" "[I") ∈ lw_all := lw_g (lw_at lw_m8 15 rfl) rfl
theorem q1762 : (Jvm.Cond.soleField "RoyalCourtModel" "g") ∈ lw_all := lw_g (lw_at lw_m8 16 rfl) rfl
theorem q1763 : (Jvm.Cond.laysFinal "RoyalCourtModel" "RoyalCourtModel" "kept" "[I") ∈ lw_all := lw_g (lw_at lw_m8 17 rfl) rfl
theorem q1764 : (Jvm.Cond.soleField "RoyalCourtModel" "kept") ∈ lw_all := lw_g (lw_at lw_m8 18 rfl) rfl
theorem q1765 : (Jvm.Cond.laysFinal "RoyalCourtModel" "RoyalCourtModel" "saved" "[I") ∈ lw_all := lw_g (lw_at lw_m8 19 rfl) rfl
theorem q1766 : (Jvm.Cond.soleField "RoyalCourtModel" "saved") ∈ lw_all := lw_g (lw_at lw_m8 20 rfl) rfl
theorem q1767 : (Jvm.Cond.lays "RoyalCourtModel" "RoyalCourtModel" "isSaved" "Z") ∈ lw_all := lw_g (lw_at lw_m8 21 rfl) rfl
theorem q1768 : (Jvm.Cond.soleField "RoyalCourtModel" "isSaved") ∈ lw_all := lw_g (lw_at lw_m8 22 rfl) rfl
theorem q1769 : (Jvm.Cond.lays "RoyalCourtModel" "RoyalCourtModel" "changes" "I") ∈ lw_all := lw_g (lw_at lw_m8 23 rfl) rfl
theorem q1770 : (Jvm.Cond.soleField "RoyalCourtModel" "changes") ∈ lw_all := lw_g (lw_at lw_m8 24 rfl) rfl
theorem q1771 : (Jvm.Cond.lays "RoyalCourtModel" "RoyalCourtModel" "code" "I") ∈ lw_all := lw_g (lw_at lw_m8 25 rfl) rfl
theorem q1772 : (Jvm.Cond.soleField "RoyalCourtModel" "code") ∈ lw_all := lw_g (lw_at lw_m8 26 rfl) rfl
theorem q1773 : (Jvm.Cond.laysFinal "RoyalCourtModel" "RoyalCourtModel" "input" "[I") ∈ lw_all := lw_g (lw_at lw_m8 27 rfl) rfl
theorem q1774 : (Jvm.Cond.soleField "RoyalCourtModel" "input") ∈ lw_all := lw_g (lw_at lw_m8 28 rfl) rfl
theorem q1775 : (Jvm.Cond.lays "RoyalCourtModel" "RoyalCourtModel" "length" "I") ∈ lw_all := lw_g (lw_at lw_m8 29 rfl) rfl
theorem q1776 : (Jvm.Cond.soleField "RoyalCourtModel" "length") ∈ lw_all := lw_g (lw_at lw_m8 30 rfl) rfl
theorem q1777 : (Jvm.Cond.lays "RoyalCourtModel" "RoyalCourtModel" "fault" "I") ∈ lw_all := lw_g (lw_at lw_m8 31 rfl) rfl
theorem q1778 : (Jvm.Cond.soleField "RoyalCourtModel" "fault") ∈ lw_all := lw_g (lw_at lw_m8 32 rfl) rfl
theorem q1779 : (Jvm.Cond.laysFinal "RoyalCourtModel" "RoyalCourtModel" "signs" "[C") ∈ lw_all := lw_g (lw_at lw_m8 33 rfl) rfl
theorem q1780 : (Jvm.Cond.soleField "RoyalCourtModel" "signs") ∈ lw_all := lw_g (lw_at lw_m8 34 rfl) rfl
theorem q1781 : (Jvm.Cond.lays "RoyalCourtModel" "RoyalCourtModel" "signMany" "I") ∈ lw_all := lw_g (lw_at lw_m8 35 rfl) rfl
theorem q1782 : (Jvm.Cond.soleField "RoyalCourtModel" "signMany") ∈ lw_all := lw_g (lw_at lw_m8 36 rfl) rfl
theorem q1783 : (Jvm.Cond.laysFinal "RoyalCourtModel" "RoyalCourtModel" "ways" "[J") ∈ lw_all := lw_g (lw_at lw_m8 37 rfl) rfl
theorem q1784 : (Jvm.Cond.soleField "RoyalCourtModel" "ways") ∈ lw_all := lw_g (lw_at lw_m8 38 rfl) rfl
theorem q1785 : (Jvm.Cond.laysFinal "RoyalCourtModel" "RoyalCourtModel" "needs" "[I") ∈ lw_all := lw_g (lw_at lw_m8 39 rfl) rfl
theorem q1786 : (Jvm.Cond.soleField "RoyalCourtModel" "needs") ∈ lw_all := lw_g (lw_at lw_m8 40 rfl) rfl
theorem q1787 : (Jvm.Cond.laysFinal "RoyalCourtModel" "RoyalCourtModel" "walk" "[I") ∈ lw_all := lw_g (lw_at lw_m8 41 rfl) rfl
theorem q1788 : (Jvm.Cond.soleField "RoyalCourtModel" "walk") ∈ lw_all := lw_g (lw_at lw_m8 42 rfl) rfl
theorem q1789 : (Jvm.Cond.lays "RoyalCourtModel" "RoyalCourtModel" "at" "I") ∈ lw_all := lw_g (lw_at lw_m8 43 rfl) rfl
theorem q1790 : (Jvm.Cond.soleField "RoyalCourtModel" "at") ∈ lw_all := lw_g (lw_at lw_m8 44 rfl) rfl
theorem q1791 : (Jvm.Cond.laysFinal "RoyalCourtModel" "RoyalCourtModel" "one" "[I") ∈ lw_all := lw_g (lw_at lw_m8 45 rfl) rfl
theorem q1792 : (Jvm.Cond.soleField "RoyalCourtModel" "one") ∈ lw_all := lw_g (lw_at lw_m8 46 rfl) rfl
theorem q1793 : (Jvm.Cond.laysFinal "RoyalCourtModel" "RoyalCourtModel" "several" "[I") ∈ lw_all := lw_g (lw_at lw_m8 47 rfl) rfl
theorem q1794 : (Jvm.Cond.soleField "RoyalCourtModel" "several") ∈ lw_all := lw_g (lw_at lw_m8 48 rfl) rfl
theorem q1795 : (Jvm.Cond.lays "RoyalCourtModel" "RoyalCourtModel" "place" "I") ∈ lw_all := lw_g (lw_at lw_m8 49 rfl) rfl
theorem q1796 : (Jvm.Cond.soleField "RoyalCourtModel" "place") ∈ lw_all := lw_g (lw_at lw_m8 50 rfl) rfl
theorem q1797 : (Jvm.Cond.laysFinal "RoyalCourtModel" "RoyalCourtModel" "ragged" "[I") ∈ lw_all := lw_g (lw_at lw_m8 51 rfl) rfl
theorem q1798 : (Jvm.Cond.soleField "RoyalCourtModel" "ragged") ∈ lw_all := lw_g (lw_at lw_m8 52 rfl) rfl
theorem q1799 : (Jvm.Cond.laysFinal "RoyalCourtModel" "RoyalCourtModel" "nextLine" "[I") ∈ lw_all := lw_g (lw_at lw_m8 53 rfl) rfl
theorem q1800 : (Jvm.Cond.soleField "RoyalCourtModel" "nextLine") ∈ lw_all := lw_g (lw_at lw_m8 54 rfl) rfl
theorem q1801 : (Jvm.Cond.superclass "RoyalCourtModel" "java/lang/Object") ∈ lw_all := lw_g (lw_at lw_m8 55 rfl) rfl
theorem q1803 : (Jvm.Cond.instanceMethod ({ cls := "RoyalCourtModel", name := "thrown", desc := "()I" } : Jvm.MethodName)) ∈ lw_all := lw_g (lw_at lw_m8 57 rfl) rfl
theorem q1804 : (Jvm.Cond.selects "RoyalCourtModel" ({ cls := "RoyalCourtModel", name := "thrown", desc := "()I" } : Jvm.MethodName) ({ cls := "RoyalCourtModel", name := "thrown", desc := "()I" } : Jvm.MethodName)) ∈ lw_all := lw_g (lw_at lw_m8 58 rfl) rfl
theorem q1805 : (Jvm.Cond.code ({ cls := "RoyalCourtModel", name := "thrown", desc := "()I" } : Jvm.MethodName) prog_11_method_2_code (1 : Nat) (Option.some Jvm.ClassFile.FieldType.int)) ∈ lw_all := lw_g (lw_at lw_m8 59 rfl) rfl
theorem q1807 : (Jvm.Cond.instanceMethod ({ cls := "RoyalCourtModel", name := "addCourtier", desc := "(I)I" } : Jvm.MethodName)) ∈ lw_all := lw_g (lw_at lw_m8 61 rfl) rfl
theorem q1808 : (Jvm.Cond.selects "RoyalCourtModel" ({ cls := "RoyalCourtModel", name := "addCourtier", desc := "(I)I" } : Jvm.MethodName) ({ cls := "RoyalCourtModel", name := "addCourtier", desc := "(I)I" } : Jvm.MethodName)) ∈ lw_all := lw_g (lw_at lw_m8 62 rfl) rfl
theorem q1809 : (Jvm.Cond.code ({ cls := "RoyalCourtModel", name := "addCourtier", desc := "(I)I" } : Jvm.MethodName) prog_11_method_16_code (2 : Nat) (Option.some Jvm.ClassFile.FieldType.int)) ∈ lw_all := lw_g (lw_at lw_m8 63 rfl) rfl
theorem q1810 : (Jvm.Cond.methodLink "RoyalCourtModel" (62 : Nat) ({ cls := "RoyalCourtModel", name := "in", desc := "(III)Z" } : Jvm.MethodName)) ∈ lw_all := lw_g (lw_at lw_m8 64 rfl) rfl
theorem q1811 : (Jvm.Cond.static ({ cls := "RoyalCourtModel", name := "in", desc := "(III)Z" } : Jvm.MethodName)) ∈ lw_all := lw_g (lw_at lw_m8 65 rfl) rfl
theorem q1812 : (Jvm.Cond.code ({ cls := "RoyalCourtModel", name := "in", desc := "(III)Z" } : Jvm.MethodName) prog_11_method_4_code (3 : Nat) (Option.some Jvm.ClassFile.FieldType.boolean)) ∈ lw_all := lw_g (lw_at lw_m8 66 rfl) rfl
theorem q1813 : (Jvm.Cond.methodLink "RoyalCourtModel" (70 : Nat) ({ cls := "RoyalCourtModel", name := "fails", desc := "(I)Z" } : Jvm.MethodName)) ∈ lw_all := lw_g (lw_at lw_m8 67 rfl) rfl
theorem q1814 : (Jvm.Cond.privateMethod ({ cls := "RoyalCourtModel", name := "fails", desc := "(I)Z" } : Jvm.MethodName)) ∈ lw_tbl := lw_at lw_m8 68 rfl
theorem q1815 : (Jvm.Cond.instanceMethod ({ cls := "RoyalCourtModel", name := "fails", desc := "(I)Z" } : Jvm.MethodName)) ∈ lw_all := lw_g (lw_at lw_m8 69 rfl) rfl
theorem q1816 : (Jvm.Cond.code ({ cls := "RoyalCourtModel", name := "fails", desc := "(I)Z" } : Jvm.MethodName) prog_11_method_3_code (2 : Nat) (Option.some Jvm.ClassFile.FieldType.boolean)) ∈ lw_all := lw_g (lw_at lw_m8 70 rfl) rfl
theorem q1817 : (Jvm.Cond.methodLink "RoyalCourtModel" (77 : Nat) ({ cls := "RoyalCourtModel", name := "keeps", desc := "()V" } : Jvm.MethodName)) ∈ lw_all := lw_g (lw_at lw_m8 71 rfl) rfl
theorem q1818 : (Jvm.Cond.privateMethod ({ cls := "RoyalCourtModel", name := "keeps", desc := "()V" } : Jvm.MethodName)) ∈ lw_tbl := lw_at lw_m8 72 rfl
theorem q1819 : (Jvm.Cond.instanceMethod ({ cls := "RoyalCourtModel", name := "keeps", desc := "()V" } : Jvm.MethodName)) ∈ lw_all := lw_g (lw_at lw_m8 73 rfl) rfl
theorem q1820 : (Jvm.Cond.code ({ cls := "RoyalCourtModel", name := "keeps", desc := "()V" } : Jvm.MethodName) prog_11_method_8_code (2 : Nat) (Option.none : Option Jvm.ClassFile.FieldType)) ∈ lw_all := lw_g (lw_at lw_m8 74 rfl) rfl
theorem q1821 : (Jvm.Cond.methodLink "RoyalCourtModel" (58 : Nat) ({ cls := "RoyalCourtModel", name := "copies", desc := "([II[II)V" } : Jvm.MethodName)) ∈ lw_all := lw_g (lw_at lw_m8 75 rfl) rfl
theorem q1822 : (Jvm.Cond.static ({ cls := "RoyalCourtModel", name := "copies", desc := "([II[II)V" } : Jvm.MethodName)) ∈ lw_all := lw_g (lw_at lw_m8 76 rfl) rfl
theorem q1823 : (Jvm.Cond.code ({ cls := "RoyalCourtModel", name := "copies", desc := "([II[II)V" } : Jvm.MethodName) prog_11_method_7_code (5 : Nat) (Option.none : Option Jvm.ClassFile.FieldType)) ∈ lw_all := lw_g (lw_at lw_m8 77 rfl) rfl
theorem q1825 : (Jvm.Cond.instanceMethod ({ cls := "RoyalCourtModel", name := "addRule", desc := "(II)I" } : Jvm.MethodName)) ∈ lw_all := lw_g (lw_at lw_m8 79 rfl) rfl
theorem q1826 : (Jvm.Cond.selects "RoyalCourtModel" ({ cls := "RoyalCourtModel", name := "addRule", desc := "(II)I" } : Jvm.MethodName) ({ cls := "RoyalCourtModel", name := "addRule", desc := "(II)I" } : Jvm.MethodName)) ∈ lw_all := lw_g (lw_at lw_m8 80 rfl) rfl
theorem q1827 : (Jvm.Cond.code ({ cls := "RoyalCourtModel", name := "addRule", desc := "(II)I" } : Jvm.MethodName) prog_11_method_18_code (3 : Nat) (Option.some Jvm.ClassFile.FieldType.int)) ∈ lw_all := lw_g (lw_at lw_m8 81 rfl) rfl
theorem q1828 : (Jvm.Cond.methodLink "RoyalCourtModel" (83 : Nat) ({ cls := "RoyalCourtModel", name := "areNone", desc := "(II)Z" } : Jvm.MethodName)) ∈ lw_all := lw_g (lw_at lw_m8 82 rfl) rfl
theorem q1829 : (Jvm.Cond.privateMethod ({ cls := "RoyalCourtModel", name := "areNone", desc := "(II)Z" } : Jvm.MethodName)) ∈ lw_tbl := lw_at lw_m8 83 rfl
theorem q1830 : (Jvm.Cond.instanceMethod ({ cls := "RoyalCourtModel", name := "areNone", desc := "(II)Z" } : Jvm.MethodName)) ∈ lw_all := lw_g (lw_at lw_m8 84 rfl) rfl
theorem q1831 : (Jvm.Cond.code ({ cls := "RoyalCourtModel", name := "areNone", desc := "(II)Z" } : Jvm.MethodName) prog_11_method_11_code (3 : Nat) (Option.some Jvm.ClassFile.FieldType.boolean)) ∈ lw_all := lw_g (lw_at lw_m8 85 rfl) rfl
theorem q1832 : (Jvm.Cond.methodLink "RoyalCourtModel" (66 : Nat) ({ cls := "RoyalCourtModel", name := "isCourtier", desc := "(I)Z" } : Jvm.MethodName)) ∈ lw_all := lw_g (lw_at lw_m8 86 rfl) rfl
theorem q1833 : (Jvm.Cond.privateMethod ({ cls := "RoyalCourtModel", name := "isCourtier", desc := "(I)Z" } : Jvm.MethodName)) ∈ lw_tbl := lw_at lw_m8 87 rfl
theorem q1834 : (Jvm.Cond.instanceMethod ({ cls := "RoyalCourtModel", name := "isCourtier", desc := "(I)Z" } : Jvm.MethodName)) ∈ lw_all := lw_g (lw_at lw_m8 88 rfl) rfl
theorem q1835 : (Jvm.Cond.code ({ cls := "RoyalCourtModel", name := "isCourtier", desc := "(I)Z" } : Jvm.MethodName) prog_11_method_9_code (2 : Nat) (Option.some Jvm.ClassFile.FieldType.boolean)) ∈ lw_all := lw_g (lw_at lw_m8 89 rfl) rfl
theorem q1836 : (Jvm.Cond.methodLink "RoyalCourtModel" (87 : Nat) ({ cls := "RoyalCourtModel", name := "isRule", desc := "(II)Z" } : Jvm.MethodName)) ∈ lw_all := lw_g (lw_at lw_m8 90 rfl) rfl
theorem q1837 : (Jvm.Cond.privateMethod ({ cls := "RoyalCourtModel", name := "isRule", desc := "(II)Z" } : Jvm.MethodName)) ∈ lw_tbl := lw_at lw_m8 91 rfl
theorem q1838 : (Jvm.Cond.instanceMethod ({ cls := "RoyalCourtModel", name := "isRule", desc := "(II)Z" } : Jvm.MethodName)) ∈ lw_all := lw_g (lw_at lw_m8 92 rfl) rfl
theorem q1839 : (Jvm.Cond.code ({ cls := "RoyalCourtModel", name := "isRule", desc := "(II)Z" } : Jvm.MethodName) prog_11_method_12_code (3 : Nat) (Option.some Jvm.ClassFile.FieldType.boolean)) ∈ lw_all := lw_g (lw_at lw_m8 93 rfl) rfl
theorem q1840 : (Jvm.Cond.methodLink "RoyalCourtModel" (73 : Nat) ({ cls := "RoyalCourtModel", name := "behind", desc := "(I)I" } : Jvm.MethodName)) ∈ lw_all := lw_g (lw_at lw_m8 94 rfl) rfl
theorem q1841 : (Jvm.Cond.privateMethod ({ cls := "RoyalCourtModel", name := "behind", desc := "(I)I" } : Jvm.MethodName)) ∈ lw_tbl := lw_at lw_m8 95 rfl
theorem q1842 : (Jvm.Cond.instanceMethod ({ cls := "RoyalCourtModel", name := "behind", desc := "(I)I" } : Jvm.MethodName)) ∈ lw_all := lw_g (lw_at lw_m8 96 rfl) rfl
theorem q1843 : (Jvm.Cond.code ({ cls := "RoyalCourtModel", name := "behind", desc := "(I)I" } : Jvm.MethodName) prog_11_method_13_code (5 : Nat) (Option.some Jvm.ClassFile.FieldType.int)) ∈ lw_all := lw_g (lw_at lw_m8 97 rfl) rfl
theorem q1844 : (Jvm.Cond.methodLink "RoyalCourtModel" (90 : Nat) ({ cls := "RoyalCourtModel", name := "rules", desc := "()I" } : Jvm.MethodName)) ∈ lw_all := lw_g (lw_at lw_m8 98 rfl) rfl
theorem q1845 : (Jvm.Cond.privateMethod ({ cls := "RoyalCourtModel", name := "rules", desc := "()I" } : Jvm.MethodName)) ∈ lw_tbl := lw_at lw_m8 99 rfl
theorem q1846 : (Jvm.Cond.instanceMethod ({ cls := "RoyalCourtModel", name := "rules", desc := "()I" } : Jvm.MethodName)) ∈ lw_all := lw_g (lw_at lw_m8 100 rfl) rfl
theorem q1847 : (Jvm.Cond.code ({ cls := "RoyalCourtModel", name := "rules", desc := "()I" } : Jvm.MethodName) prog_11_method_17_code (3 : Nat) (Option.some Jvm.ClassFile.FieldType.int)) ∈ lw_all := lw_g (lw_at lw_m8 101 rfl) rfl
theorem q1848 : (Jvm.Cond.methodLink "RoyalCourtModel" (80 : Nat) ({ cls := "RoyalCourtModel", name := "bits", desc := "(I)I" } : Jvm.MethodName)) ∈ lw_all := lw_g (lw_at lw_m8 102 rfl) rfl
theorem q1849 : (Jvm.Cond.static ({ cls := "RoyalCourtModel", name := "bits", desc := "(I)I" } : Jvm.MethodName)) ∈ lw_all := lw_g (lw_at lw_m8 103 rfl) rfl
theorem q1850 : (Jvm.Cond.code ({ cls := "RoyalCourtModel", name := "bits", desc := "(I)I" } : Jvm.MethodName) prog_11_method_15_code (3 : Nat) (Option.some Jvm.ClassFile.FieldType.int)) ∈ lw_all := lw_g (lw_at lw_m8 104 rfl) rfl
theorem q1852 : (Jvm.Cond.instanceMethod ({ cls := "RoyalCourtModel", name := "removeRule", desc := "(II)I" } : Jvm.MethodName)) ∈ lw_all := lw_g (lw_at lw_m8 106 rfl) rfl
theorem q1853 : (Jvm.Cond.selects "RoyalCourtModel" ({ cls := "RoyalCourtModel", name := "removeRule", desc := "(II)I" } : Jvm.MethodName) ({ cls := "RoyalCourtModel", name := "removeRule", desc := "(II)I" } : Jvm.MethodName)) ∈ lw_all := lw_g (lw_at lw_m8 107 rfl) rfl
theorem q1854 : (Jvm.Cond.code ({ cls := "RoyalCourtModel", name := "removeRule", desc := "(II)I" } : Jvm.MethodName) prog_11_method_19_code (3 : Nat) (Option.some Jvm.ClassFile.FieldType.int)) ∈ lw_all := lw_g (lw_at lw_m8 108 rfl) rfl
theorem q1856 : (Jvm.Cond.instanceMethod ({ cls := "RoyalCourtModel", name := "courtierCount", desc := "()I" } : Jvm.MethodName)) ∈ lw_all := lw_g (lw_at lw_m8 110 rfl) rfl
theorem q1857 : (Jvm.Cond.selects "RoyalCourtModel" ({ cls := "RoyalCourtModel", name := "courtierCount", desc := "()I" } : Jvm.MethodName) ({ cls := "RoyalCourtModel", name := "courtierCount", desc := "()I" } : Jvm.MethodName)) ∈ lw_all := lw_g (lw_at lw_m8 111 rfl) rfl
theorem q1858 : (Jvm.Cond.code ({ cls := "RoyalCourtModel", name := "courtierCount", desc := "()I" } : Jvm.MethodName) prog_11_method_20_code (1 : Nat) (Option.some Jvm.ClassFile.FieldType.int)) ∈ lw_all := lw_g (lw_at lw_m8 112 rfl) rfl
theorem q1860 : (Jvm.Cond.instanceMethod ({ cls := "RoyalCourtModel", name := "dignityOf", desc := "(I)I" } : Jvm.MethodName)) ∈ lw_all := lw_g (lw_at lw_m8 114 rfl) rfl
theorem q1861 : (Jvm.Cond.selects "RoyalCourtModel" ({ cls := "RoyalCourtModel", name := "dignityOf", desc := "(I)I" } : Jvm.MethodName) ({ cls := "RoyalCourtModel", name := "dignityOf", desc := "(I)I" } : Jvm.MethodName)) ∈ lw_all := lw_g (lw_at lw_m8 115 rfl) rfl
theorem q1862 : (Jvm.Cond.code ({ cls := "RoyalCourtModel", name := "dignityOf", desc := "(I)I" } : Jvm.MethodName) prog_11_method_21_code (2 : Nat) (Option.some Jvm.ClassFile.FieldType.int)) ∈ lw_all := lw_g (lw_at lw_m8 116 rfl) rfl
theorem q1863 : (Jvm.Cond.methodLink "RoyalCourtModel" (94 : Nat) ({ cls := "RoyalCourtModel", name := "isNone", desc := "(I)Z" } : Jvm.MethodName)) ∈ lw_all := lw_g (lw_at lw_m8 117 rfl) rfl
theorem q1864 : (Jvm.Cond.privateMethod ({ cls := "RoyalCourtModel", name := "isNone", desc := "(I)Z" } : Jvm.MethodName)) ∈ lw_tbl := lw_at lw_m8 118 rfl
theorem q1865 : (Jvm.Cond.instanceMethod ({ cls := "RoyalCourtModel", name := "isNone", desc := "(I)Z" } : Jvm.MethodName)) ∈ lw_all := lw_g (lw_at lw_m8 119 rfl) rfl
theorem q1866 : (Jvm.Cond.code ({ cls := "RoyalCourtModel", name := "isNone", desc := "(I)Z" } : Jvm.MethodName) prog_11_method_10_code (2 : Nat) (Option.some Jvm.ClassFile.FieldType.boolean)) ∈ lw_all := lw_g (lw_at lw_m8 120 rfl) rfl
theorem q1868 : (Jvm.Cond.instanceMethod ({ cls := "RoyalCourtModel", name := "favorOf", desc := "(I)I" } : Jvm.MethodName)) ∈ lw_all := lw_g (lw_at lw_m8 122 rfl) rfl
theorem q1869 : (Jvm.Cond.selects "RoyalCourtModel" ({ cls := "RoyalCourtModel", name := "favorOf", desc := "(I)I" } : Jvm.MethodName) ({ cls := "RoyalCourtModel", name := "favorOf", desc := "(I)I" } : Jvm.MethodName)) ∈ lw_all := lw_g (lw_at lw_m8 123 rfl) rfl
theorem q1870 : (Jvm.Cond.code ({ cls := "RoyalCourtModel", name := "favorOf", desc := "(I)I" } : Jvm.MethodName) prog_11_method_22_code (2 : Nat) (Option.some Jvm.ClassFile.FieldType.int)) ∈ lw_all := lw_g (lw_at lw_m8 124 rfl) rfl
theorem q1872 : (Jvm.Cond.instanceMethod ({ cls := "RoyalCourtModel", name := "ruleCount", desc := "()I" } : Jvm.MethodName)) ∈ lw_all := lw_g (lw_at lw_m8 126 rfl) rfl
theorem q1873 : (Jvm.Cond.selects "RoyalCourtModel" ({ cls := "RoyalCourtModel", name := "ruleCount", desc := "()I" } : Jvm.MethodName) ({ cls := "RoyalCourtModel", name := "ruleCount", desc := "()I" } : Jvm.MethodName)) ∈ lw_all := lw_g (lw_at lw_m8 127 rfl) rfl
theorem q1874 : (Jvm.Cond.code ({ cls := "RoyalCourtModel", name := "ruleCount", desc := "()I" } : Jvm.MethodName) prog_11_method_23_code (1 : Nat) (Option.some Jvm.ClassFile.FieldType.int)) ∈ lw_all := lw_g (lw_at lw_m8 128 rfl) rfl
theorem q1876 : (Jvm.Cond.instanceMethod ({ cls := "RoyalCourtModel", name := "precedes", desc := "(II)Z" } : Jvm.MethodName)) ∈ lw_all := lw_g (lw_at lw_m8 130 rfl) rfl
theorem q1877 : (Jvm.Cond.selects "RoyalCourtModel" ({ cls := "RoyalCourtModel", name := "precedes", desc := "(II)Z" } : Jvm.MethodName) ({ cls := "RoyalCourtModel", name := "precedes", desc := "(II)Z" } : Jvm.MethodName)) ∈ lw_all := lw_g (lw_at lw_m8 131 rfl) rfl
theorem q1878 : (Jvm.Cond.code ({ cls := "RoyalCourtModel", name := "precedes", desc := "(II)Z" } : Jvm.MethodName) prog_11_method_24_code (3 : Nat) (Option.some Jvm.ClassFile.FieldType.boolean)) ∈ lw_all := lw_g (lw_at lw_m8 132 rfl) rfl
theorem q1880 : (Jvm.Cond.instanceMethod ({ cls := "RoyalCourtModel", name := "courtierByDignity", desc := "(I)I" } : Jvm.MethodName)) ∈ lw_all := lw_g (lw_at lw_m8 134 rfl) rfl
theorem q1881 : (Jvm.Cond.selects "RoyalCourtModel" ({ cls := "RoyalCourtModel", name := "courtierByDignity", desc := "(I)I" } : Jvm.MethodName) ({ cls := "RoyalCourtModel", name := "courtierByDignity", desc := "(I)I" } : Jvm.MethodName)) ∈ lw_all := lw_g (lw_at lw_m8 135 rfl) rfl
theorem q1882 : (Jvm.Cond.code ({ cls := "RoyalCourtModel", name := "courtierByDignity", desc := "(I)I" } : Jvm.MethodName) prog_11_method_25_code (5 : Nat) (Option.some Jvm.ClassFile.FieldType.int)) ∈ lw_all := lw_g (lw_at lw_m8 136 rfl) rfl
theorem q1884 : (Jvm.Cond.instanceMethod ({ cls := "RoyalCourtModel", name := "processions", desc := "()J" } : Jvm.MethodName)) ∈ lw_all := lw_g (lw_at lw_m8 138 rfl) rfl
theorem q1885 : (Jvm.Cond.selects "RoyalCourtModel" ({ cls := "RoyalCourtModel", name := "processions", desc := "()J" } : Jvm.MethodName) ({ cls := "RoyalCourtModel", name := "processions", desc := "()J" } : Jvm.MethodName)) ∈ lw_all := lw_g (lw_at lw_m8 139 rfl) rfl
theorem q1886 : (Jvm.Cond.code ({ cls := "RoyalCourtModel", name := "processions", desc := "()J" } : Jvm.MethodName) prog_11_method_28_code (1 : Nat) (Option.some Jvm.ClassFile.FieldType.long)) ∈ lw_all := lw_g (lw_at lw_m8 140 rfl) rfl
theorem q1887 : (Jvm.Cond.methodLink "RoyalCourtModel" (103 : Nat) ({ cls := "RoyalCourtModel", name := "counts", desc := "()J" } : Jvm.MethodName)) ∈ lw_all := lw_g (lw_at lw_m8 141 rfl) rfl
theorem q1888 : (Jvm.Cond.privateMethod ({ cls := "RoyalCourtModel", name := "counts", desc := "()J" } : Jvm.MethodName)) ∈ lw_tbl := lw_at lw_m8 142 rfl
theorem q1889 : (Jvm.Cond.instanceMethod ({ cls := "RoyalCourtModel", name := "counts", desc := "()J" } : Jvm.MethodName)) ∈ lw_all := lw_g (lw_at lw_m8 143 rfl) rfl
theorem q1890 : (Jvm.Cond.code ({ cls := "RoyalCourtModel", name := "counts", desc := "()J" } : Jvm.MethodName) prog_11_method_27_code (4 : Nat) (Option.some Jvm.ClassFile.FieldType.long)) ∈ lw_all := lw_g (lw_at lw_m8 144 rfl) rfl
theorem q1891 : (Jvm.Cond.methodLink "RoyalCourtModel" (100 : Nat) ({ cls := "RoyalCourtModel", name := "layNeeds", desc := "()V" } : Jvm.MethodName)) ∈ lw_all := lw_g (lw_at lw_m8 145 rfl) rfl
theorem q1892 : (Jvm.Cond.privateMethod ({ cls := "RoyalCourtModel", name := "layNeeds", desc := "()V" } : Jvm.MethodName)) ∈ lw_tbl := lw_at lw_m8 146 rfl
theorem q1893 : (Jvm.Cond.instanceMethod ({ cls := "RoyalCourtModel", name := "layNeeds", desc := "()V" } : Jvm.MethodName)) ∈ lw_all := lw_g (lw_at lw_m8 147 rfl) rfl
theorem q1894 : (Jvm.Cond.code ({ cls := "RoyalCourtModel", name := "layNeeds", desc := "()V" } : Jvm.MethodName) prog_11_method_26_code (2 : Nat) (Option.none : Option Jvm.ClassFile.FieldType)) ∈ lw_all := lw_g (lw_at lw_m8 148 rfl) rfl
theorem q1895 : (Jvm.Cond.methodLink "RoyalCourtModel" (97 : Nat) ({ cls := "RoyalCourtModel", name := "ahead", desc := "(I)I" } : Jvm.MethodName)) ∈ lw_all := lw_g (lw_at lw_m8 149 rfl) rfl
theorem q1896 : (Jvm.Cond.privateMethod ({ cls := "RoyalCourtModel", name := "ahead", desc := "(I)I" } : Jvm.MethodName)) ∈ lw_tbl := lw_at lw_m8 150 rfl
theorem q1897 : (Jvm.Cond.instanceMethod ({ cls := "RoyalCourtModel", name := "ahead", desc := "(I)I" } : Jvm.MethodName)) ∈ lw_all := lw_g (lw_at lw_m8 151 rfl) rfl
theorem q1898 : (Jvm.Cond.code ({ cls := "RoyalCourtModel", name := "ahead", desc := "(I)I" } : Jvm.MethodName) prog_11_method_14_code (4 : Nat) (Option.some Jvm.ClassFile.FieldType.int)) ∈ lw_all := lw_g (lw_at lw_m8 152 rfl) rfl
theorem q1900 : (Jvm.Cond.instanceMethod ({ cls := "RoyalCourtModel", name := "processionsByTrying", desc := "()J" } : Jvm.MethodName)) ∈ lw_all := lw_g (lw_at lw_m8 154 rfl) rfl
theorem q1901 : (Jvm.Cond.selects "RoyalCourtModel" ({ cls := "RoyalCourtModel", name := "processionsByTrying", desc := "()J" } : Jvm.MethodName) ({ cls := "RoyalCourtModel", name := "processionsByTrying", desc := "()J" } : Jvm.MethodName)) ∈ lw_all := lw_g (lw_at lw_m8 155 rfl) rfl
theorem q1902 : (Jvm.Cond.code ({ cls := "RoyalCourtModel", name := "processionsByTrying", desc := "()J" } : Jvm.MethodName) prog_11_method_29_code (1 : Nat) (Option.some Jvm.ClassFile.FieldType.long)) ∈ lw_all := lw_g (lw_at lw_m8 156 rfl) rfl
theorem q1904 : (Jvm.Cond.instanceMethod ({ cls := "RoyalCourtModel", name := "firstProcessionAt", desc := "(I)I" } : Jvm.MethodName)) ∈ lw_all := lw_g (lw_at lw_m8 158 rfl) rfl
theorem q1905 : (Jvm.Cond.selects "RoyalCourtModel" ({ cls := "RoyalCourtModel", name := "firstProcessionAt", desc := "(I)I" } : Jvm.MethodName) ({ cls := "RoyalCourtModel", name := "firstProcessionAt", desc := "(I)I" } : Jvm.MethodName)) ∈ lw_all := lw_g (lw_at lw_m8 159 rfl) rfl
theorem q1906 : (Jvm.Cond.code ({ cls := "RoyalCourtModel", name := "firstProcessionAt", desc := "(I)I" } : Jvm.MethodName) prog_11_method_32_code (2 : Nat) (Option.some Jvm.ClassFile.FieldType.int)) ∈ lw_all := lw_g (lw_at lw_m8 160 rfl) rfl
theorem q1907 : (Jvm.Cond.methodLink "RoyalCourtModel" (111 : Nat) ({ cls := "RoyalCourtModel", name := "walker", desc := "(IZ)I" } : Jvm.MethodName)) ∈ lw_all := lw_g (lw_at lw_m8 161 rfl) rfl
theorem q1908 : (Jvm.Cond.privateMethod ({ cls := "RoyalCourtModel", name := "walker", desc := "(IZ)I" } : Jvm.MethodName)) ∈ lw_tbl := lw_at lw_m8 162 rfl
theorem q1909 : (Jvm.Cond.instanceMethod ({ cls := "RoyalCourtModel", name := "walker", desc := "(IZ)I" } : Jvm.MethodName)) ∈ lw_all := lw_g (lw_at lw_m8 163 rfl) rfl
theorem q1910 : (Jvm.Cond.code ({ cls := "RoyalCourtModel", name := "walker", desc := "(IZ)I" } : Jvm.MethodName) prog_11_method_31_code (3 : Nat) (Option.some Jvm.ClassFile.FieldType.int)) ∈ lw_all := lw_g (lw_at lw_m8 164 rfl) rfl
theorem q1911 : (Jvm.Cond.methodLink "RoyalCourtModel" (107 : Nat) ({ cls := "RoyalCourtModel", name := "walks", desc := "(Z)V" } : Jvm.MethodName)) ∈ lw_all := lw_g (lw_at lw_m8 165 rfl) rfl
theorem q1912 : (Jvm.Cond.privateMethod ({ cls := "RoyalCourtModel", name := "walks", desc := "(Z)V" } : Jvm.MethodName)) ∈ lw_tbl := lw_at lw_m8 166 rfl
theorem q1913 : (Jvm.Cond.instanceMethod ({ cls := "RoyalCourtModel", name := "walks", desc := "(Z)V" } : Jvm.MethodName)) ∈ lw_all := lw_g (lw_at lw_m8 167 rfl) rfl
theorem q1914 : (Jvm.Cond.code ({ cls := "RoyalCourtModel", name := "walks", desc := "(Z)V" } : Jvm.MethodName) prog_11_method_30_code (6 : Nat) (Option.none : Option Jvm.ClassFile.FieldType)) ∈ lw_all := lw_g (lw_at lw_m8 168 rfl) rfl
theorem q1916 : (Jvm.Cond.instanceMethod ({ cls := "RoyalCourtModel", name := "grandProcessionAt", desc := "(I)I" } : Jvm.MethodName)) ∈ lw_all := lw_g (lw_at lw_m8 170 rfl) rfl
theorem q1917 : (Jvm.Cond.selects "RoyalCourtModel" ({ cls := "RoyalCourtModel", name := "grandProcessionAt", desc := "(I)I" } : Jvm.MethodName) ({ cls := "RoyalCourtModel", name := "grandProcessionAt", desc := "(I)I" } : Jvm.MethodName)) ∈ lw_all := lw_g (lw_at lw_m8 171 rfl) rfl
theorem q1918 : (Jvm.Cond.code ({ cls := "RoyalCourtModel", name := "grandProcessionAt", desc := "(I)I" } : Jvm.MethodName) prog_11_method_33_code (2 : Nat) (Option.some Jvm.ClassFile.FieldType.int)) ∈ lw_all := lw_g (lw_at lw_m8 172 rfl) rfl
theorem q1920 : (Jvm.Cond.instanceMethod ({ cls := "RoyalCourtModel", name := "lowestPlaceOf", desc := "(I)I" } : Jvm.MethodName)) ∈ lw_all := lw_g (lw_at lw_m8 174 rfl) rfl
theorem q1921 : (Jvm.Cond.selects "RoyalCourtModel" ({ cls := "RoyalCourtModel", name := "lowestPlaceOf", desc := "(I)I" } : Jvm.MethodName) ({ cls := "RoyalCourtModel", name := "lowestPlaceOf", desc := "(I)I" } : Jvm.MethodName)) ∈ lw_all := lw_g (lw_at lw_m8 175 rfl) rfl
theorem q1922 : (Jvm.Cond.code ({ cls := "RoyalCourtModel", name := "lowestPlaceOf", desc := "(I)I" } : Jvm.MethodName) prog_11_method_34_code (2 : Nat) (Option.some Jvm.ClassFile.FieldType.int)) ∈ lw_all := lw_g (lw_at lw_m8 176 rfl) rfl
theorem q1924 : (Jvm.Cond.instanceMethod ({ cls := "RoyalCourtModel", name := "type", desc := "(C)I" } : Jvm.MethodName)) ∈ lw_all := lw_g (lw_at lw_m8 178 rfl) rfl
theorem q1925 : (Jvm.Cond.selects "RoyalCourtModel" ({ cls := "RoyalCourtModel", name := "type", desc := "(C)I" } : Jvm.MethodName) ({ cls := "RoyalCourtModel", name := "type", desc := "(C)I" } : Jvm.MethodName)) ∈ lw_all := lw_g (lw_at lw_m8 179 rfl) rfl
theorem q1926 : (Jvm.Cond.code ({ cls := "RoyalCourtModel", name := "type", desc := "(C)I" } : Jvm.MethodName) prog_11_method_35_code (2 : Nat) (Option.some Jvm.ClassFile.FieldType.int)) ∈ lw_all := lw_g (lw_at lw_m8 180 rfl) rfl
theorem q1928 : (Jvm.Cond.instanceMethod ({ cls := "RoyalCourtModel", name := "clearText", desc := "()I" } : Jvm.MethodName)) ∈ lw_all := lw_g (lw_at lw_m8 182 rfl) rfl
theorem q1929 : (Jvm.Cond.selects "RoyalCourtModel" ({ cls := "RoyalCourtModel", name := "clearText", desc := "()I" } : Jvm.MethodName) ({ cls := "RoyalCourtModel", name := "clearText", desc := "()I" } : Jvm.MethodName)) ∈ lw_all := lw_g (lw_at lw_m8 183 rfl) rfl
theorem q1930 : (Jvm.Cond.code ({ cls := "RoyalCourtModel", name := "clearText", desc := "()I" } : Jvm.MethodName) prog_11_method_36_code (2 : Nat) (Option.some Jvm.ClassFile.FieldType.int)) ∈ lw_all := lw_g (lw_at lw_m8 184 rfl) rfl
theorem q1932 : (Jvm.Cond.instanceMethod ({ cls := "RoyalCourtModel", name := "isReadable", desc := "()Z" } : Jvm.MethodName)) ∈ lw_all := lw_g (lw_at lw_m8 186 rfl) rfl
theorem q1933 : (Jvm.Cond.selects "RoyalCourtModel" ({ cls := "RoyalCourtModel", name := "isReadable", desc := "()Z" } : Jvm.MethodName) ({ cls := "RoyalCourtModel", name := "isReadable", desc := "()Z" } : Jvm.MethodName)) ∈ lw_all := lw_g (lw_at lw_m8 187 rfl) rfl
theorem q1934 : (Jvm.Cond.code ({ cls := "RoyalCourtModel", name := "isReadable", desc := "()Z" } : Jvm.MethodName) prog_11_method_41_code (1 : Nat) (Option.some Jvm.ClassFile.FieldType.boolean)) ∈ lw_all := lw_g (lw_at lw_m8 188 rfl) rfl
theorem q1935 : (Jvm.Cond.methodLink "RoyalCourtModel" (131 : Nat) ({ cls := "RoyalCourtModel", name := "reads", desc := "()Z" } : Jvm.MethodName)) ∈ lw_all := lw_g (lw_at lw_m8 189 rfl) rfl
theorem q1936 : (Jvm.Cond.privateMethod ({ cls := "RoyalCourtModel", name := "reads", desc := "()Z" } : Jvm.MethodName)) ∈ lw_tbl := lw_at lw_m8 190 rfl
theorem q1937 : (Jvm.Cond.instanceMethod ({ cls := "RoyalCourtModel", name := "reads", desc := "()Z" } : Jvm.MethodName)) ∈ lw_all := lw_g (lw_at lw_m8 191 rfl) rfl
theorem q1938 : (Jvm.Cond.code ({ cls := "RoyalCourtModel", name := "reads", desc := "()Z" } : Jvm.MethodName) prog_11_method_40_code (2 : Nat) (Option.some Jvm.ClassFile.FieldType.boolean)) ∈ lw_all := lw_g (lw_at lw_m8 192 rfl) rfl
theorem q1939 : (Jvm.Cond.methodLink "RoyalCourtModel" (127 : Nat) ({ cls := "RoyalCourtModel", name := "isRequest", desc := "()Z" } : Jvm.MethodName)) ∈ lw_all := lw_g (lw_at lw_m8 193 rfl) rfl
theorem q1940 : (Jvm.Cond.privateMethod ({ cls := "RoyalCourtModel", name := "isRequest", desc := "()Z" } : Jvm.MethodName)) ∈ lw_tbl := lw_at lw_m8 194 rfl
theorem q1941 : (Jvm.Cond.instanceMethod ({ cls := "RoyalCourtModel", name := "isRequest", desc := "()Z" } : Jvm.MethodName)) ∈ lw_all := lw_g (lw_at lw_m8 195 rfl) rfl
theorem q1942 : (Jvm.Cond.code ({ cls := "RoyalCourtModel", name := "isRequest", desc := "()Z" } : Jvm.MethodName) prog_11_method_39_code (1 : Nat) (Option.some Jvm.ClassFile.FieldType.boolean)) ∈ lw_all := lw_g (lw_at lw_m8 196 rfl) rfl
theorem q1943 : (Jvm.Cond.methodLink "RoyalCourtModel" (124 : Nat) ({ cls := "RoyalCourtModel", name := "skips", desc := "(I)Z" } : Jvm.MethodName)) ∈ lw_all := lw_g (lw_at lw_m8 197 rfl) rfl
theorem q1944 : (Jvm.Cond.privateMethod ({ cls := "RoyalCourtModel", name := "skips", desc := "(I)Z" } : Jvm.MethodName)) ∈ lw_tbl := lw_at lw_m8 198 rfl
theorem q1945 : (Jvm.Cond.instanceMethod ({ cls := "RoyalCourtModel", name := "skips", desc := "(I)Z" } : Jvm.MethodName)) ∈ lw_all := lw_g (lw_at lw_m8 199 rfl) rfl
theorem q1946 : (Jvm.Cond.code ({ cls := "RoyalCourtModel", name := "skips", desc := "(I)Z" } : Jvm.MethodName) prog_11_method_38_code (2 : Nat) (Option.some Jvm.ClassFile.FieldType.boolean)) ∈ lw_all := lw_g (lw_at lw_m8 200 rfl) rfl
theorem q1947 : (Jvm.Cond.methodLink "RoyalCourtModel" (121 : Nat) ({ cls := "RoyalCourtModel", name := "passes", desc := "()V" } : Jvm.MethodName)) ∈ lw_all := lw_g (lw_at lw_m8 201 rfl) rfl
theorem q1948 : (Jvm.Cond.privateMethod ({ cls := "RoyalCourtModel", name := "passes", desc := "()V" } : Jvm.MethodName)) ∈ lw_tbl := lw_at lw_m8 202 rfl
theorem q1949 : (Jvm.Cond.instanceMethod ({ cls := "RoyalCourtModel", name := "passes", desc := "()V" } : Jvm.MethodName)) ∈ lw_all := lw_g (lw_at lw_m8 203 rfl) rfl
theorem q1950 : (Jvm.Cond.code ({ cls := "RoyalCourtModel", name := "passes", desc := "()V" } : Jvm.MethodName) prog_11_method_37_code (1 : Nat) (Option.none : Option Jvm.ClassFile.FieldType)) ∈ lw_all := lw_g (lw_at lw_m8 204 rfl) rfl
theorem q1952 : (Jvm.Cond.instanceMethod ({ cls := "RoyalCourtModel", name := "insultCount", desc := "()I" } : Jvm.MethodName)) ∈ lw_all := lw_g (lw_at lw_m8 206 rfl) rfl
theorem q1953 : (Jvm.Cond.selects "RoyalCourtModel" ({ cls := "RoyalCourtModel", name := "insultCount", desc := "()I" } : Jvm.MethodName) ({ cls := "RoyalCourtModel", name := "insultCount", desc := "()I" } : Jvm.MethodName)) ∈ lw_all := lw_g (lw_at lw_m8 207 rfl) rfl
theorem q1954 : (Jvm.Cond.code ({ cls := "RoyalCourtModel", name := "insultCount", desc := "()I" } : Jvm.MethodName) prog_11_method_43_code (1 : Nat) (Option.some Jvm.ClassFile.FieldType.int)) ∈ lw_all := lw_g (lw_at lw_m8 208 rfl) rfl
theorem q1955 : (Jvm.Cond.methodLink "RoyalCourtModel" (134 : Nat) ({ cls := "RoyalCourtModel", name := "insults", desc := "()I" } : Jvm.MethodName)) ∈ lw_all := lw_g (lw_at lw_m8 209 rfl) rfl
theorem q1956 : (Jvm.Cond.privateMethod ({ cls := "RoyalCourtModel", name := "insults", desc := "()I" } : Jvm.MethodName)) ∈ lw_tbl := lw_at lw_m8 210 rfl
theorem q1957 : (Jvm.Cond.instanceMethod ({ cls := "RoyalCourtModel", name := "insults", desc := "()I" } : Jvm.MethodName)) ∈ lw_all := lw_g (lw_at lw_m8 211 rfl) rfl
theorem q1958 : (Jvm.Cond.code ({ cls := "RoyalCourtModel", name := "insults", desc := "()I" } : Jvm.MethodName) prog_11_method_42_code (3 : Nat) (Option.some Jvm.ClassFile.FieldType.int)) ∈ lw_all := lw_g (lw_at lw_m8 212 rfl) rfl
theorem q1960 : (Jvm.Cond.instanceMethod ({ cls := "RoyalCourtModel", name := "removals", desc := "()I" } : Jvm.MethodName)) ∈ lw_all := lw_g (lw_at lw_m8 214 rfl) rfl
theorem q1961 : (Jvm.Cond.selects "RoyalCourtModel" ({ cls := "RoyalCourtModel", name := "removals", desc := "()I" } : Jvm.MethodName) ({ cls := "RoyalCourtModel", name := "removals", desc := "()I" } : Jvm.MethodName)) ∈ lw_all := lw_g (lw_at lw_m8 215 rfl) rfl
theorem q1962 : (Jvm.Cond.code ({ cls := "RoyalCourtModel", name := "removals", desc := "()I" } : Jvm.MethodName) prog_11_method_47_code (1 : Nat) (Option.some Jvm.ClassFile.FieldType.int)) ∈ lw_all := lw_g (lw_at lw_m8 216 rfl) rfl
theorem q1963 : (Jvm.Cond.methodLink "RoyalCourtModel" (148 : Nat) ({ cls := "RoyalCourtModel", name := "removes", desc := "()I" } : Jvm.MethodName)) ∈ lw_all := lw_g (lw_at lw_m8 217 rfl) rfl
theorem q1964 : (Jvm.Cond.privateMethod ({ cls := "RoyalCourtModel", name := "removes", desc := "()I" } : Jvm.MethodName)) ∈ lw_tbl := lw_at lw_m8 218 rfl
theorem q1965 : (Jvm.Cond.instanceMethod ({ cls := "RoyalCourtModel", name := "removes", desc := "()I" } : Jvm.MethodName)) ∈ lw_all := lw_g (lw_at lw_m8 219 rfl) rfl
theorem q1966 : (Jvm.Cond.code ({ cls := "RoyalCourtModel", name := "removes", desc := "()I" } : Jvm.MethodName) prog_11_method_46_code (2 : Nat) (Option.some Jvm.ClassFile.FieldType.int)) ∈ lw_all := lw_g (lw_at lw_m8 220 rfl) rfl
theorem q1967 : (Jvm.Cond.methodLink "RoyalCourtModel" (145 : Nat) ({ cls := "RoyalCourtModel", name := "longest", desc := "()I" } : Jvm.MethodName)) ∈ lw_all := lw_g (lw_at lw_m8 221 rfl) rfl
theorem q1968 : (Jvm.Cond.privateMethod ({ cls := "RoyalCourtModel", name := "longest", desc := "()I" } : Jvm.MethodName)) ∈ lw_tbl := lw_at lw_m8 222 rfl
theorem q1969 : (Jvm.Cond.instanceMethod ({ cls := "RoyalCourtModel", name := "longest", desc := "()I" } : Jvm.MethodName)) ∈ lw_all := lw_g (lw_at lw_m8 223 rfl) rfl
theorem q1970 : (Jvm.Cond.code ({ cls := "RoyalCourtModel", name := "longest", desc := "()I" } : Jvm.MethodName) prog_11_method_45_code (3 : Nat) (Option.some Jvm.ClassFile.FieldType.int)) ∈ lw_all := lw_g (lw_at lw_m8 224 rfl) rfl
theorem q1971 : (Jvm.Cond.methodLink "RoyalCourtModel" (141 : Nat) ({ cls := "RoyalCourtModel", name := "parts", desc := "(II)V" } : Jvm.MethodName)) ∈ lw_all := lw_g (lw_at lw_m8 225 rfl) rfl
theorem q1972 : (Jvm.Cond.privateMethod ({ cls := "RoyalCourtModel", name := "parts", desc := "(II)V" } : Jvm.MethodName)) ∈ lw_tbl := lw_at lw_m8 226 rfl
theorem q1973 : (Jvm.Cond.instanceMethod ({ cls := "RoyalCourtModel", name := "parts", desc := "(II)V" } : Jvm.MethodName)) ∈ lw_all := lw_g (lw_at lw_m8 227 rfl) rfl
theorem q1974 : (Jvm.Cond.code ({ cls := "RoyalCourtModel", name := "parts", desc := "(II)V" } : Jvm.MethodName) prog_11_method_44_code (9 : Nat) (Option.none : Option Jvm.ClassFile.FieldType)) ∈ lw_all := lw_g (lw_at lw_m8 228 rfl) rfl
theorem q1975 : (Jvm.Cond.methodLink "RoyalCourtModel" (137 : Nat) ({ cls := "RoyalCourtModel", name := "most", desc := "(II)I" } : Jvm.MethodName)) ∈ lw_all := lw_g (lw_at lw_m8 229 rfl) rfl
theorem q1976 : (Jvm.Cond.static ({ cls := "RoyalCourtModel", name := "most", desc := "(II)I" } : Jvm.MethodName)) ∈ lw_all := lw_g (lw_at lw_m8 230 rfl) rfl
theorem q1977 : (Jvm.Cond.code ({ cls := "RoyalCourtModel", name := "most", desc := "(II)I" } : Jvm.MethodName) prog_11_method_6_code (2 : Nat) (Option.some Jvm.ClassFile.FieldType.int)) ∈ lw_all := lw_g (lw_at lw_m8 231 rfl) rfl
theorem q1979 : (Jvm.Cond.instanceMethod ({ cls := "RoyalCourtModel", name := "removalsByParts", desc := "()I" } : Jvm.MethodName)) ∈ lw_all := lw_g (lw_at lw_m8 233 rfl) rfl
theorem q1980 : (Jvm.Cond.selects "RoyalCourtModel" ({ cls := "RoyalCourtModel", name := "removalsByParts", desc := "()I" } : Jvm.MethodName) ({ cls := "RoyalCourtModel", name := "removalsByParts", desc := "()I" } : Jvm.MethodName)) ∈ lw_all := lw_g (lw_at lw_m8 234 rfl) rfl
theorem q1981 : (Jvm.Cond.code ({ cls := "RoyalCourtModel", name := "removalsByParts", desc := "()I" } : Jvm.MethodName) prog_11_method_48_code (1 : Nat) (Option.some Jvm.ClassFile.FieldType.int)) ∈ lw_all := lw_g (lw_at lw_m8 235 rfl) rfl
theorem q1983 : (Jvm.Cond.instanceMethod ({ cls := "RoyalCourtModel", name := "textError", desc := "()I" } : Jvm.MethodName)) ∈ lw_all := lw_g (lw_at lw_m8 237 rfl) rfl
theorem q1984 : (Jvm.Cond.selects "RoyalCourtModel" ({ cls := "RoyalCourtModel", name := "textError", desc := "()I" } : Jvm.MethodName) ({ cls := "RoyalCourtModel", name := "textError", desc := "()I" } : Jvm.MethodName)) ∈ lw_all := lw_g (lw_at lw_m8 238 rfl) rfl
theorem q1985 : (Jvm.Cond.code ({ cls := "RoyalCourtModel", name := "textError", desc := "()I" } : Jvm.MethodName) prog_11_method_49_code (1 : Nat) (Option.some Jvm.ClassFile.FieldType.int)) ∈ lw_all := lw_g (lw_at lw_m8 239 rfl) rfl
theorem q1987 : (Jvm.Cond.instanceMethod ({ cls := "RoyalCourtModel", name := "submit", desc := "(I)I" } : Jvm.MethodName)) ∈ lw_all := lw_g (lw_at lw_m9 1 rfl) rfl
theorem q1988 : (Jvm.Cond.selects "RoyalCourtModel" ({ cls := "RoyalCourtModel", name := "submit", desc := "(I)I" } : Jvm.MethodName) ({ cls := "RoyalCourtModel", name := "submit", desc := "(I)I" } : Jvm.MethodName)) ∈ lw_all := lw_g (lw_at lw_m9 2 rfl) rfl
theorem q1989 : (Jvm.Cond.code ({ cls := "RoyalCourtModel", name := "submit", desc := "(I)I" } : Jvm.MethodName) prog_11_method_55_code (8 : Nat) (Option.some Jvm.ClassFile.FieldType.int)) ∈ lw_all := lw_g (lw_at lw_m9 3 rfl) rfl
theorem q1990 : (Jvm.Cond.methodLink "RoyalCourtModel" (154 : Nat) ({ cls := "RoyalCourtModel", name := "row", desc := "(I)I" } : Jvm.MethodName)) ∈ lw_all := lw_g (lw_at lw_m9 4 rfl) rfl
theorem q1991 : (Jvm.Cond.privateMethod ({ cls := "RoyalCourtModel", name := "row", desc := "(I)I" } : Jvm.MethodName)) ∈ lw_tbl := lw_at lw_m9 5 rfl
theorem q1992 : (Jvm.Cond.instanceMethod ({ cls := "RoyalCourtModel", name := "row", desc := "(I)I" } : Jvm.MethodName)) ∈ lw_all := lw_g (lw_at lw_m9 6 rfl) rfl
theorem q1993 : (Jvm.Cond.code ({ cls := "RoyalCourtModel", name := "row", desc := "(I)I" } : Jvm.MethodName) prog_11_method_52_code (2 : Nat) (Option.some Jvm.ClassFile.FieldType.int)) ∈ lw_all := lw_g (lw_at lw_m9 7 rfl) rfl
theorem q1994 : (Jvm.Cond.methodLink "RoyalCourtModel" (157 : Nat) ({ cls := "RoyalCourtModel", name := "least", desc := "(II)I" } : Jvm.MethodName)) ∈ lw_all := lw_g (lw_at lw_m9 8 rfl) rfl
theorem q1995 : (Jvm.Cond.static ({ cls := "RoyalCourtModel", name := "least", desc := "(II)I" } : Jvm.MethodName)) ∈ lw_all := lw_g (lw_at lw_m9 9 rfl) rfl
theorem q1996 : (Jvm.Cond.code ({ cls := "RoyalCourtModel", name := "least", desc := "(II)I" } : Jvm.MethodName) prog_11_method_5_code (2 : Nat) (Option.some Jvm.ClassFile.FieldType.int)) ∈ lw_all := lw_g (lw_at lw_m9 10 rfl) rfl
theorem q1998 : (Jvm.Cond.instanceMethod ({ cls := "RoyalCourtModel", name := "grant", desc := "(I)I" } : Jvm.MethodName)) ∈ lw_all := lw_g (lw_at lw_m9 12 rfl) rfl
theorem q1999 : (Jvm.Cond.selects "RoyalCourtModel" ({ cls := "RoyalCourtModel", name := "grant", desc := "(I)I" } : Jvm.MethodName) ({ cls := "RoyalCourtModel", name := "grant", desc := "(I)I" } : Jvm.MethodName)) ∈ lw_all := lw_g (lw_at lw_m9 13 rfl) rfl
theorem q2000 : (Jvm.Cond.code ({ cls := "RoyalCourtModel", name := "grant", desc := "(I)I" } : Jvm.MethodName) prog_11_method_59_code (4 : Nat) (Option.some Jvm.ClassFile.FieldType.int)) ∈ lw_all := lw_g (lw_at lw_m9 14 rfl) rfl
theorem q2001 : (Jvm.Cond.methodLink "RoyalCourtModel" (169 : Nat) ({ cls := "RoyalCourtModel", name := "isLost", desc := "(I)Z" } : Jvm.MethodName)) ∈ lw_all := lw_g (lw_at lw_m9 15 rfl) rfl
theorem q2002 : (Jvm.Cond.privateMethod ({ cls := "RoyalCourtModel", name := "isLost", desc := "(I)Z" } : Jvm.MethodName)) ∈ lw_tbl := lw_at lw_m9 16 rfl
theorem q2003 : (Jvm.Cond.instanceMethod ({ cls := "RoyalCourtModel", name := "isLost", desc := "(I)Z" } : Jvm.MethodName)) ∈ lw_all := lw_g (lw_at lw_m9 17 rfl) rfl
theorem q2004 : (Jvm.Cond.code ({ cls := "RoyalCourtModel", name := "isLost", desc := "(I)Z" } : Jvm.MethodName) prog_11_method_51_code (2 : Nat) (Option.some Jvm.ClassFile.FieldType.boolean)) ∈ lw_all := lw_g (lw_at lw_m9 18 rfl) rfl
theorem q2005 : (Jvm.Cond.methodLink "RoyalCourtModel" (151 : Nat) ({ cls := "RoyalCourtModel", name := "isKept", desc := "(I)Z" } : Jvm.MethodName)) ∈ lw_all := lw_g (lw_at lw_m9 19 rfl) rfl
theorem q2006 : (Jvm.Cond.privateMethod ({ cls := "RoyalCourtModel", name := "isKept", desc := "(I)Z" } : Jvm.MethodName)) ∈ lw_tbl := lw_at lw_m9 20 rfl
theorem q2007 : (Jvm.Cond.instanceMethod ({ cls := "RoyalCourtModel", name := "isKept", desc := "(I)Z" } : Jvm.MethodName)) ∈ lw_all := lw_g (lw_at lw_m9 21 rfl) rfl
theorem q2008 : (Jvm.Cond.code ({ cls := "RoyalCourtModel", name := "isKept", desc := "(I)Z" } : Jvm.MethodName) prog_11_method_50_code (2 : Nat) (Option.some Jvm.ClassFile.FieldType.boolean)) ∈ lw_all := lw_g (lw_at lw_m9 22 rfl) rfl
theorem q2009 : (Jvm.Cond.methodLink "RoyalCourtModel" (172 : Nat) ({ cls := "RoyalCourtModel", name := "value", desc := "(I)I" } : Jvm.MethodName)) ∈ lw_all := lw_g (lw_at lw_m9 23 rfl) rfl
theorem q2010 : (Jvm.Cond.privateMethod ({ cls := "RoyalCourtModel", name := "value", desc := "(I)I" } : Jvm.MethodName)) ∈ lw_tbl := lw_at lw_m9 24 rfl
theorem q2011 : (Jvm.Cond.instanceMethod ({ cls := "RoyalCourtModel", name := "value", desc := "(I)I" } : Jvm.MethodName)) ∈ lw_all := lw_g (lw_at lw_m9 25 rfl) rfl
theorem q2012 : (Jvm.Cond.code ({ cls := "RoyalCourtModel", name := "value", desc := "(I)I" } : Jvm.MethodName) prog_11_method_58_code (2 : Nat) (Option.some Jvm.ClassFile.FieldType.int)) ∈ lw_all := lw_g (lw_at lw_m9 26 rfl) rfl
theorem q2013 : (Jvm.Cond.methodLink "RoyalCourtModel" (166 : Nat) ({ cls := "RoyalCourtModel", name := "worth", desc := "(I)I" } : Jvm.MethodName)) ∈ lw_all := lw_g (lw_at lw_m9 27 rfl) rfl
theorem q2014 : (Jvm.Cond.privateMethod ({ cls := "RoyalCourtModel", name := "worth", desc := "(I)I" } : Jvm.MethodName)) ∈ lw_tbl := lw_at lw_m9 28 rfl
theorem q2015 : (Jvm.Cond.instanceMethod ({ cls := "RoyalCourtModel", name := "worth", desc := "(I)I" } : Jvm.MethodName)) ∈ lw_all := lw_g (lw_at lw_m9 29 rfl) rfl
theorem q2016 : (Jvm.Cond.code ({ cls := "RoyalCourtModel", name := "worth", desc := "(I)I" } : Jvm.MethodName) prog_11_method_57_code (4 : Nat) (Option.some Jvm.ClassFile.FieldType.int)) ∈ lw_all := lw_g (lw_at lw_m9 30 rfl) rfl
theorem q2017 : (Jvm.Cond.methodLink "RoyalCourtModel" (163 : Nat) ({ cls := "RoyalCourtModel", name := "signOf", desc := "(II)I" } : Jvm.MethodName)) ∈ lw_all := lw_g (lw_at lw_m9 31 rfl) rfl
theorem q2018 : (Jvm.Cond.privateMethod ({ cls := "RoyalCourtModel", name := "signOf", desc := "(II)I" } : Jvm.MethodName)) ∈ lw_tbl := lw_at lw_m9 32 rfl
theorem q2019 : (Jvm.Cond.instanceMethod ({ cls := "RoyalCourtModel", name := "signOf", desc := "(II)I" } : Jvm.MethodName)) ∈ lw_all := lw_g (lw_at lw_m9 33 rfl) rfl
theorem q2020 : (Jvm.Cond.code ({ cls := "RoyalCourtModel", name := "signOf", desc := "(II)I" } : Jvm.MethodName) prog_11_method_54_code (3 : Nat) (Option.some Jvm.ClassFile.FieldType.int)) ∈ lw_all := lw_g (lw_at lw_m9 34 rfl) rfl
theorem q2021 : (Jvm.Cond.methodLink "RoyalCourtModel" (175 : Nat) ({ cls := "RoyalCourtModel", name := "drops", desc := "(I)V" } : Jvm.MethodName)) ∈ lw_all := lw_g (lw_at lw_m9 35 rfl) rfl
theorem q2022 : (Jvm.Cond.privateMethod ({ cls := "RoyalCourtModel", name := "drops", desc := "(I)V" } : Jvm.MethodName)) ∈ lw_tbl := lw_at lw_m9 36 rfl
theorem q2023 : (Jvm.Cond.instanceMethod ({ cls := "RoyalCourtModel", name := "drops", desc := "(I)V" } : Jvm.MethodName)) ∈ lw_all := lw_g (lw_at lw_m9 37 rfl) rfl
theorem q2024 : (Jvm.Cond.code ({ cls := "RoyalCourtModel", name := "drops", desc := "(I)V" } : Jvm.MethodName) prog_11_method_56_code (3 : Nat) (Option.none : Option Jvm.ClassFile.FieldType)) ∈ lw_all := lw_g (lw_at lw_m9 38 rfl) rfl
theorem q2026 : (Jvm.Cond.instanceMethod ({ cls := "RoyalCourtModel", name := "withdraw", desc := "(I)I" } : Jvm.MethodName)) ∈ lw_all := lw_g (lw_at lw_m9 40 rfl) rfl
theorem q2027 : (Jvm.Cond.selects "RoyalCourtModel" ({ cls := "RoyalCourtModel", name := "withdraw", desc := "(I)I" } : Jvm.MethodName) ({ cls := "RoyalCourtModel", name := "withdraw", desc := "(I)I" } : Jvm.MethodName)) ∈ lw_all := lw_g (lw_at lw_m9 41 rfl) rfl
theorem q2028 : (Jvm.Cond.code ({ cls := "RoyalCourtModel", name := "withdraw", desc := "(I)I" } : Jvm.MethodName) prog_11_method_60_code (2 : Nat) (Option.some Jvm.ClassFile.FieldType.int)) ∈ lw_all := lw_g (lw_at lw_m9 42 rfl) rfl
theorem q2030 : (Jvm.Cond.instanceMethod ({ cls := "RoyalCourtModel", name := "errorPosition", desc := "()I" } : Jvm.MethodName)) ∈ lw_all := lw_g (lw_at lw_m9 44 rfl) rfl
theorem q2031 : (Jvm.Cond.selects "RoyalCourtModel" ({ cls := "RoyalCourtModel", name := "errorPosition", desc := "()I" } : Jvm.MethodName) ({ cls := "RoyalCourtModel", name := "errorPosition", desc := "()I" } : Jvm.MethodName)) ∈ lw_all := lw_g (lw_at lw_m9 45 rfl) rfl
theorem q2032 : (Jvm.Cond.code ({ cls := "RoyalCourtModel", name := "errorPosition", desc := "()I" } : Jvm.MethodName) prog_11_method_61_code (1 : Nat) (Option.some Jvm.ClassFile.FieldType.int)) ∈ lw_all := lw_g (lw_at lw_m9 46 rfl) rfl
theorem q2034 : (Jvm.Cond.instanceMethod ({ cls := "RoyalCourtModel", name := "requestCount", desc := "()I" } : Jvm.MethodName)) ∈ lw_all := lw_g (lw_at lw_m9 48 rfl) rfl
theorem q2035 : (Jvm.Cond.selects "RoyalCourtModel" ({ cls := "RoyalCourtModel", name := "requestCount", desc := "()I" } : Jvm.MethodName) ({ cls := "RoyalCourtModel", name := "requestCount", desc := "()I" } : Jvm.MethodName)) ∈ lw_all := lw_g (lw_at lw_m9 49 rfl) rfl
theorem q2036 : (Jvm.Cond.code ({ cls := "RoyalCourtModel", name := "requestCount", desc := "()I" } : Jvm.MethodName) prog_11_method_62_code (1 : Nat) (Option.some Jvm.ClassFile.FieldType.int)) ∈ lw_all := lw_g (lw_at lw_m9 50 rfl) rfl
theorem q2038 : (Jvm.Cond.instanceMethod ({ cls := "RoyalCourtModel", name := "courtierOf", desc := "(I)I" } : Jvm.MethodName)) ∈ lw_all := lw_g (lw_at lw_m9 52 rfl) rfl
theorem q2039 : (Jvm.Cond.selects "RoyalCourtModel" ({ cls := "RoyalCourtModel", name := "courtierOf", desc := "(I)I" } : Jvm.MethodName) ({ cls := "RoyalCourtModel", name := "courtierOf", desc := "(I)I" } : Jvm.MethodName)) ∈ lw_all := lw_g (lw_at lw_m9 53 rfl) rfl
theorem q2040 : (Jvm.Cond.code ({ cls := "RoyalCourtModel", name := "courtierOf", desc := "(I)I" } : Jvm.MethodName) prog_11_method_63_code (2 : Nat) (Option.some Jvm.ClassFile.FieldType.int)) ∈ lw_all := lw_g (lw_at lw_m9 54 rfl) rfl
theorem q2042 : (Jvm.Cond.instanceMethod ({ cls := "RoyalCourtModel", name := "valueOf", desc := "(I)I" } : Jvm.MethodName)) ∈ lw_all := lw_g (lw_at lw_m9 56 rfl) rfl
theorem q2043 : (Jvm.Cond.selects "RoyalCourtModel" ({ cls := "RoyalCourtModel", name := "valueOf", desc := "(I)I" } : Jvm.MethodName) ({ cls := "RoyalCourtModel", name := "valueOf", desc := "(I)I" } : Jvm.MethodName)) ∈ lw_all := lw_g (lw_at lw_m9 57 rfl) rfl
theorem q2044 : (Jvm.Cond.code ({ cls := "RoyalCourtModel", name := "valueOf", desc := "(I)I" } : Jvm.MethodName) prog_11_method_64_code (2 : Nat) (Option.some Jvm.ClassFile.FieldType.int)) ∈ lw_all := lw_g (lw_at lw_m9 58 rfl) rfl
theorem q2046 : (Jvm.Cond.instanceMethod ({ cls := "RoyalCourtModel", name := "lengthOf", desc := "(I)I" } : Jvm.MethodName)) ∈ lw_all := lw_g (lw_at lw_m9 60 rfl) rfl
theorem q2047 : (Jvm.Cond.selects "RoyalCourtModel" ({ cls := "RoyalCourtModel", name := "lengthOf", desc := "(I)I" } : Jvm.MethodName) ({ cls := "RoyalCourtModel", name := "lengthOf", desc := "(I)I" } : Jvm.MethodName)) ∈ lw_all := lw_g (lw_at lw_m9 61 rfl) rfl
theorem q2048 : (Jvm.Cond.code ({ cls := "RoyalCourtModel", name := "lengthOf", desc := "(I)I" } : Jvm.MethodName) prog_11_method_65_code (2 : Nat) (Option.some Jvm.ClassFile.FieldType.int)) ∈ lw_all := lw_g (lw_at lw_m9 62 rfl) rfl
theorem q2049 : (Jvm.Cond.methodLink "RoyalCourtModel" (179 : Nat) ({ cls := "RoyalCourtModel", name := "sizeOf", desc := "(I)I" } : Jvm.MethodName)) ∈ lw_all := lw_g (lw_at lw_m9 63 rfl) rfl
theorem q2050 : (Jvm.Cond.privateMethod ({ cls := "RoyalCourtModel", name := "sizeOf", desc := "(I)I" } : Jvm.MethodName)) ∈ lw_tbl := lw_at lw_m9 64 rfl
theorem q2051 : (Jvm.Cond.instanceMethod ({ cls := "RoyalCourtModel", name := "sizeOf", desc := "(I)I" } : Jvm.MethodName)) ∈ lw_all := lw_g (lw_at lw_m9 65 rfl) rfl
theorem q2052 : (Jvm.Cond.code ({ cls := "RoyalCourtModel", name := "sizeOf", desc := "(I)I" } : Jvm.MethodName) prog_11_method_53_code (2 : Nat) (Option.some Jvm.ClassFile.FieldType.int)) ∈ lw_all := lw_g (lw_at lw_m9 66 rfl) rfl
theorem q2054 : (Jvm.Cond.instanceMethod ({ cls := "RoyalCourtModel", name := "symbolOf", desc := "(II)C" } : Jvm.MethodName)) ∈ lw_all := lw_g (lw_at lw_m9 68 rfl) rfl
theorem q2055 : (Jvm.Cond.selects "RoyalCourtModel" ({ cls := "RoyalCourtModel", name := "symbolOf", desc := "(II)C" } : Jvm.MethodName) ({ cls := "RoyalCourtModel", name := "symbolOf", desc := "(II)C" } : Jvm.MethodName)) ∈ lw_all := lw_g (lw_at lw_m9 69 rfl) rfl
theorem q2056 : (Jvm.Cond.code ({ cls := "RoyalCourtModel", name := "symbolOf", desc := "(II)C" } : Jvm.MethodName) prog_11_method_66_code (3 : Nat) (Option.some Jvm.ClassFile.FieldType.char)) ∈ lw_all := lw_g (lw_at lw_m9 70 rfl) rfl
theorem q2058 : (Jvm.Cond.instanceMethod ({ cls := "RoyalCourtModel", name := "depthOf", desc := "(I)I" } : Jvm.MethodName)) ∈ lw_all := lw_g (lw_at lw_m9 72 rfl) rfl
theorem q2059 : (Jvm.Cond.selects "RoyalCourtModel" ({ cls := "RoyalCourtModel", name := "depthOf", desc := "(I)I" } : Jvm.MethodName) ({ cls := "RoyalCourtModel", name := "depthOf", desc := "(I)I" } : Jvm.MethodName)) ∈ lw_all := lw_g (lw_at lw_m9 73 rfl) rfl
theorem q2060 : (Jvm.Cond.code ({ cls := "RoyalCourtModel", name := "depthOf", desc := "(I)I" } : Jvm.MethodName) prog_11_method_67_code (5 : Nat) (Option.some Jvm.ClassFile.FieldType.int)) ∈ lw_all := lw_g (lw_at lw_m9 74 rfl) rfl
theorem q2062 : (Jvm.Cond.instanceMethod ({ cls := "RoyalCourtModel", name := "countOf", desc := "(IC)I" } : Jvm.MethodName)) ∈ lw_all := lw_g (lw_at lw_m9 76 rfl) rfl
theorem q2063 : (Jvm.Cond.selects "RoyalCourtModel" ({ cls := "RoyalCourtModel", name := "countOf", desc := "(IC)I" } : Jvm.MethodName) ({ cls := "RoyalCourtModel", name := "countOf", desc := "(IC)I" } : Jvm.MethodName)) ∈ lw_all := lw_g (lw_at lw_m9 77 rfl) rfl
theorem q2064 : (Jvm.Cond.code ({ cls := "RoyalCourtModel", name := "countOf", desc := "(IC)I" } : Jvm.MethodName) prog_11_method_68_code (5 : Nat) (Option.some Jvm.ClassFile.FieldType.int)) ∈ lw_all := lw_g (lw_at lw_m9 78 rfl) rfl
theorem q2066 : (Jvm.Cond.instanceMethod ({ cls := "RoyalCourtModel", name := "areAlike", desc := "(II)Z" } : Jvm.MethodName)) ∈ lw_all := lw_g (lw_at lw_m9 80 rfl) rfl
theorem q2067 : (Jvm.Cond.selects "RoyalCourtModel" ({ cls := "RoyalCourtModel", name := "areAlike", desc := "(II)Z" } : Jvm.MethodName) ({ cls := "RoyalCourtModel", name := "areAlike", desc := "(II)Z" } : Jvm.MethodName)) ∈ lw_all := lw_g (lw_at lw_m9 81 rfl) rfl
theorem q2068 : (Jvm.Cond.code ({ cls := "RoyalCourtModel", name := "areAlike", desc := "(II)Z" } : Jvm.MethodName) prog_11_method_69_code (5 : Nat) (Option.some Jvm.ClassFile.FieldType.boolean)) ∈ lw_all := lw_g (lw_at lw_m9 82 rfl) rfl
theorem q2070 : (Jvm.Cond.instanceMethod ({ cls := "RoyalCourtModel", name := "requestByValue", desc := "(I)I" } : Jvm.MethodName)) ∈ lw_all := lw_g (lw_at lw_m9 84 rfl) rfl
theorem q2071 : (Jvm.Cond.selects "RoyalCourtModel" ({ cls := "RoyalCourtModel", name := "requestByValue", desc := "(I)I" } : Jvm.MethodName) ({ cls := "RoyalCourtModel", name := "requestByValue", desc := "(I)I" } : Jvm.MethodName)) ∈ lw_all := lw_g (lw_at lw_m9 85 rfl) rfl
theorem q2072 : (Jvm.Cond.code ({ cls := "RoyalCourtModel", name := "requestByValue", desc := "(I)I" } : Jvm.MethodName) prog_11_method_70_code (5 : Nat) (Option.some Jvm.ClassFile.FieldType.int)) ∈ lw_all := lw_g (lw_at lw_m9 86 rfl) rfl
theorem q2074 : (Jvm.Cond.instanceMethod ({ cls := "RoyalCourtModel", name := "setWidth", desc := "(I)I" } : Jvm.MethodName)) ∈ lw_all := lw_g (lw_at lw_m9 88 rfl) rfl
theorem q2075 : (Jvm.Cond.selects "RoyalCourtModel" ({ cls := "RoyalCourtModel", name := "setWidth", desc := "(I)I" } : Jvm.MethodName) ({ cls := "RoyalCourtModel", name := "setWidth", desc := "(I)I" } : Jvm.MethodName)) ∈ lw_all := lw_g (lw_at lw_m9 89 rfl) rfl
theorem q2076 : (Jvm.Cond.code ({ cls := "RoyalCourtModel", name := "setWidth", desc := "(I)I" } : Jvm.MethodName) prog_11_method_72_code (3 : Nat) (Option.some Jvm.ClassFile.FieldType.int)) ∈ lw_all := lw_g (lw_at lw_m9 90 rfl) rfl
theorem q2078 : (Jvm.Cond.instanceMethod ({ cls := "RoyalCourtModel", name := "width", desc := "()I" } : Jvm.MethodName)) ∈ lw_all := lw_g (lw_at lw_m9 92 rfl) rfl
theorem q2079 : (Jvm.Cond.selects "RoyalCourtModel" ({ cls := "RoyalCourtModel", name := "width", desc := "()I" } : Jvm.MethodName) ({ cls := "RoyalCourtModel", name := "width", desc := "()I" } : Jvm.MethodName)) ∈ lw_all := lw_g (lw_at lw_m9 93 rfl) rfl
theorem q2080 : (Jvm.Cond.code ({ cls := "RoyalCourtModel", name := "width", desc := "()I" } : Jvm.MethodName) prog_11_method_73_code (1 : Nat) (Option.some Jvm.ClassFile.FieldType.int)) ∈ lw_all := lw_g (lw_at lw_m9 94 rfl) rfl
theorem q2082 : (Jvm.Cond.instanceMethod ({ cls := "RoyalCourtModel", name := "raggedness", desc := "()I" } : Jvm.MethodName)) ∈ lw_all := lw_g (lw_at lw_m9 96 rfl) rfl
theorem q2083 : (Jvm.Cond.selects "RoyalCourtModel" ({ cls := "RoyalCourtModel", name := "raggedness", desc := "()I" } : Jvm.MethodName) ({ cls := "RoyalCourtModel", name := "raggedness", desc := "()I" } : Jvm.MethodName)) ∈ lw_all := lw_g (lw_at lw_m9 97 rfl) rfl
theorem q2084 : (Jvm.Cond.code ({ cls := "RoyalCourtModel", name := "raggedness", desc := "()I" } : Jvm.MethodName) prog_11_method_74_code (1 : Nat) (Option.some Jvm.ClassFile.FieldType.int)) ∈ lw_all := lw_g (lw_at lw_m9 98 rfl) rfl
theorem q2085 : (Jvm.Cond.methodLink "RoyalCourtModel" (183 : Nat) ({ cls := "RoyalCourtModel", name := "isTooLong", desc := "(I)Z" } : Jvm.MethodName)) ∈ lw_all := lw_g (lw_at lw_m9 99 rfl) rfl
theorem q2086 : (Jvm.Cond.privateMethod ({ cls := "RoyalCourtModel", name := "isTooLong", desc := "(I)Z" } : Jvm.MethodName)) ∈ lw_tbl := lw_at lw_m9 100 rfl
theorem q2087 : (Jvm.Cond.instanceMethod ({ cls := "RoyalCourtModel", name := "isTooLong", desc := "(I)Z" } : Jvm.MethodName)) ∈ lw_all := lw_g (lw_at lw_m9 101 rfl) rfl
theorem q2088 : (Jvm.Cond.code ({ cls := "RoyalCourtModel", name := "isTooLong", desc := "(I)Z" } : Jvm.MethodName) prog_11_method_71_code (7 : Nat) (Option.some Jvm.ClassFile.FieldType.boolean)) ∈ lw_all := lw_g (lw_at lw_m9 102 rfl) rfl
theorem q2089 : (Jvm.Cond.constant "RoyalCourtModel" (182 : Nat) (100000000 : Int32)) ∈ lw_all := lw_g (lw_at lw_m9 103 rfl) rfl
theorem q2091 : (Jvm.Cond.instanceMethod ({ cls := "RoyalCourtModel", name := "raggednessByTrying", desc := "()I" } : Jvm.MethodName)) ∈ lw_all := lw_g (lw_at lw_m9 105 rfl) rfl
theorem q2092 : (Jvm.Cond.selects "RoyalCourtModel" ({ cls := "RoyalCourtModel", name := "raggednessByTrying", desc := "()I" } : Jvm.MethodName) ({ cls := "RoyalCourtModel", name := "raggednessByTrying", desc := "()I" } : Jvm.MethodName)) ∈ lw_all := lw_g (lw_at lw_m9 106 rfl) rfl
theorem q2093 : (Jvm.Cond.code ({ cls := "RoyalCourtModel", name := "raggednessByTrying", desc := "()I" } : Jvm.MethodName) prog_11_method_75_code (1 : Nat) (Option.some Jvm.ClassFile.FieldType.int)) ∈ lw_all := lw_g (lw_at lw_m9 107 rfl) rfl
theorem q2095 : (Jvm.Cond.instanceMethod ({ cls := "RoyalCourtModel", name := "lineCount", desc := "()I" } : Jvm.MethodName)) ∈ lw_all := lw_g (lw_at lw_m9 109 rfl) rfl
theorem q2096 : (Jvm.Cond.selects "RoyalCourtModel" ({ cls := "RoyalCourtModel", name := "lineCount", desc := "()I" } : Jvm.MethodName) ({ cls := "RoyalCourtModel", name := "lineCount", desc := "()I" } : Jvm.MethodName)) ∈ lw_all := lw_g (lw_at lw_m9 110 rfl) rfl
theorem q2097 : (Jvm.Cond.code ({ cls := "RoyalCourtModel", name := "lineCount", desc := "()I" } : Jvm.MethodName) prog_11_method_77_code (1 : Nat) (Option.some Jvm.ClassFile.FieldType.int)) ∈ lw_all := lw_g (lw_at lw_m9 111 rfl) rfl
theorem q2098 : (Jvm.Cond.methodLink "RoyalCourtModel" (186 : Nat) ({ cls := "RoyalCourtModel", name := "line", desc := "(I)I" } : Jvm.MethodName)) ∈ lw_all := lw_g (lw_at lw_m9 112 rfl) rfl
theorem q2099 : (Jvm.Cond.privateMethod ({ cls := "RoyalCourtModel", name := "line", desc := "(I)I" } : Jvm.MethodName)) ∈ lw_tbl := lw_at lw_m9 113 rfl
theorem q2100 : (Jvm.Cond.instanceMethod ({ cls := "RoyalCourtModel", name := "line", desc := "(I)I" } : Jvm.MethodName)) ∈ lw_all := lw_g (lw_at lw_m9 114 rfl) rfl
theorem q2101 : (Jvm.Cond.code ({ cls := "RoyalCourtModel", name := "line", desc := "(I)I" } : Jvm.MethodName) prog_11_method_76_code (4 : Nat) (Option.some Jvm.ClassFile.FieldType.int)) ∈ lw_all := lw_g (lw_at lw_m9 115 rfl) rfl
theorem q2103 : (Jvm.Cond.instanceMethod ({ cls := "RoyalCourtModel", name := "lineOf", desc := "(I)I" } : Jvm.MethodName)) ∈ lw_all := lw_g (lw_at lw_m9 117 rfl) rfl
theorem q2104 : (Jvm.Cond.selects "RoyalCourtModel" ({ cls := "RoyalCourtModel", name := "lineOf", desc := "(I)I" } : Jvm.MethodName) ({ cls := "RoyalCourtModel", name := "lineOf", desc := "(I)I" } : Jvm.MethodName)) ∈ lw_all := lw_g (lw_at lw_m9 118 rfl) rfl
theorem q2105 : (Jvm.Cond.code ({ cls := "RoyalCourtModel", name := "lineOf", desc := "(I)I" } : Jvm.MethodName) prog_11_method_78_code (2 : Nat) (Option.some Jvm.ClassFile.FieldType.int)) ∈ lw_all := lw_g (lw_at lw_m9 119 rfl) rfl
theorem q2107 : (Jvm.Cond.instanceMethod ({ cls := "RoyalCourtModel", name := "grantedCount", desc := "()I" } : Jvm.MethodName)) ∈ lw_all := lw_g (lw_at lw_m9 121 rfl) rfl
theorem q2108 : (Jvm.Cond.selects "RoyalCourtModel" ({ cls := "RoyalCourtModel", name := "grantedCount", desc := "()I" } : Jvm.MethodName) ({ cls := "RoyalCourtModel", name := "grantedCount", desc := "()I" } : Jvm.MethodName)) ∈ lw_all := lw_g (lw_at lw_m9 122 rfl) rfl
theorem q2109 : (Jvm.Cond.code ({ cls := "RoyalCourtModel", name := "grantedCount", desc := "()I" } : Jvm.MethodName) prog_11_method_79_code (1 : Nat) (Option.some Jvm.ClassFile.FieldType.int)) ∈ lw_all := lw_g (lw_at lw_m9 123 rfl) rfl
theorem q2111 : (Jvm.Cond.instanceMethod ({ cls := "RoyalCourtModel", name := "spent", desc := "()J" } : Jvm.MethodName)) ∈ lw_all := lw_g (lw_at lw_m9 125 rfl) rfl
theorem q2112 : (Jvm.Cond.selects "RoyalCourtModel" ({ cls := "RoyalCourtModel", name := "spent", desc := "()J" } : Jvm.MethodName) ({ cls := "RoyalCourtModel", name := "spent", desc := "()J" } : Jvm.MethodName)) ∈ lw_all := lw_g (lw_at lw_m9 126 rfl) rfl
theorem q2113 : (Jvm.Cond.code ({ cls := "RoyalCourtModel", name := "spent", desc := "()J" } : Jvm.MethodName) prog_11_method_80_code (1 : Nat) (Option.some Jvm.ClassFile.FieldType.long)) ∈ lw_all := lw_g (lw_at lw_m9 127 rfl) rfl
theorem q2115 : (Jvm.Cond.instanceMethod ({ cls := "RoyalCourtModel", name := "gained", desc := "()I" } : Jvm.MethodName)) ∈ lw_all := lw_g (lw_at lw_m9 129 rfl) rfl
theorem q2116 : (Jvm.Cond.selects "RoyalCourtModel" ({ cls := "RoyalCourtModel", name := "gained", desc := "()I" } : Jvm.MethodName) ({ cls := "RoyalCourtModel", name := "gained", desc := "()I" } : Jvm.MethodName)) ∈ lw_all := lw_g (lw_at lw_m9 130 rfl) rfl
theorem q2117 : (Jvm.Cond.code ({ cls := "RoyalCourtModel", name := "gained", desc := "()I" } : Jvm.MethodName) prog_11_method_81_code (1 : Nat) (Option.some Jvm.ClassFile.FieldType.int)) ∈ lw_all := lw_g (lw_at lw_m9 131 rfl) rfl
theorem q2119 : (Jvm.Cond.instanceMethod ({ cls := "RoyalCourtModel", name := "lost", desc := "()I" } : Jvm.MethodName)) ∈ lw_all := lw_g (lw_at lw_m9 133 rfl) rfl
theorem q2120 : (Jvm.Cond.selects "RoyalCourtModel" ({ cls := "RoyalCourtModel", name := "lost", desc := "()I" } : Jvm.MethodName) ({ cls := "RoyalCourtModel", name := "lost", desc := "()I" } : Jvm.MethodName)) ∈ lw_all := lw_g (lw_at lw_m9 134 rfl) rfl
theorem q2121 : (Jvm.Cond.code ({ cls := "RoyalCourtModel", name := "lost", desc := "()I" } : Jvm.MethodName) prog_11_method_82_code (1 : Nat) (Option.some Jvm.ClassFile.FieldType.int)) ∈ lw_all := lw_g (lw_at lw_m9 135 rfl) rfl
theorem q2123 : (Jvm.Cond.instanceMethod ({ cls := "RoyalCourtModel", name := "meanValue", desc := "()D" } : Jvm.MethodName)) ∈ lw_all := lw_g (lw_at lw_m9 137 rfl) rfl
theorem q2124 : (Jvm.Cond.selects "RoyalCourtModel" ({ cls := "RoyalCourtModel", name := "meanValue", desc := "()D" } : Jvm.MethodName) ({ cls := "RoyalCourtModel", name := "meanValue", desc := "()D" } : Jvm.MethodName)) ∈ lw_all := lw_g (lw_at lw_m9 138 rfl) rfl
theorem q2125 : (Jvm.Cond.code ({ cls := "RoyalCourtModel", name := "meanValue", desc := "()D" } : Jvm.MethodName) prog_11_method_83_code (3 : Nat) (Option.some Jvm.ClassFile.FieldType.double)) ∈ lw_all := lw_g (lw_at lw_m9 139 rfl) rfl
theorem q2127 : (Jvm.Cond.instanceMethod ({ cls := "RoyalCourtModel", name := "favorShare", desc := "(I)F" } : Jvm.MethodName)) ∈ lw_all := lw_g (lw_at lw_m9 141 rfl) rfl
theorem q2128 : (Jvm.Cond.selects "RoyalCourtModel" ({ cls := "RoyalCourtModel", name := "favorShare", desc := "(I)F" } : Jvm.MethodName) ({ cls := "RoyalCourtModel", name := "favorShare", desc := "(I)F" } : Jvm.MethodName)) ∈ lw_all := lw_g (lw_at lw_m9 142 rfl) rfl
theorem q2129 : (Jvm.Cond.code ({ cls := "RoyalCourtModel", name := "favorShare", desc := "(I)F" } : Jvm.MethodName) prog_11_method_85_code (2 : Nat) (Option.some Jvm.ClassFile.FieldType.float)) ∈ lw_all := lw_g (lw_at lw_m9 143 rfl) rfl
theorem q2130 : (Jvm.Cond.methodLink "RoyalCourtModel" (189 : Nat) ({ cls := "RoyalCourtModel", name := "allFavor", desc := "()I" } : Jvm.MethodName)) ∈ lw_all := lw_g (lw_at lw_m9 144 rfl) rfl
theorem q2131 : (Jvm.Cond.privateMethod ({ cls := "RoyalCourtModel", name := "allFavor", desc := "()I" } : Jvm.MethodName)) ∈ lw_tbl := lw_at lw_m9 145 rfl
theorem q2132 : (Jvm.Cond.instanceMethod ({ cls := "RoyalCourtModel", name := "allFavor", desc := "()I" } : Jvm.MethodName)) ∈ lw_all := lw_g (lw_at lw_m9 146 rfl) rfl
theorem q2133 : (Jvm.Cond.code ({ cls := "RoyalCourtModel", name := "allFavor", desc := "()I" } : Jvm.MethodName) prog_11_method_84_code (3 : Nat) (Option.some Jvm.ClassFile.FieldType.int)) ∈ lw_all := lw_g (lw_at lw_m9 147 rfl) rfl
theorem q2135 : (Jvm.Cond.instanceMethod ({ cls := "RoyalCourtModel", name := "writeLine", desc := "(I)I" } : Jvm.MethodName)) ∈ lw_all := lw_g (lw_at lw_m9 149 rfl) rfl
theorem q2136 : (Jvm.Cond.selects "RoyalCourtModel" ({ cls := "RoyalCourtModel", name := "writeLine", desc := "(I)I" } : Jvm.MethodName) ({ cls := "RoyalCourtModel", name := "writeLine", desc := "(I)I" } : Jvm.MethodName)) ∈ lw_all := lw_g (lw_at lw_m9 150 rfl) rfl
theorem q2137 : (Jvm.Cond.code ({ cls := "RoyalCourtModel", name := "writeLine", desc := "(I)I" } : Jvm.MethodName) prog_11_method_87_code (4 : Nat) (Option.some Jvm.ClassFile.FieldType.int)) ∈ lw_all := lw_g (lw_at lw_m9 151 rfl) rfl
theorem q2138 : (Jvm.Cond.methodLink "RoyalCourtModel" (195 : Nat) ({ cls := "RoyalCourtModel", name := "writes", desc := "(I)V" } : Jvm.MethodName)) ∈ lw_all := lw_g (lw_at lw_m9 152 rfl) rfl
theorem q2139 : (Jvm.Cond.privateMethod ({ cls := "RoyalCourtModel", name := "writes", desc := "(I)V" } : Jvm.MethodName)) ∈ lw_tbl := lw_at lw_m9 153 rfl
theorem q2140 : (Jvm.Cond.instanceMethod ({ cls := "RoyalCourtModel", name := "writes", desc := "(I)V" } : Jvm.MethodName)) ∈ lw_all := lw_g (lw_at lw_m9 154 rfl) rfl
theorem q2141 : (Jvm.Cond.code ({ cls := "RoyalCourtModel", name := "writes", desc := "(I)V" } : Jvm.MethodName) prog_11_method_86_code (2 : Nat) (Option.none : Option Jvm.ClassFile.FieldType)) ∈ lw_all := lw_g (lw_at lw_m9 155 rfl) rfl
theorem q2143 : (Jvm.Cond.instanceMethod ({ cls := "RoyalCourtModel", name := "writeProcession", desc := "()I" } : Jvm.MethodName)) ∈ lw_all := lw_g (lw_at lw_m9 157 rfl) rfl
theorem q2144 : (Jvm.Cond.selects "RoyalCourtModel" ({ cls := "RoyalCourtModel", name := "writeProcession", desc := "()I" } : Jvm.MethodName) ({ cls := "RoyalCourtModel", name := "writeProcession", desc := "()I" } : Jvm.MethodName)) ∈ lw_all := lw_g (lw_at lw_m9 158 rfl) rfl
theorem q2145 : (Jvm.Cond.code ({ cls := "RoyalCourtModel", name := "writeProcession", desc := "()I" } : Jvm.MethodName) prog_11_method_88_code (2 : Nat) (Option.some Jvm.ClassFile.FieldType.int)) ∈ lw_all := lw_g (lw_at lw_m9 159 rfl) rfl
theorem q2147 : (Jvm.Cond.instanceMethod ({ cls := "RoyalCourtModel", name := "outputAt", desc := "(I)C" } : Jvm.MethodName)) ∈ lw_all := lw_g (lw_at lw_m9 161 rfl) rfl
theorem q2148 : (Jvm.Cond.selects "RoyalCourtModel" ({ cls := "RoyalCourtModel", name := "outputAt", desc := "(I)C" } : Jvm.MethodName) ({ cls := "RoyalCourtModel", name := "outputAt", desc := "(I)C" } : Jvm.MethodName)) ∈ lw_all := lw_g (lw_at lw_m9 162 rfl) rfl
theorem q2149 : (Jvm.Cond.code ({ cls := "RoyalCourtModel", name := "outputAt", desc := "(I)C" } : Jvm.MethodName) prog_11_method_89_code (2 : Nat) (Option.some Jvm.ClassFile.FieldType.char)) ∈ lw_all := lw_g (lw_at lw_m9 163 rfl) rfl
theorem q2151 : (Jvm.Cond.instanceMethod ({ cls := "RoyalCourtModel", name := "isConsistent", desc := "()Z" } : Jvm.MethodName)) ∈ lw_all := lw_g (lw_at lw_m9 165 rfl) rfl
theorem q2152 : (Jvm.Cond.selects "RoyalCourtModel" ({ cls := "RoyalCourtModel", name := "isConsistent", desc := "()Z" } : Jvm.MethodName) ({ cls := "RoyalCourtModel", name := "isConsistent", desc := "()Z" } : Jvm.MethodName)) ∈ lw_all := lw_g (lw_at lw_m9 166 rfl) rfl
theorem q2153 : (Jvm.Cond.code ({ cls := "RoyalCourtModel", name := "isConsistent", desc := "()Z" } : Jvm.MethodName) prog_11_method_90_code (1 : Nat) (Option.some Jvm.ClassFile.FieldType.boolean)) ∈ lw_all := lw_g (lw_at lw_m9 167 rfl) rfl
theorem q2155 : (Jvm.Cond.instanceMethod ({ cls := "RoyalCourtModel", name := "undo", desc := "()I" } : Jvm.MethodName)) ∈ lw_all := lw_g (lw_at lw_m9 169 rfl) rfl
theorem q2156 : (Jvm.Cond.selects "RoyalCourtModel" ({ cls := "RoyalCourtModel", name := "undo", desc := "()I" } : Jvm.MethodName) ({ cls := "RoyalCourtModel", name := "undo", desc := "()I" } : Jvm.MethodName)) ∈ lw_all := lw_g (lw_at lw_m9 170 rfl) rfl
theorem q2157 : (Jvm.Cond.code ({ cls := "RoyalCourtModel", name := "undo", desc := "()I" } : Jvm.MethodName) prog_11_method_91_code (1 : Nat) (Option.some Jvm.ClassFile.FieldType.int)) ∈ lw_all := lw_g (lw_at lw_m9 171 rfl) rfl
theorem q2159 : (Jvm.Cond.instanceMethod ({ cls := "RoyalCourtModel", name := "undoCount", desc := "()I" } : Jvm.MethodName)) ∈ lw_all := lw_g (lw_at lw_m9 173 rfl) rfl
theorem q2160 : (Jvm.Cond.selects "RoyalCourtModel" ({ cls := "RoyalCourtModel", name := "undoCount", desc := "()I" } : Jvm.MethodName) ({ cls := "RoyalCourtModel", name := "undoCount", desc := "()I" } : Jvm.MethodName)) ∈ lw_all := lw_g (lw_at lw_m9 174 rfl) rfl
theorem q2161 : (Jvm.Cond.code ({ cls := "RoyalCourtModel", name := "undoCount", desc := "()I" } : Jvm.MethodName) prog_11_method_92_code (1 : Nat) (Option.some Jvm.ClassFile.FieldType.int)) ∈ lw_all := lw_g (lw_at lw_m9 175 rfl) rfl
theorem q2163 : (Jvm.Cond.instanceMethod ({ cls := "RoyalCourtModel", name := "save", desc := "()I" } : Jvm.MethodName)) ∈ lw_all := lw_g (lw_at lw_m9 177 rfl) rfl
theorem q2164 : (Jvm.Cond.selects "RoyalCourtModel" ({ cls := "RoyalCourtModel", name := "save", desc := "()I" } : Jvm.MethodName) ({ cls := "RoyalCourtModel", name := "save", desc := "()I" } : Jvm.MethodName)) ∈ lw_all := lw_g (lw_at lw_m9 178 rfl) rfl
theorem q2165 : (Jvm.Cond.code ({ cls := "RoyalCourtModel", name := "save", desc := "()I" } : Jvm.MethodName) prog_11_method_93_code (1 : Nat) (Option.some Jvm.ClassFile.FieldType.int)) ∈ lw_all := lw_g (lw_at lw_m9 179 rfl) rfl
theorem q2167 : (Jvm.Cond.instanceMethod ({ cls := "RoyalCourtModel", name := "restore", desc := "()I" } : Jvm.MethodName)) ∈ lw_all := lw_g (lw_at lw_m9 181 rfl) rfl
theorem q2168 : (Jvm.Cond.selects "RoyalCourtModel" ({ cls := "RoyalCourtModel", name := "restore", desc := "()I" } : Jvm.MethodName) ({ cls := "RoyalCourtModel", name := "restore", desc := "()I" } : Jvm.MethodName)) ∈ lw_all := lw_g (lw_at lw_m9 182 rfl) rfl
theorem q2169 : (Jvm.Cond.code ({ cls := "RoyalCourtModel", name := "restore", desc := "()I" } : Jvm.MethodName) prog_11_method_94_code (1 : Nat) (Option.some Jvm.ClassFile.FieldType.int)) ∈ lw_all := lw_g (lw_at lw_m9 183 rfl) rfl
theorem q2194 : (Jvm.Cond.castable "RoyalCourtModel" "java/lang/Object") ∈ lw_tbl := lw_at lw_m9 208 rfl
theorem in_X3 : ∀ w ∈ wsX30, w ∈ lw_all := lw_in wsX30 [1761, 1763, 1765, 1767, 1769, 1771, 1773, 1775, 1777, 1779, 1781, 1783, 1785, 1787, 1789, 1791, 1793, 1795, 1797, 1799] (by decide +kernel) (by decide +kernel)
