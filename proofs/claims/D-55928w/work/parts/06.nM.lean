/-! CandleStatuteModel -/
set_option maxRecDepth 100000
def RX4 : String := "CandleStatuteModel"
def TX4 : u_T := fun k => match k with
  | 0 => ("CandleStatuteModel", "fails", "I", false)
  | 1 => ("CandleStatuteModel", "changes", "I", false)
  | 2 => ("CandleStatuteModel", "why", "I", false)
  | 3 => ("CandleStatuteModel", "detail", "I", false)
  | 4 => ("CandleStatuteModel", "behindWhy", "I", false)
  | 5 => ("CandleStatuteModel", "behindDetail", "I", false)
  | 6 => ("CandleStatuteModel", "lastWhy", "I", false)
  | 7 => ("CandleStatuteModel", "lastDetail", "I", false)
  | 8 => ("CandleStatuteModel", "isSaved", "Z", false)
  | 9 => ("CandleStatuteModel", "v", "[I", true)
  | 10 => ("CandleStatuteModel", "before", "[I", true)
  | 11 => ("CandleStatuteModel", "saved", "[I", true)
  | 12 => ("CandleStatuteModel", "kept", "[I", true)
  | 13 => ("CandleStatuteModel", "past", "[I", true)
  | 14 => ("CandleStatuteModel", "parts", "[I", true)
  | 15 => ("CandleStatuteModel", "rests", "[I", true)
  | 16 => ("CandleStatuteModel", "melted", "I", false)
  | 17 => ("CandleStatuteModel", "text", "[I", true)
  | 18 => ("CandleStatuteModel", "line", "[I", true)
  | 19 => ("CandleStatuteModel", "textN", "I", false)
  | 20 => ("CandleStatuteModel", "here", "I", false)
  | 21 => ("CandleStatuteModel", "end", "I", false)
  | 22 => ("CandleStatuteModel", "lineN", "I", false)
  | 23 => ("CandleStatuteModel", "isWrong", "Z", false)
  | _ => ("CandleStatuteModel", "isDoing", "Z", false)
def tyX4 : Nat → FieldType := fun k => match k with
  | 0 => .int
  | 1 => .int
  | 2 => .int
  | 3 => .int
  | 4 => .int
  | 5 => .int
  | 6 => .int
  | 7 => .int
  | 8 => .boolean
  | 9 => .array .int
  | 10 => .array .int
  | 11 => .array .int
  | 12 => .array .int
  | 13 => .array .int
  | 14 => .array .int
  | 15 => .array .int
  | 16 => .int
  | 17 => .array .int
  | 18 => .array .int
  | 19 => .int
  | 20 => .int
  | 21 => .int
  | 22 => .int
  | 23 => .boolean
  | _ => .boolean
abbrev wsX40 : List Cond := u_ws RX4 TX4 25
set_option maxRecDepth 100000 in
theorem nmX4 : ∀ a, a < 25 → ∀ b, b < 25 → a ≠ b → (TX4 a).2.1 ≠ (TX4 b).2.1 := by decide +kernel
set_option maxRecDepth 100000 in
theorem tyX4_ok : ∀ k, k < 25 → parseFieldDescriptor (TX4 k).2.2.1 = some (tyX4 k) := by decide +kernel
abbrev cX4_init : ByteArray := prog_16_method_1_code
def yX4_init : MethodName := ⟨RX4, "<init>", "()V"⟩
def dkwX4_init_5 : List UInt8 := [167, 255, 220, 177]
abbrev dktX4_init_5 : List UInt8 := dkwX4_init_5 ++ []
def dkwX4_init_4 : List UInt8 := [184, 0, 37, 4, 79, 42, 180, 0, 7, 27, 4, 184, 0, 37, 27, 4, 96, 16, 6, 112, 79, 132, 1, 1]
abbrev dktX4_init_4 : List UInt8 := dkwX4_init_4 ++ dktX4_init_5
def dkwX4_init_3 : List UInt8 := [17, 0, 140, 188, 10, 181, 0, 34, 3, 60, 27, 16, 6, 162, 0, 36, 42, 180, 0, 7, 27, 3]
abbrev dktX4_init_3 : List UInt8 := dkwX4_init_3 ++ dktX4_init_4
def dkwX4_init_2 : List UInt8 := [16, 6, 188, 10, 181, 0, 25, 42, 16, 6, 188, 10, 181, 0, 28, 42, 16, 60, 188, 10, 181, 0, 31, 42]
abbrev dktX4_init_2 : List UInt8 := dkwX4_init_2 ++ dktX4_init_3
def dkwX4_init_1 : List UInt8 := [188, 10, 181, 0, 16, 42, 16, 126, 188, 10, 181, 0, 19, 42, 17, 3, 240, 188, 10, 181, 0, 22, 42]
abbrev dktX4_init_1 : List UInt8 := dkwX4_init_1 ++ dktX4_init_2
def dkwX4_init_0 : List UInt8 := [42, 183, 0, 1, 42, 16, 126, 188, 10, 181, 0, 7, 42, 16, 126, 188, 10, 181, 0, 13, 42, 16, 126]
abbrev dktX4_init_0 : List UInt8 := dkwX4_init_0 ++ dktX4_init_1
theorem dksX4_init_0 : cX4_init.data.toList.drop 0 = dktX4_init_0 := by decide +kernel
theorem dksX4_init_1 : cX4_init.data.toList.drop 23 = dktX4_init_1 := dk_seg dksX4_init_0 23 rfl rfl
theorem dksX4_init_2 : cX4_init.data.toList.drop 46 = dktX4_init_2 := dk_seg dksX4_init_1 23 rfl rfl
theorem dksX4_init_3 : cX4_init.data.toList.drop 70 = dktX4_init_3 := dk_seg dksX4_init_2 24 rfl rfl
theorem dksX4_init_4 : cX4_init.data.toList.drop 92 = dktX4_init_4 := dk_seg dksX4_init_3 22 rfl rfl
theorem dksX4_init_5 : cX4_init.data.toList.drop 116 = dktX4_init_5 := dk_seg dksX4_init_4 24 rfl rfl
theorem dX4_init_0 : decode cX4_init 0 = .ok (.aload_n 0, 1) := dk_42 (dk_at dksX4_init_0 0 rfl rfl)
theorem dX4_init_1 : decode cX4_init 1 = .ok (.invokespecial 1, 3) := dk_183 0 1 (dk_at dksX4_init_0 1 rfl rfl)
theorem dX4_init_4 : decode cX4_init 4 = .ok (.aload_n 0, 1) := dk_42 (dk_at dksX4_init_0 4 rfl rfl)
theorem dX4_init_5 : decode cX4_init 5 = .ok (.bipush 126, 2) := dk_16 126 (dk_at dksX4_init_0 5 rfl rfl)
theorem dX4_init_7 : decode cX4_init 7 = .ok (.newarray .int, 2) := dk_188_10 (dk_at dksX4_init_0 7 rfl rfl)
theorem dX4_init_9 : decode cX4_init 9 = .ok (.putfield 7, 3) := dk_181 0 7 (dk_at dksX4_init_0 9 rfl rfl)
theorem dX4_init_12 : decode cX4_init 12 = .ok (.aload_n 0, 1) := dk_42 (dk_at dksX4_init_0 12 rfl rfl)
theorem dX4_init_13 : decode cX4_init 13 = .ok (.bipush 126, 2) := dk_16 126 (dk_at dksX4_init_0 13 rfl rfl)
theorem dX4_init_15 : decode cX4_init 15 = .ok (.newarray .int, 2) := dk_188_10 (dk_at dksX4_init_0 15 rfl rfl)
theorem dX4_init_17 : decode cX4_init 17 = .ok (.putfield 13, 3) := dk_181 0 13 (dk_at dksX4_init_0 17 rfl rfl)
theorem dX4_init_20 : decode cX4_init 20 = .ok (.aload_n 0, 1) := dk_42 (dk_at dksX4_init_0 20 rfl rfl)
theorem dX4_init_21 : decode cX4_init 21 = .ok (.bipush 126, 2) := dk_16 126 (dk_at dksX4_init_0 21 rfl rfl)
theorem dX4_init_23 : decode cX4_init 23 = .ok (.newarray .int, 2) := dk_188_10 (dk_at dksX4_init_1 0 rfl rfl)
theorem dX4_init_25 : decode cX4_init 25 = .ok (.putfield 16, 3) := dk_181 0 16 (dk_at dksX4_init_1 2 rfl rfl)
theorem dX4_init_28 : decode cX4_init 28 = .ok (.aload_n 0, 1) := dk_42 (dk_at dksX4_init_1 5 rfl rfl)
theorem dX4_init_29 : decode cX4_init 29 = .ok (.bipush 126, 2) := dk_16 126 (dk_at dksX4_init_1 6 rfl rfl)
theorem dX4_init_31 : decode cX4_init 31 = .ok (.newarray .int, 2) := dk_188_10 (dk_at dksX4_init_1 8 rfl rfl)
theorem dX4_init_33 : decode cX4_init 33 = .ok (.putfield 19, 3) := dk_181 0 19 (dk_at dksX4_init_1 10 rfl rfl)
theorem dX4_init_36 : decode cX4_init 36 = .ok (.aload_n 0, 1) := dk_42 (dk_at dksX4_init_1 13 rfl rfl)
theorem dX4_init_37 : decode cX4_init 37 = .ok (.sipush 1008, 3) := dk_17 3 240 (dk_at dksX4_init_1 14 rfl rfl)
theorem dX4_init_40 : decode cX4_init 40 = .ok (.newarray .int, 2) := dk_188_10 (dk_at dksX4_init_1 17 rfl rfl)
theorem dX4_init_42 : decode cX4_init 42 = .ok (.putfield 22, 3) := dk_181 0 22 (dk_at dksX4_init_1 19 rfl rfl)
theorem dX4_init_45 : decode cX4_init 45 = .ok (.aload_n 0, 1) := dk_42 (dk_at dksX4_init_1 22 rfl rfl)
theorem dX4_init_46 : decode cX4_init 46 = .ok (.bipush 6, 2) := dk_16 6 (dk_at dksX4_init_2 0 rfl rfl)
theorem dX4_init_48 : decode cX4_init 48 = .ok (.newarray .int, 2) := dk_188_10 (dk_at dksX4_init_2 2 rfl rfl)
theorem dX4_init_50 : decode cX4_init 50 = .ok (.putfield 25, 3) := dk_181 0 25 (dk_at dksX4_init_2 4 rfl rfl)
theorem dX4_init_53 : decode cX4_init 53 = .ok (.aload_n 0, 1) := dk_42 (dk_at dksX4_init_2 7 rfl rfl)
theorem dX4_init_54 : decode cX4_init 54 = .ok (.bipush 6, 2) := dk_16 6 (dk_at dksX4_init_2 8 rfl rfl)
theorem dX4_init_56 : decode cX4_init 56 = .ok (.newarray .int, 2) := dk_188_10 (dk_at dksX4_init_2 10 rfl rfl)
theorem dX4_init_58 : decode cX4_init 58 = .ok (.putfield 28, 3) := dk_181 0 28 (dk_at dksX4_init_2 12 rfl rfl)
theorem dX4_init_61 : decode cX4_init 61 = .ok (.aload_n 0, 1) := dk_42 (dk_at dksX4_init_2 15 rfl rfl)
theorem dX4_init_62 : decode cX4_init 62 = .ok (.bipush 60, 2) := dk_16 60 (dk_at dksX4_init_2 16 rfl rfl)
theorem dX4_init_64 : decode cX4_init 64 = .ok (.newarray .int, 2) := dk_188_10 (dk_at dksX4_init_2 18 rfl rfl)
theorem dX4_init_66 : decode cX4_init 66 = .ok (.putfield 31, 3) := dk_181 0 31 (dk_at dksX4_init_2 20 rfl rfl)
theorem dX4_init_69 : decode cX4_init 69 = .ok (.aload_n 0, 1) := dk_42 (dk_at dksX4_init_2 23 rfl rfl)
theorem dX4_init_70 : decode cX4_init 70 = .ok (.sipush 140, 3) := dk_17 0 140 (dk_at dksX4_init_3 0 rfl rfl)
theorem dX4_init_73 : decode cX4_init 73 = .ok (.newarray .int, 2) := dk_188_10 (dk_at dksX4_init_3 3 rfl rfl)
theorem dX4_init_75 : decode cX4_init 75 = .ok (.putfield 34, 3) := dk_181 0 34 (dk_at dksX4_init_3 5 rfl rfl)
theorem dX4_init_78 : decode cX4_init 78 = .ok (.iconst 0, 1) := dk_3 (dk_at dksX4_init_3 8 rfl rfl)
theorem dX4_init_79 : decode cX4_init 79 = .ok (.istore_n 1, 1) := dk_60 (dk_at dksX4_init_3 9 rfl rfl)
theorem dX4_init_80 : decode cX4_init 80 = .ok (.iload_n 1, 1) := dk_27 (dk_at dksX4_init_3 10 rfl rfl)
theorem dX4_init_81 : decode cX4_init 81 = .ok (.bipush 6, 2) := dk_16 6 (dk_at dksX4_init_3 11 rfl rfl)
theorem dX4_init_83 : decode cX4_init 83 = .ok (.if_icmp .ge 36, 3) := dk_162 0 36 (dk_at dksX4_init_3 13 rfl rfl)
theorem dX4_init_86 : decode cX4_init 86 = .ok (.aload_n 0, 1) := dk_42 (dk_at dksX4_init_3 16 rfl rfl)
theorem dX4_init_87 : decode cX4_init 87 = .ok (.getfield 7, 3) := dk_180 0 7 (dk_at dksX4_init_3 17 rfl rfl)
theorem dX4_init_90 : decode cX4_init 90 = .ok (.iload_n 1, 1) := dk_27 (dk_at dksX4_init_3 20 rfl rfl)
theorem dX4_init_91 : decode cX4_init 91 = .ok (.iconst 0, 1) := dk_3 (dk_at dksX4_init_3 21 rfl rfl)
theorem dX4_init_92 : decode cX4_init 92 = .ok (.invokestatic 37, 3) := dk_184 0 37 (dk_at dksX4_init_4 0 rfl rfl)
theorem dX4_init_95 : decode cX4_init 95 = .ok (.iconst 1, 1) := dk_4 (dk_at dksX4_init_4 3 rfl rfl)
theorem dX4_init_96 : decode cX4_init 96 = .ok (.iastore, 1) := dk_79 (dk_at dksX4_init_4 4 rfl rfl)
theorem dX4_init_97 : decode cX4_init 97 = .ok (.aload_n 0, 1) := dk_42 (dk_at dksX4_init_4 5 rfl rfl)
theorem dX4_init_98 : decode cX4_init 98 = .ok (.getfield 7, 3) := dk_180 0 7 (dk_at dksX4_init_4 6 rfl rfl)
theorem dX4_init_101 : decode cX4_init 101 = .ok (.iload_n 1, 1) := dk_27 (dk_at dksX4_init_4 9 rfl rfl)
theorem dX4_init_102 : decode cX4_init 102 = .ok (.iconst 1, 1) := dk_4 (dk_at dksX4_init_4 10 rfl rfl)
theorem dX4_init_103 : decode cX4_init 103 = .ok (.invokestatic 37, 3) := dk_184 0 37 (dk_at dksX4_init_4 11 rfl rfl)
theorem dX4_init_106 : decode cX4_init 106 = .ok (.iload_n 1, 1) := dk_27 (dk_at dksX4_init_4 14 rfl rfl)
theorem dX4_init_107 : decode cX4_init 107 = .ok (.iconst 1, 1) := dk_4 (dk_at dksX4_init_4 15 rfl rfl)
theorem dX4_init_108 : decode cX4_init 108 = .ok (.iadd, 1) := dk_96 (dk_at dksX4_init_4 16 rfl rfl)
theorem dX4_init_109 : decode cX4_init 109 = .ok (.bipush 6, 2) := dk_16 6 (dk_at dksX4_init_4 17 rfl rfl)
theorem dX4_init_111 : decode cX4_init 111 = .ok (.irem, 1) := dk_112 (dk_at dksX4_init_4 19 rfl rfl)
theorem dX4_init_112 : decode cX4_init 112 = .ok (.iastore, 1) := dk_79 (dk_at dksX4_init_4 20 rfl rfl)
theorem dX4_init_113 : decode cX4_init 113 = .ok (.iinc 1 1, 3) := dk_132 1 1 (dk_at dksX4_init_4 21 rfl rfl)
theorem dX4_init_116 : decode cX4_init 116 = .ok (.goto (-36), 3) := dk_167 255 220 (dk_at dksX4_init_5 0 rfl rfl)
theorem dX4_init_119 : decode cX4_init 119 = .ok (.return_, 1) := dk_177 (dk_at dksX4_init_5 3 rfl rfl)
abbrev cX4_at : ByteArray := prog_16_method_8_code
def yX4_at : MethodName := ⟨RX4, "at", "(II)I"⟩
def dkwX4_at_0 : List UInt8 := [16, 6, 7, 26, 104, 96, 27, 96, 172]
abbrev dktX4_at_0 : List UInt8 := dkwX4_at_0 ++ []
theorem dksX4_at_0 : cX4_at.data.toList.drop 0 = dktX4_at_0 := by decide +kernel
theorem dX4_at_0 : decode cX4_at 0 = .ok (.bipush 6, 2) := dk_16 6 (dk_at dksX4_at_0 0 rfl rfl)
theorem dX4_at_2 : decode cX4_at 2 = .ok (.iconst 4, 1) := dk_7 (dk_at dksX4_at_0 2 rfl rfl)
theorem dX4_at_3 : decode cX4_at 3 = .ok (.iload_n 0, 1) := dk_26 (dk_at dksX4_at_0 3 rfl rfl)
theorem dX4_at_4 : decode cX4_at 4 = .ok (.imul, 1) := dk_104 (dk_at dksX4_at_0 4 rfl rfl)
theorem dX4_at_5 : decode cX4_at 5 = .ok (.iadd, 1) := dk_96 (dk_at dksX4_at_0 5 rfl rfl)
theorem dX4_at_6 : decode cX4_at 6 = .ok (.iload_n 1, 1) := dk_27 (dk_at dksX4_at_0 6 rfl rfl)
theorem dX4_at_7 : decode cX4_at 7 = .ok (.iadd, 1) := dk_96 (dk_at dksX4_at_0 7 rfl rfl)
theorem dX4_at_8 : decode cX4_at 8 = .ok (.ireturn, 1) := dk_172 (dk_at dksX4_at_0 8 rfl rfl)
abbrev cX4_stub : ByteArray := prog_16_method_21_code
def yX4_stub : MethodName := ⟨RX4, "stub", "(III)I"⟩
def dkwX4_stub_0 : List UInt8 := [42, 182, 0, 96, 42, 42, 27, 28, 29, 182, 0, 99, 182, 0, 102, 172]
abbrev dktX4_stub_0 : List UInt8 := dkwX4_stub_0 ++ []
theorem dksX4_stub_0 : cX4_stub.data.toList.drop 0 = dktX4_stub_0 := by decide +kernel
theorem dX4_stub_0 : decode cX4_stub 0 = .ok (.aload_n 0, 1) := dk_42 (dk_at dksX4_stub_0 0 rfl rfl)
theorem dX4_stub_1 : decode cX4_stub 1 = .ok (.invokevirtual 96, 3) := dk_182 0 96 (dk_at dksX4_stub_0 1 rfl rfl)
theorem dX4_stub_4 : decode cX4_stub 4 = .ok (.aload_n 0, 1) := dk_42 (dk_at dksX4_stub_0 4 rfl rfl)
theorem dX4_stub_5 : decode cX4_stub 5 = .ok (.aload_n 0, 1) := dk_42 (dk_at dksX4_stub_0 5 rfl rfl)
theorem dX4_stub_6 : decode cX4_stub 6 = .ok (.iload_n 1, 1) := dk_27 (dk_at dksX4_stub_0 6 rfl rfl)
theorem dX4_stub_7 : decode cX4_stub 7 = .ok (.iload_n 2, 1) := dk_28 (dk_at dksX4_stub_0 7 rfl rfl)
theorem dX4_stub_8 : decode cX4_stub 8 = .ok (.iload_n 3, 1) := dk_29 (dk_at dksX4_stub_0 8 rfl rfl)
theorem dX4_stub_9 : decode cX4_stub 9 = .ok (.invokevirtual 99, 3) := dk_182 0 99 (dk_at dksX4_stub_0 9 rfl rfl)
theorem dX4_stub_12 : decode cX4_stub 12 = .ok (.invokevirtual 102, 3) := dk_182 0 102 (dk_at dksX4_stub_0 12 rfl rfl)
theorem dX4_stub_15 : decode cX4_stub 15 = .ok (.ireturn, 1) := dk_172 (dk_at dksX4_stub_0 15 rfl rfl)
abbrev cX4_begins : ByteArray := prog_16_method_6_code
def yX4_begins : MethodName := ⟨RX4, "begins", "()V"⟩
def dkwX4_begins_0 : List UInt8 := [42, 3, 181, 0, 41, 42, 180, 0, 13, 42, 180, 0, 7, 184, 0, 61, 177]
abbrev dktX4_begins_0 : List UInt8 := dkwX4_begins_0 ++ []
theorem dksX4_begins_0 : cX4_begins.data.toList.drop 0 = dktX4_begins_0 := by decide +kernel
theorem dX4_begins_0 : decode cX4_begins 0 = .ok (.aload_n 0, 1) := dk_42 (dk_at dksX4_begins_0 0 rfl rfl)
theorem dX4_begins_1 : decode cX4_begins 1 = .ok (.iconst 0, 1) := dk_3 (dk_at dksX4_begins_0 1 rfl rfl)
theorem dX4_begins_2 : decode cX4_begins 2 = .ok (.putfield 41, 3) := dk_181 0 41 (dk_at dksX4_begins_0 2 rfl rfl)
theorem dX4_begins_5 : decode cX4_begins 5 = .ok (.aload_n 0, 1) := dk_42 (dk_at dksX4_begins_0 5 rfl rfl)
theorem dX4_begins_6 : decode cX4_begins 6 = .ok (.getfield 13, 3) := dk_180 0 13 (dk_at dksX4_begins_0 6 rfl rfl)
theorem dX4_begins_9 : decode cX4_begins 9 = .ok (.aload_n 0, 1) := dk_42 (dk_at dksX4_begins_0 9 rfl rfl)
theorem dX4_begins_10 : decode cX4_begins 10 = .ok (.getfield 7, 3) := dk_180 0 7 (dk_at dksX4_begins_0 10 rfl rfl)
theorem dX4_begins_13 : decode cX4_begins 13 = .ok (.invokestatic 61, 3) := dk_184 0 61 (dk_at dksX4_begins_0 13 rfl rfl)
theorem dX4_begins_16 : decode cX4_begins 16 = .ok (.return_, 1) := dk_177 (dk_at dksX4_begins_0 16 rfl rfl)
abbrev cX4_lays : ByteArray := prog_16_method_5_code
def yX4_lays : MethodName := ⟨RX4, "lays", "([I[I)V"⟩
def dkwX4_lays_0 : List UInt8 := [3, 61, 28, 16, 126, 162, 0, 15, 42, 28, 43, 28, 46, 79, 132, 2, 1, 167, 255, 241, 177]
abbrev dktX4_lays_0 : List UInt8 := dkwX4_lays_0 ++ []
theorem dksX4_lays_0 : cX4_lays.data.toList.drop 0 = dktX4_lays_0 := by decide +kernel
theorem dX4_lays_0 : decode cX4_lays 0 = .ok (.iconst 0, 1) := dk_3 (dk_at dksX4_lays_0 0 rfl rfl)
theorem dX4_lays_1 : decode cX4_lays 1 = .ok (.istore_n 2, 1) := dk_61 (dk_at dksX4_lays_0 1 rfl rfl)
theorem dX4_lays_2 : decode cX4_lays 2 = .ok (.iload_n 2, 1) := dk_28 (dk_at dksX4_lays_0 2 rfl rfl)
theorem dX4_lays_3 : decode cX4_lays 3 = .ok (.bipush 126, 2) := dk_16 126 (dk_at dksX4_lays_0 3 rfl rfl)
theorem dX4_lays_5 : decode cX4_lays 5 = .ok (.if_icmp .ge 15, 3) := dk_162 0 15 (dk_at dksX4_lays_0 5 rfl rfl)
theorem dX4_lays_8 : decode cX4_lays 8 = .ok (.aload_n 0, 1) := dk_42 (dk_at dksX4_lays_0 8 rfl rfl)
theorem dX4_lays_9 : decode cX4_lays 9 = .ok (.iload_n 2, 1) := dk_28 (dk_at dksX4_lays_0 9 rfl rfl)
theorem dX4_lays_10 : decode cX4_lays 10 = .ok (.aload_n 1, 1) := dk_43 (dk_at dksX4_lays_0 10 rfl rfl)
theorem dX4_lays_11 : decode cX4_lays 11 = .ok (.iload_n 2, 1) := dk_28 (dk_at dksX4_lays_0 11 rfl rfl)
theorem dX4_lays_12 : decode cX4_lays 12 = .ok (.iaload, 1) := dk_46 (dk_at dksX4_lays_0 12 rfl rfl)
theorem dX4_lays_13 : decode cX4_lays 13 = .ok (.iastore, 1) := dk_79 (dk_at dksX4_lays_0 13 rfl rfl)
theorem dX4_lays_14 : decode cX4_lays 14 = .ok (.iinc 2 1, 3) := dk_132 2 1 (dk_at dksX4_lays_0 14 rfl rfl)
theorem dX4_lays_17 : decode cX4_lays 17 = .ok (.goto (-15), 3) := dk_167 255 241 (dk_at dksX4_lays_0 17 rfl rfl)
theorem dX4_lays_20 : decode cX4_lays 20 = .ok (.return_, 1) := dk_177 (dk_at dksX4_lays_0 20 rfl rfl)
abbrev cX4_comes : ByteArray := prog_16_method_20_code
def yX4_comes : MethodName := ⟨RX4, "comes", "(III)I"⟩
def dkwX4_comes_2 : List UInt8 := [180, 0, 7, 4, 92, 46, 28, 96, 79, 42, 27, 28, 29, 182, 0, 92, 172]
abbrev dktX4_comes_2 : List UInt8 := dkwX4_comes_2 ++ []
def dkwX4_comes_1 : List UInt8 := [17, 252, 12, 182, 0, 57, 172, 42, 27, 182, 0, 89, 154, 0, 10, 42, 5, 27, 182, 0, 78, 172, 42]
abbrev dktX4_comes_1 : List UInt8 := dkwX4_comes_1 ++ dktX4_comes_2
def dkwX4_comes_0 : List UInt8 := [27, 184, 0, 81, 154, 0, 11, 42, 17, 252, 13, 182, 0, 57, 172, 28, 29, 184, 0, 85, 154, 0, 11, 42]
abbrev dktX4_comes_0 : List UInt8 := dkwX4_comes_0 ++ dktX4_comes_1
theorem dksX4_comes_0 : cX4_comes.data.toList.drop 0 = dktX4_comes_0 := by decide +kernel
theorem dksX4_comes_1 : cX4_comes.data.toList.drop 24 = dktX4_comes_1 := dk_seg dksX4_comes_0 24 rfl rfl
theorem dksX4_comes_2 : cX4_comes.data.toList.drop 47 = dktX4_comes_2 := dk_seg dksX4_comes_1 23 rfl rfl
theorem dX4_comes_0 : decode cX4_comes 0 = .ok (.iload_n 1, 1) := dk_27 (dk_at dksX4_comes_0 0 rfl rfl)
theorem dX4_comes_1 : decode cX4_comes 1 = .ok (.invokestatic 81, 3) := dk_184 0 81 (dk_at dksX4_comes_0 1 rfl rfl)
theorem dX4_comes_4 : decode cX4_comes 4 = .ok (.ifCond .ne 11, 3) := dk_154 0 11 (dk_at dksX4_comes_0 4 rfl rfl)
theorem dX4_comes_7 : decode cX4_comes 7 = .ok (.aload_n 0, 1) := dk_42 (dk_at dksX4_comes_0 7 rfl rfl)
theorem dX4_comes_8 : decode cX4_comes 8 = .ok (.sipush (-1011), 3) := dk_17 252 13 (dk_at dksX4_comes_0 8 rfl rfl)
theorem dX4_comes_11 : decode cX4_comes 11 = .ok (.invokevirtual 57, 3) := dk_182 0 57 (dk_at dksX4_comes_0 11 rfl rfl)
theorem dX4_comes_14 : decode cX4_comes 14 = .ok (.ireturn, 1) := dk_172 (dk_at dksX4_comes_0 14 rfl rfl)
theorem dX4_comes_15 : decode cX4_comes 15 = .ok (.iload_n 2, 1) := dk_28 (dk_at dksX4_comes_0 15 rfl rfl)
theorem dX4_comes_16 : decode cX4_comes 16 = .ok (.iload_n 3, 1) := dk_29 (dk_at dksX4_comes_0 16 rfl rfl)
theorem dX4_comes_17 : decode cX4_comes 17 = .ok (.invokestatic 85, 3) := dk_184 0 85 (dk_at dksX4_comes_0 17 rfl rfl)
theorem dX4_comes_20 : decode cX4_comes 20 = .ok (.ifCond .ne 11, 3) := dk_154 0 11 (dk_at dksX4_comes_0 20 rfl rfl)
theorem dX4_comes_23 : decode cX4_comes 23 = .ok (.aload_n 0, 1) := dk_42 (dk_at dksX4_comes_0 23 rfl rfl)
theorem dX4_comes_24 : decode cX4_comes 24 = .ok (.sipush (-1012), 3) := dk_17 252 12 (dk_at dksX4_comes_1 0 rfl rfl)
theorem dX4_comes_27 : decode cX4_comes 27 = .ok (.invokevirtual 57, 3) := dk_182 0 57 (dk_at dksX4_comes_1 3 rfl rfl)
theorem dX4_comes_30 : decode cX4_comes 30 = .ok (.ireturn, 1) := dk_172 (dk_at dksX4_comes_1 6 rfl rfl)
theorem dX4_comes_31 : decode cX4_comes 31 = .ok (.aload_n 0, 1) := dk_42 (dk_at dksX4_comes_1 7 rfl rfl)
theorem dX4_comes_32 : decode cX4_comes 32 = .ok (.iload_n 1, 1) := dk_27 (dk_at dksX4_comes_1 8 rfl rfl)
theorem dX4_comes_33 : decode cX4_comes 33 = .ok (.invokevirtual 89, 3) := dk_182 0 89 (dk_at dksX4_comes_1 9 rfl rfl)
theorem dX4_comes_36 : decode cX4_comes 36 = .ok (.ifCond .ne 10, 3) := dk_154 0 10 (dk_at dksX4_comes_1 12 rfl rfl)
theorem dX4_comes_39 : decode cX4_comes 39 = .ok (.aload_n 0, 1) := dk_42 (dk_at dksX4_comes_1 15 rfl rfl)
theorem dX4_comes_40 : decode cX4_comes 40 = .ok (.iconst 2, 1) := dk_5 (dk_at dksX4_comes_1 16 rfl rfl)
theorem dX4_comes_41 : decode cX4_comes 41 = .ok (.iload_n 1, 1) := dk_27 (dk_at dksX4_comes_1 17 rfl rfl)
theorem dX4_comes_42 : decode cX4_comes 42 = .ok (.invokevirtual 78, 3) := dk_182 0 78 (dk_at dksX4_comes_1 18 rfl rfl)
theorem dX4_comes_45 : decode cX4_comes 45 = .ok (.ireturn, 1) := dk_172 (dk_at dksX4_comes_1 21 rfl rfl)
theorem dX4_comes_46 : decode cX4_comes 46 = .ok (.aload_n 0, 1) := dk_42 (dk_at dksX4_comes_1 22 rfl rfl)
theorem dX4_comes_47 : decode cX4_comes 47 = .ok (.getfield 7, 3) := dk_180 0 7 (dk_at dksX4_comes_2 0 rfl rfl)
theorem dX4_comes_50 : decode cX4_comes 50 = .ok (.iconst 1, 1) := dk_4 (dk_at dksX4_comes_2 3 rfl rfl)
theorem dX4_comes_51 : decode cX4_comes 51 = .ok (.dup2, 1) := dk_92 (dk_at dksX4_comes_2 4 rfl rfl)
theorem dX4_comes_52 : decode cX4_comes 52 = .ok (.iaload, 1) := dk_46 (dk_at dksX4_comes_2 5 rfl rfl)
theorem dX4_comes_53 : decode cX4_comes 53 = .ok (.iload_n 2, 1) := dk_28 (dk_at dksX4_comes_2 6 rfl rfl)
theorem dX4_comes_54 : decode cX4_comes 54 = .ok (.iadd, 1) := dk_96 (dk_at dksX4_comes_2 7 rfl rfl)
theorem dX4_comes_55 : decode cX4_comes 55 = .ok (.iastore, 1) := dk_79 (dk_at dksX4_comes_2 8 rfl rfl)
theorem dX4_comes_56 : decode cX4_comes 56 = .ok (.aload_n 0, 1) := dk_42 (dk_at dksX4_comes_2 9 rfl rfl)
theorem dX4_comes_57 : decode cX4_comes 57 = .ok (.iload_n 1, 1) := dk_27 (dk_at dksX4_comes_2 10 rfl rfl)
theorem dX4_comes_58 : decode cX4_comes 58 = .ok (.iload_n 2, 1) := dk_28 (dk_at dksX4_comes_2 11 rfl rfl)
theorem dX4_comes_59 : decode cX4_comes 59 = .ok (.iload_n 3, 1) := dk_29 (dk_at dksX4_comes_2 12 rfl rfl)
theorem dX4_comes_60 : decode cX4_comes 60 = .ok (.invokevirtual 92, 3) := dk_182 0 92 (dk_at dksX4_comes_2 13 rfl rfl)
theorem dX4_comes_63 : decode cX4_comes 63 = .ok (.ireturn, 1) := dk_172 (dk_at dksX4_comes_2 16 rfl rfl)
abbrev cX4_isHouse : ByteArray := prog_16_method_10_code
def yX4_isHouse : MethodName := ⟨RX4, "isHouse", "(I)Z"⟩
def dkwX4_isHouse_0 : List UInt8 := [26, 3, 8, 184, 0, 68, 172]
abbrev dktX4_isHouse_0 : List UInt8 := dkwX4_isHouse_0 ++ []
theorem dksX4_isHouse_0 : cX4_isHouse.data.toList.drop 0 = dktX4_isHouse_0 := by decide +kernel
theorem dX4_isHouse_0 : decode cX4_isHouse 0 = .ok (.iload_n 0, 1) := dk_26 (dk_at dksX4_isHouse_0 0 rfl rfl)
theorem dX4_isHouse_1 : decode cX4_isHouse 1 = .ok (.iconst 0, 1) := dk_3 (dk_at dksX4_isHouse_0 1 rfl rfl)
theorem dX4_isHouse_2 : decode cX4_isHouse 2 = .ok (.iconst 5, 1) := dk_8 (dk_at dksX4_isHouse_0 2 rfl rfl)
theorem dX4_isHouse_3 : decode cX4_isHouse 3 = .ok (.invokestatic 68, 3) := dk_184 0 68 (dk_at dksX4_isHouse_0 3 rfl rfl)
theorem dX4_isHouse_6 : decode cX4_isHouse 6 = .ok (.ireturn, 1) := dk_172 (dk_at dksX4_isHouse_0 6 rfl rfl)
abbrev cX4_isIn : ByteArray := prog_16_method_4_code
def yX4_isIn : MethodName := ⟨RX4, "isIn", "(III)Z"⟩
def dkwX4_isIn_0 : List UInt8 := [26, 27, 161, 0, 12, 26, 28, 163, 0, 7, 4, 167, 0, 4, 3, 172]
abbrev dktX4_isIn_0 : List UInt8 := dkwX4_isIn_0 ++ []
theorem dksX4_isIn_0 : cX4_isIn.data.toList.drop 0 = dktX4_isIn_0 := by decide +kernel
theorem dX4_isIn_0 : decode cX4_isIn 0 = .ok (.iload_n 0, 1) := dk_26 (dk_at dksX4_isIn_0 0 rfl rfl)
theorem dX4_isIn_1 : decode cX4_isIn 1 = .ok (.iload_n 1, 1) := dk_27 (dk_at dksX4_isIn_0 1 rfl rfl)
theorem dX4_isIn_2 : decode cX4_isIn 2 = .ok (.if_icmp .lt 12, 3) := dk_161 0 12 (dk_at dksX4_isIn_0 2 rfl rfl)
theorem dX4_isIn_5 : decode cX4_isIn 5 = .ok (.iload_n 0, 1) := dk_26 (dk_at dksX4_isIn_0 5 rfl rfl)
theorem dX4_isIn_6 : decode cX4_isIn 6 = .ok (.iload_n 2, 1) := dk_28 (dk_at dksX4_isIn_0 6 rfl rfl)
theorem dX4_isIn_7 : decode cX4_isIn 7 = .ok (.if_icmp .gt 7, 3) := dk_163 0 7 (dk_at dksX4_isIn_0 7 rfl rfl)
theorem dX4_isIn_10 : decode cX4_isIn 10 = .ok (.iconst 1, 1) := dk_4 (dk_at dksX4_isIn_0 10 rfl rfl)
theorem dX4_isIn_11 : decode cX4_isIn 11 = .ok (.goto 4, 3) := dk_167 0 4 (dk_at dksX4_isIn_0 11 rfl rfl)
theorem dX4_isIn_14 : decode cX4_isIn 14 = .ok (.iconst 0, 1) := dk_3 (dk_at dksX4_isIn_0 14 rfl rfl)
theorem dX4_isIn_15 : decode cX4_isIn 15 = .ok (.ireturn, 1) := dk_172 (dk_at dksX4_isIn_0 15 rfl rfl)
abbrev cX4_fail : ByteArray := prog_16_method_2_code
def yX4_fail : MethodName := ⟨RX4, "fail", "(I)I"⟩
def dkwX4_fail_0 : List UInt8 := [42, 27, 181, 0, 41, 27, 172]
abbrev dktX4_fail_0 : List UInt8 := dkwX4_fail_0 ++ []
theorem dksX4_fail_0 : cX4_fail.data.toList.drop 0 = dktX4_fail_0 := by decide +kernel
theorem dX4_fail_0 : decode cX4_fail 0 = .ok (.aload_n 0, 1) := dk_42 (dk_at dksX4_fail_0 0 rfl rfl)
theorem dX4_fail_1 : decode cX4_fail 1 = .ok (.iload_n 1, 1) := dk_27 (dk_at dksX4_fail_0 1 rfl rfl)
theorem dX4_fail_2 : decode cX4_fail 2 = .ok (.putfield 41, 3) := dk_181 0 41 (dk_at dksX4_fail_0 2 rfl rfl)
theorem dX4_fail_5 : decode cX4_fail 5 = .ok (.iload_n 1, 1) := dk_27 (dk_at dksX4_fail_0 5 rfl rfl)
theorem dX4_fail_6 : decode cX4_fail 6 = .ok (.ireturn, 1) := dk_172 (dk_at dksX4_fail_0 6 rfl rfl)
abbrev cX4_isMade : ByteArray := prog_16_method_18_code
def yX4_isMade : MethodName := ⟨RX4, "isMade", "(II)Z"⟩
def dkwX4_isMade_1 : List UInt8 := [3, 172]
abbrev dktX4_isMade_1 : List UInt8 := dkwX4_isMade_1 ++ []
def dkwX4_isMade_0 : List UInt8 := [26, 4, 16, 30, 184, 0, 68, 153, 0, 17, 27, 4, 16, 9, 184, 0, 68, 153, 0, 7, 4, 167, 0, 4]
abbrev dktX4_isMade_0 : List UInt8 := dkwX4_isMade_0 ++ dktX4_isMade_1
theorem dksX4_isMade_0 : cX4_isMade.data.toList.drop 0 = dktX4_isMade_0 := by decide +kernel
theorem dksX4_isMade_1 : cX4_isMade.data.toList.drop 24 = dktX4_isMade_1 := dk_seg dksX4_isMade_0 24 rfl rfl
theorem dX4_isMade_0 : decode cX4_isMade 0 = .ok (.iload_n 0, 1) := dk_26 (dk_at dksX4_isMade_0 0 rfl rfl)
theorem dX4_isMade_1 : decode cX4_isMade 1 = .ok (.iconst 1, 1) := dk_4 (dk_at dksX4_isMade_0 1 rfl rfl)
theorem dX4_isMade_2 : decode cX4_isMade 2 = .ok (.bipush 30, 2) := dk_16 30 (dk_at dksX4_isMade_0 2 rfl rfl)
theorem dX4_isMade_4 : decode cX4_isMade 4 = .ok (.invokestatic 68, 3) := dk_184 0 68 (dk_at dksX4_isMade_0 4 rfl rfl)
theorem dX4_isMade_7 : decode cX4_isMade 7 = .ok (.ifCond .eq 17, 3) := dk_153 0 17 (dk_at dksX4_isMade_0 7 rfl rfl)
theorem dX4_isMade_10 : decode cX4_isMade 10 = .ok (.iload_n 1, 1) := dk_27 (dk_at dksX4_isMade_0 10 rfl rfl)
theorem dX4_isMade_11 : decode cX4_isMade 11 = .ok (.iconst 1, 1) := dk_4 (dk_at dksX4_isMade_0 11 rfl rfl)
theorem dX4_isMade_12 : decode cX4_isMade 12 = .ok (.bipush 9, 2) := dk_16 9 (dk_at dksX4_isMade_0 12 rfl rfl)
theorem dX4_isMade_14 : decode cX4_isMade 14 = .ok (.invokestatic 68, 3) := dk_184 0 68 (dk_at dksX4_isMade_0 14 rfl rfl)
theorem dX4_isMade_17 : decode cX4_isMade 17 = .ok (.ifCond .eq 7, 3) := dk_153 0 7 (dk_at dksX4_isMade_0 17 rfl rfl)
theorem dX4_isMade_20 : decode cX4_isMade 20 = .ok (.iconst 1, 1) := dk_4 (dk_at dksX4_isMade_0 20 rfl rfl)
theorem dX4_isMade_21 : decode cX4_isMade 21 = .ok (.goto 4, 3) := dk_167 0 4 (dk_at dksX4_isMade_0 21 rfl rfl)
theorem dX4_isMade_24 : decode cX4_isMade 24 = .ok (.iconst 0, 1) := dk_3 (dk_at dksX4_isMade_1 0 rfl rfl)
theorem dX4_isMade_25 : decode cX4_isMade 25 = .ok (.ireturn, 1) := dk_172 (dk_at dksX4_isMade_1 1 rfl rfl)
abbrev cX4_isOpen : ByteArray := prog_16_method_12_code
def yX4_isOpen : MethodName := ⟨RX4, "isOpen", "(I)Z"⟩
def dkwX4_isOpen_0 : List UInt8 := [42, 180, 0, 7, 27, 3, 184, 0, 37, 46, 4, 160, 0, 7, 4, 167, 0, 4, 3, 172]
abbrev dktX4_isOpen_0 : List UInt8 := dkwX4_isOpen_0 ++ []
theorem dksX4_isOpen_0 : cX4_isOpen.data.toList.drop 0 = dktX4_isOpen_0 := by decide +kernel
theorem dX4_isOpen_0 : decode cX4_isOpen 0 = .ok (.aload_n 0, 1) := dk_42 (dk_at dksX4_isOpen_0 0 rfl rfl)
theorem dX4_isOpen_1 : decode cX4_isOpen 1 = .ok (.getfield 7, 3) := dk_180 0 7 (dk_at dksX4_isOpen_0 1 rfl rfl)
theorem dX4_isOpen_4 : decode cX4_isOpen 4 = .ok (.iload_n 1, 1) := dk_27 (dk_at dksX4_isOpen_0 4 rfl rfl)
theorem dX4_isOpen_5 : decode cX4_isOpen 5 = .ok (.iconst 0, 1) := dk_3 (dk_at dksX4_isOpen_0 5 rfl rfl)
theorem dX4_isOpen_6 : decode cX4_isOpen 6 = .ok (.invokestatic 37, 3) := dk_184 0 37 (dk_at dksX4_isOpen_0 6 rfl rfl)
theorem dX4_isOpen_9 : decode cX4_isOpen 9 = .ok (.iaload, 1) := dk_46 (dk_at dksX4_isOpen_0 9 rfl rfl)
theorem dX4_isOpen_10 : decode cX4_isOpen 10 = .ok (.iconst 1, 1) := dk_4 (dk_at dksX4_isOpen_0 10 rfl rfl)
theorem dX4_isOpen_11 : decode cX4_isOpen 11 = .ok (.if_icmp .ne 7, 3) := dk_160 0 7 (dk_at dksX4_isOpen_0 11 rfl rfl)
theorem dX4_isOpen_14 : decode cX4_isOpen 14 = .ok (.iconst 1, 1) := dk_4 (dk_at dksX4_isOpen_0 14 rfl rfl)
theorem dX4_isOpen_15 : decode cX4_isOpen 15 = .ok (.goto 4, 3) := dk_167 0 4 (dk_at dksX4_isOpen_0 15 rfl rfl)
theorem dX4_isOpen_18 : decode cX4_isOpen 18 = .ok (.iconst 0, 1) := dk_3 (dk_at dksX4_isOpen_0 18 rfl rfl)
theorem dX4_isOpen_19 : decode cX4_isOpen 19 = .ok (.ireturn, 1) := dk_172 (dk_at dksX4_isOpen_0 19 rfl rfl)
abbrev cX4_refuses : ByteArray := prog_16_method_3_code
def yX4_refuses : MethodName := ⟨RX4, "refuses", "(II)I"⟩
def dkwX4_refuses_1 : List UInt8 := [182, 0, 57, 172]
abbrev dktX4_refuses_1 : List UInt8 := dkwX4_refuses_1 ++ []
def dkwX4_refuses_0 : List UInt8 := [42, 27, 181, 0, 45, 42, 28, 181, 0, 48, 42, 3, 181, 0, 51, 42, 3, 181, 0, 54, 42, 17, 252, 10]
abbrev dktX4_refuses_0 : List UInt8 := dkwX4_refuses_0 ++ dktX4_refuses_1
theorem dksX4_refuses_0 : cX4_refuses.data.toList.drop 0 = dktX4_refuses_0 := by decide +kernel
theorem dksX4_refuses_1 : cX4_refuses.data.toList.drop 24 = dktX4_refuses_1 := dk_seg dksX4_refuses_0 24 rfl rfl
theorem dX4_refuses_0 : decode cX4_refuses 0 = .ok (.aload_n 0, 1) := dk_42 (dk_at dksX4_refuses_0 0 rfl rfl)
theorem dX4_refuses_1 : decode cX4_refuses 1 = .ok (.iload_n 1, 1) := dk_27 (dk_at dksX4_refuses_0 1 rfl rfl)
theorem dX4_refuses_2 : decode cX4_refuses 2 = .ok (.putfield 45, 3) := dk_181 0 45 (dk_at dksX4_refuses_0 2 rfl rfl)
theorem dX4_refuses_5 : decode cX4_refuses 5 = .ok (.aload_n 0, 1) := dk_42 (dk_at dksX4_refuses_0 5 rfl rfl)
theorem dX4_refuses_6 : decode cX4_refuses 6 = .ok (.iload_n 2, 1) := dk_28 (dk_at dksX4_refuses_0 6 rfl rfl)
theorem dX4_refuses_7 : decode cX4_refuses 7 = .ok (.putfield 48, 3) := dk_181 0 48 (dk_at dksX4_refuses_0 7 rfl rfl)
theorem dX4_refuses_10 : decode cX4_refuses 10 = .ok (.aload_n 0, 1) := dk_42 (dk_at dksX4_refuses_0 10 rfl rfl)
theorem dX4_refuses_11 : decode cX4_refuses 11 = .ok (.iconst 0, 1) := dk_3 (dk_at dksX4_refuses_0 11 rfl rfl)
theorem dX4_refuses_12 : decode cX4_refuses 12 = .ok (.putfield 51, 3) := dk_181 0 51 (dk_at dksX4_refuses_0 12 rfl rfl)
theorem dX4_refuses_15 : decode cX4_refuses 15 = .ok (.aload_n 0, 1) := dk_42 (dk_at dksX4_refuses_0 15 rfl rfl)
theorem dX4_refuses_16 : decode cX4_refuses 16 = .ok (.iconst 0, 1) := dk_3 (dk_at dksX4_refuses_0 16 rfl rfl)
theorem dX4_refuses_17 : decode cX4_refuses 17 = .ok (.putfield 54, 3) := dk_181 0 54 (dk_at dksX4_refuses_0 17 rfl rfl)
theorem dX4_refuses_20 : decode cX4_refuses 20 = .ok (.aload_n 0, 1) := dk_42 (dk_at dksX4_refuses_0 20 rfl rfl)
theorem dX4_refuses_21 : decode cX4_refuses 21 = .ok (.sipush (-1014), 3) := dk_17 252 10 (dk_at dksX4_refuses_0 21 rfl rfl)
theorem dX4_refuses_24 : decode cX4_refuses 24 = .ok (.invokevirtual 57, 3) := dk_182 0 57 (dk_at dksX4_refuses_1 0 rfl rfl)
theorem dX4_refuses_27 : decode cX4_refuses 27 = .ok (.ireturn, 1) := dk_172 (dk_at dksX4_refuses_1 3 rfl rfl)
abbrev cX4_makes : ByteArray := prog_16_method_19_code
def yX4_makes : MethodName := ⟨RX4, "makes", "(III)I"⟩
def dkwX4_makes_5 : List UInt8 := [180, 0, 7, 3, 92, 46, 4, 96, 79, 21, 4, 172]
abbrev dktX4_makes_5 : List UInt8 := dkwX4_makes_5 ++ []
def dkwX4_makes_4 : List UInt8 := [180, 0, 7, 21, 4, 4, 184, 0, 72, 28, 79, 42, 180, 0, 7, 21, 4, 5, 184, 0, 72, 29, 79, 42]
abbrev dktX4_makes_4 : List UInt8 := dkwX4_makes_4 ++ dktX4_makes_5
def dkwX4_makes_3 : List UInt8 := [184, 0, 72, 3, 79, 132, 6, 1, 167, 255, 233, 42, 180, 0, 7, 21, 4, 3, 184, 0, 72, 27, 79, 42]
abbrev dktX4_makes_3 : List UInt8 := dkwX4_makes_3 ++ dktX4_makes_4
def dkwX4_makes_2 : List UInt8 := [182, 0, 78, 172, 3, 54, 6, 21, 6, 16, 8, 162, 0, 22, 42, 180, 0, 7, 21, 4, 21, 6]
abbrev dktX4_makes_2 : List UInt8 := dkwX4_makes_2 ++ dktX4_makes_3
def dkwX4_makes_1 : List UInt8 := [164, 0, 11, 42, 6, 21, 5, 182, 0, 78, 172, 21, 4, 16, 12, 160, 0, 11, 42, 4, 16, 12]
abbrev dktX4_makes_1 : List UInt8 := dkwX4_makes_1 ++ dktX4_makes_2
def dkwX4_makes_0 : List UInt8 := [42, 180, 0, 7, 3, 46, 54, 4, 42, 27, 182, 0, 75, 28, 96, 4, 96, 54, 5, 21, 5, 16, 60]
abbrev dktX4_makes_0 : List UInt8 := dkwX4_makes_0 ++ dktX4_makes_1
theorem dksX4_makes_0 : cX4_makes.data.toList.drop 0 = dktX4_makes_0 := by decide +kernel
theorem dksX4_makes_1 : cX4_makes.data.toList.drop 23 = dktX4_makes_1 := dk_seg dksX4_makes_0 23 rfl rfl
theorem dksX4_makes_2 : cX4_makes.data.toList.drop 45 = dktX4_makes_2 := dk_seg dksX4_makes_1 22 rfl rfl
theorem dksX4_makes_3 : cX4_makes.data.toList.drop 67 = dktX4_makes_3 := dk_seg dksX4_makes_2 22 rfl rfl
theorem dksX4_makes_4 : cX4_makes.data.toList.drop 91 = dktX4_makes_4 := dk_seg dksX4_makes_3 24 rfl rfl
theorem dksX4_makes_5 : cX4_makes.data.toList.drop 115 = dktX4_makes_5 := dk_seg dksX4_makes_4 24 rfl rfl
theorem dX4_makes_0 : decode cX4_makes 0 = .ok (.aload_n 0, 1) := dk_42 (dk_at dksX4_makes_0 0 rfl rfl)
theorem dX4_makes_1 : decode cX4_makes 1 = .ok (.getfield 7, 3) := dk_180 0 7 (dk_at dksX4_makes_0 1 rfl rfl)
theorem dX4_makes_4 : decode cX4_makes 4 = .ok (.iconst 0, 1) := dk_3 (dk_at dksX4_makes_0 4 rfl rfl)
theorem dX4_makes_5 : decode cX4_makes 5 = .ok (.iaload, 1) := dk_46 (dk_at dksX4_makes_0 5 rfl rfl)
theorem dX4_makes_6 : decode cX4_makes 6 = .ok (.istore 4, 2) := dk_54 4 (dk_at dksX4_makes_0 6 rfl rfl)
theorem dX4_makes_8 : decode cX4_makes 8 = .ok (.aload_n 0, 1) := dk_42 (dk_at dksX4_makes_0 8 rfl rfl)
theorem dX4_makes_9 : decode cX4_makes 9 = .ok (.iload_n 1, 1) := dk_27 (dk_at dksX4_makes_0 9 rfl rfl)
theorem dX4_makes_10 : decode cX4_makes 10 = .ok (.invokevirtual 75, 3) := dk_182 0 75 (dk_at dksX4_makes_0 10 rfl rfl)
theorem dX4_makes_13 : decode cX4_makes 13 = .ok (.iload_n 2, 1) := dk_28 (dk_at dksX4_makes_0 13 rfl rfl)
theorem dX4_makes_14 : decode cX4_makes 14 = .ok (.iadd, 1) := dk_96 (dk_at dksX4_makes_0 14 rfl rfl)
theorem dX4_makes_15 : decode cX4_makes 15 = .ok (.iconst 1, 1) := dk_4 (dk_at dksX4_makes_0 15 rfl rfl)
theorem dX4_makes_16 : decode cX4_makes 16 = .ok (.iadd, 1) := dk_96 (dk_at dksX4_makes_0 16 rfl rfl)
theorem dX4_makes_17 : decode cX4_makes 17 = .ok (.istore 5, 2) := dk_54 5 (dk_at dksX4_makes_0 17 rfl rfl)
theorem dX4_makes_19 : decode cX4_makes 19 = .ok (.iload 5, 2) := dk_21 5 (dk_at dksX4_makes_0 19 rfl rfl)
theorem dX4_makes_21 : decode cX4_makes 21 = .ok (.bipush 60, 2) := dk_16 60 (dk_at dksX4_makes_0 21 rfl rfl)
theorem dX4_makes_23 : decode cX4_makes 23 = .ok (.if_icmp .le 11, 3) := dk_164 0 11 (dk_at dksX4_makes_1 0 rfl rfl)
theorem dX4_makes_26 : decode cX4_makes 26 = .ok (.aload_n 0, 1) := dk_42 (dk_at dksX4_makes_1 3 rfl rfl)
theorem dX4_makes_27 : decode cX4_makes 27 = .ok (.iconst 3, 1) := dk_6 (dk_at dksX4_makes_1 4 rfl rfl)
theorem dX4_makes_28 : decode cX4_makes 28 = .ok (.iload 5, 2) := dk_21 5 (dk_at dksX4_makes_1 5 rfl rfl)
theorem dX4_makes_30 : decode cX4_makes 30 = .ok (.invokevirtual 78, 3) := dk_182 0 78 (dk_at dksX4_makes_1 7 rfl rfl)
theorem dX4_makes_33 : decode cX4_makes 33 = .ok (.ireturn, 1) := dk_172 (dk_at dksX4_makes_1 10 rfl rfl)
theorem dX4_makes_34 : decode cX4_makes 34 = .ok (.iload 4, 2) := dk_21 4 (dk_at dksX4_makes_1 11 rfl rfl)
theorem dX4_makes_36 : decode cX4_makes 36 = .ok (.bipush 12, 2) := dk_16 12 (dk_at dksX4_makes_1 13 rfl rfl)
theorem dX4_makes_38 : decode cX4_makes 38 = .ok (.if_icmp .ne 11, 3) := dk_160 0 11 (dk_at dksX4_makes_1 15 rfl rfl)
theorem dX4_makes_41 : decode cX4_makes 41 = .ok (.aload_n 0, 1) := dk_42 (dk_at dksX4_makes_1 18 rfl rfl)
theorem dX4_makes_42 : decode cX4_makes 42 = .ok (.iconst 1, 1) := dk_4 (dk_at dksX4_makes_1 19 rfl rfl)
theorem dX4_makes_43 : decode cX4_makes 43 = .ok (.bipush 12, 2) := dk_16 12 (dk_at dksX4_makes_1 20 rfl rfl)
theorem dX4_makes_45 : decode cX4_makes 45 = .ok (.invokevirtual 78, 3) := dk_182 0 78 (dk_at dksX4_makes_2 0 rfl rfl)
theorem dX4_makes_48 : decode cX4_makes 48 = .ok (.ireturn, 1) := dk_172 (dk_at dksX4_makes_2 3 rfl rfl)
theorem dX4_makes_49 : decode cX4_makes 49 = .ok (.iconst 0, 1) := dk_3 (dk_at dksX4_makes_2 4 rfl rfl)
theorem dX4_makes_50 : decode cX4_makes 50 = .ok (.istore 6, 2) := dk_54 6 (dk_at dksX4_makes_2 5 rfl rfl)
theorem dX4_makes_52 : decode cX4_makes 52 = .ok (.iload 6, 2) := dk_21 6 (dk_at dksX4_makes_2 7 rfl rfl)
theorem dX4_makes_54 : decode cX4_makes 54 = .ok (.bipush 8, 2) := dk_16 8 (dk_at dksX4_makes_2 9 rfl rfl)
theorem dX4_makes_56 : decode cX4_makes 56 = .ok (.if_icmp .ge 22, 3) := dk_162 0 22 (dk_at dksX4_makes_2 11 rfl rfl)
theorem dX4_makes_59 : decode cX4_makes 59 = .ok (.aload_n 0, 1) := dk_42 (dk_at dksX4_makes_2 14 rfl rfl)
theorem dX4_makes_60 : decode cX4_makes 60 = .ok (.getfield 7, 3) := dk_180 0 7 (dk_at dksX4_makes_2 15 rfl rfl)
theorem dX4_makes_63 : decode cX4_makes 63 = .ok (.iload 4, 2) := dk_21 4 (dk_at dksX4_makes_2 18 rfl rfl)
theorem dX4_makes_65 : decode cX4_makes 65 = .ok (.iload 6, 2) := dk_21 6 (dk_at dksX4_makes_2 20 rfl rfl)
theorem dX4_makes_67 : decode cX4_makes 67 = .ok (.invokestatic 72, 3) := dk_184 0 72 (dk_at dksX4_makes_3 0 rfl rfl)
theorem dX4_makes_70 : decode cX4_makes 70 = .ok (.iconst 0, 1) := dk_3 (dk_at dksX4_makes_3 3 rfl rfl)
theorem dX4_makes_71 : decode cX4_makes 71 = .ok (.iastore, 1) := dk_79 (dk_at dksX4_makes_3 4 rfl rfl)
theorem dX4_makes_72 : decode cX4_makes 72 = .ok (.iinc 6 1, 3) := dk_132 6 1 (dk_at dksX4_makes_3 5 rfl rfl)
theorem dX4_makes_75 : decode cX4_makes 75 = .ok (.goto (-23), 3) := dk_167 255 233 (dk_at dksX4_makes_3 8 rfl rfl)
theorem dX4_makes_78 : decode cX4_makes 78 = .ok (.aload_n 0, 1) := dk_42 (dk_at dksX4_makes_3 11 rfl rfl)
theorem dX4_makes_79 : decode cX4_makes 79 = .ok (.getfield 7, 3) := dk_180 0 7 (dk_at dksX4_makes_3 12 rfl rfl)
theorem dX4_makes_82 : decode cX4_makes 82 = .ok (.iload 4, 2) := dk_21 4 (dk_at dksX4_makes_3 15 rfl rfl)
theorem dX4_makes_84 : decode cX4_makes 84 = .ok (.iconst 0, 1) := dk_3 (dk_at dksX4_makes_3 17 rfl rfl)
theorem dX4_makes_85 : decode cX4_makes 85 = .ok (.invokestatic 72, 3) := dk_184 0 72 (dk_at dksX4_makes_3 18 rfl rfl)
theorem dX4_makes_88 : decode cX4_makes 88 = .ok (.iload_n 1, 1) := dk_27 (dk_at dksX4_makes_3 21 rfl rfl)
theorem dX4_makes_89 : decode cX4_makes 89 = .ok (.iastore, 1) := dk_79 (dk_at dksX4_makes_3 22 rfl rfl)
theorem dX4_makes_90 : decode cX4_makes 90 = .ok (.aload_n 0, 1) := dk_42 (dk_at dksX4_makes_3 23 rfl rfl)
theorem dX4_makes_91 : decode cX4_makes 91 = .ok (.getfield 7, 3) := dk_180 0 7 (dk_at dksX4_makes_4 0 rfl rfl)
theorem dX4_makes_94 : decode cX4_makes 94 = .ok (.iload 4, 2) := dk_21 4 (dk_at dksX4_makes_4 3 rfl rfl)
theorem dX4_makes_96 : decode cX4_makes 96 = .ok (.iconst 1, 1) := dk_4 (dk_at dksX4_makes_4 5 rfl rfl)
theorem dX4_makes_97 : decode cX4_makes 97 = .ok (.invokestatic 72, 3) := dk_184 0 72 (dk_at dksX4_makes_4 6 rfl rfl)
theorem dX4_makes_100 : decode cX4_makes 100 = .ok (.iload_n 2, 1) := dk_28 (dk_at dksX4_makes_4 9 rfl rfl)
theorem dX4_makes_101 : decode cX4_makes 101 = .ok (.iastore, 1) := dk_79 (dk_at dksX4_makes_4 10 rfl rfl)
theorem dX4_makes_102 : decode cX4_makes 102 = .ok (.aload_n 0, 1) := dk_42 (dk_at dksX4_makes_4 11 rfl rfl)
theorem dX4_makes_103 : decode cX4_makes 103 = .ok (.getfield 7, 3) := dk_180 0 7 (dk_at dksX4_makes_4 12 rfl rfl)
theorem dX4_makes_106 : decode cX4_makes 106 = .ok (.iload 4, 2) := dk_21 4 (dk_at dksX4_makes_4 15 rfl rfl)
theorem dX4_makes_108 : decode cX4_makes 108 = .ok (.iconst 2, 1) := dk_5 (dk_at dksX4_makes_4 17 rfl rfl)
theorem dX4_makes_109 : decode cX4_makes 109 = .ok (.invokestatic 72, 3) := dk_184 0 72 (dk_at dksX4_makes_4 18 rfl rfl)
theorem dX4_makes_112 : decode cX4_makes 112 = .ok (.iload_n 3, 1) := dk_29 (dk_at dksX4_makes_4 21 rfl rfl)
theorem dX4_makes_113 : decode cX4_makes 113 = .ok (.iastore, 1) := dk_79 (dk_at dksX4_makes_4 22 rfl rfl)
theorem dX4_makes_114 : decode cX4_makes 114 = .ok (.aload_n 0, 1) := dk_42 (dk_at dksX4_makes_4 23 rfl rfl)
theorem dX4_makes_115 : decode cX4_makes 115 = .ok (.getfield 7, 3) := dk_180 0 7 (dk_at dksX4_makes_5 0 rfl rfl)
theorem dX4_makes_118 : decode cX4_makes 118 = .ok (.iconst 0, 1) := dk_3 (dk_at dksX4_makes_5 3 rfl rfl)
theorem dX4_makes_119 : decode cX4_makes 119 = .ok (.dup2, 1) := dk_92 (dk_at dksX4_makes_5 4 rfl rfl)
theorem dX4_makes_120 : decode cX4_makes 120 = .ok (.iaload, 1) := dk_46 (dk_at dksX4_makes_5 5 rfl rfl)
theorem dX4_makes_121 : decode cX4_makes 121 = .ok (.iconst 1, 1) := dk_4 (dk_at dksX4_makes_5 6 rfl rfl)
theorem dX4_makes_122 : decode cX4_makes 122 = .ok (.iadd, 1) := dk_96 (dk_at dksX4_makes_5 7 rfl rfl)
theorem dX4_makes_123 : decode cX4_makes 123 = .ok (.iastore, 1) := dk_79 (dk_at dksX4_makes_5 8 rfl rfl)
theorem dX4_makes_124 : decode cX4_makes 124 = .ok (.iload 4, 2) := dk_21 4 (dk_at dksX4_makes_5 9 rfl rfl)
theorem dX4_makes_126 : decode cX4_makes 126 = .ok (.ireturn, 1) := dk_172 (dk_at dksX4_makes_5 11 rfl rfl)
abbrev cX4_tray : ByteArray := prog_16_method_14_code
def yX4_tray : MethodName := ⟨RX4, "tray", "(I)I"⟩
def dkwX4_tray_2 : List UInt8 := [132, 3, 1, 167, 255, 210, 28, 172]
abbrev dktX4_tray_2 : List UInt8 := dkwX4_tray_2 ++ []
def dkwX4_tray_1 : List UInt8 := [46, 27, 160, 0, 18, 42, 180, 0, 7, 29, 4, 184, 0, 72, 46, 4, 96, 167, 0, 4, 3, 96, 61]
abbrev dktX4_tray_1 : List UInt8 := dkwX4_tray_1 ++ dktX4_tray_2
def dkwX4_tray_0 : List UInt8 := [3, 61, 3, 62, 29, 42, 180, 0, 7, 3, 46, 162, 0, 42, 28, 42, 180, 0, 7, 29, 3, 184, 0, 72]
abbrev dktX4_tray_0 : List UInt8 := dkwX4_tray_0 ++ dktX4_tray_1
theorem dksX4_tray_0 : cX4_tray.data.toList.drop 0 = dktX4_tray_0 := by decide +kernel
theorem dksX4_tray_1 : cX4_tray.data.toList.drop 24 = dktX4_tray_1 := dk_seg dksX4_tray_0 24 rfl rfl
theorem dksX4_tray_2 : cX4_tray.data.toList.drop 47 = dktX4_tray_2 := dk_seg dksX4_tray_1 23 rfl rfl
theorem dX4_tray_0 : decode cX4_tray 0 = .ok (.iconst 0, 1) := dk_3 (dk_at dksX4_tray_0 0 rfl rfl)
theorem dX4_tray_1 : decode cX4_tray 1 = .ok (.istore_n 2, 1) := dk_61 (dk_at dksX4_tray_0 1 rfl rfl)
theorem dX4_tray_2 : decode cX4_tray 2 = .ok (.iconst 0, 1) := dk_3 (dk_at dksX4_tray_0 2 rfl rfl)
theorem dX4_tray_3 : decode cX4_tray 3 = .ok (.istore_n 3, 1) := dk_62 (dk_at dksX4_tray_0 3 rfl rfl)
theorem dX4_tray_4 : decode cX4_tray 4 = .ok (.iload_n 3, 1) := dk_29 (dk_at dksX4_tray_0 4 rfl rfl)
theorem dX4_tray_5 : decode cX4_tray 5 = .ok (.aload_n 0, 1) := dk_42 (dk_at dksX4_tray_0 5 rfl rfl)
theorem dX4_tray_6 : decode cX4_tray 6 = .ok (.getfield 7, 3) := dk_180 0 7 (dk_at dksX4_tray_0 6 rfl rfl)
theorem dX4_tray_9 : decode cX4_tray 9 = .ok (.iconst 0, 1) := dk_3 (dk_at dksX4_tray_0 9 rfl rfl)
theorem dX4_tray_10 : decode cX4_tray 10 = .ok (.iaload, 1) := dk_46 (dk_at dksX4_tray_0 10 rfl rfl)
theorem dX4_tray_11 : decode cX4_tray 11 = .ok (.if_icmp .ge 42, 3) := dk_162 0 42 (dk_at dksX4_tray_0 11 rfl rfl)
theorem dX4_tray_14 : decode cX4_tray 14 = .ok (.iload_n 2, 1) := dk_28 (dk_at dksX4_tray_0 14 rfl rfl)
theorem dX4_tray_15 : decode cX4_tray 15 = .ok (.aload_n 0, 1) := dk_42 (dk_at dksX4_tray_0 15 rfl rfl)
theorem dX4_tray_16 : decode cX4_tray 16 = .ok (.getfield 7, 3) := dk_180 0 7 (dk_at dksX4_tray_0 16 rfl rfl)
theorem dX4_tray_19 : decode cX4_tray 19 = .ok (.iload_n 3, 1) := dk_29 (dk_at dksX4_tray_0 19 rfl rfl)
theorem dX4_tray_20 : decode cX4_tray 20 = .ok (.iconst 0, 1) := dk_3 (dk_at dksX4_tray_0 20 rfl rfl)
theorem dX4_tray_21 : decode cX4_tray 21 = .ok (.invokestatic 72, 3) := dk_184 0 72 (dk_at dksX4_tray_0 21 rfl rfl)
theorem dX4_tray_24 : decode cX4_tray 24 = .ok (.iaload, 1) := dk_46 (dk_at dksX4_tray_1 0 rfl rfl)
theorem dX4_tray_25 : decode cX4_tray 25 = .ok (.iload_n 1, 1) := dk_27 (dk_at dksX4_tray_1 1 rfl rfl)
theorem dX4_tray_26 : decode cX4_tray 26 = .ok (.if_icmp .ne 18, 3) := dk_160 0 18 (dk_at dksX4_tray_1 2 rfl rfl)
theorem dX4_tray_29 : decode cX4_tray 29 = .ok (.aload_n 0, 1) := dk_42 (dk_at dksX4_tray_1 5 rfl rfl)
theorem dX4_tray_30 : decode cX4_tray 30 = .ok (.getfield 7, 3) := dk_180 0 7 (dk_at dksX4_tray_1 6 rfl rfl)
theorem dX4_tray_33 : decode cX4_tray 33 = .ok (.iload_n 3, 1) := dk_29 (dk_at dksX4_tray_1 9 rfl rfl)
theorem dX4_tray_34 : decode cX4_tray 34 = .ok (.iconst 1, 1) := dk_4 (dk_at dksX4_tray_1 10 rfl rfl)
theorem dX4_tray_35 : decode cX4_tray 35 = .ok (.invokestatic 72, 3) := dk_184 0 72 (dk_at dksX4_tray_1 11 rfl rfl)
theorem dX4_tray_38 : decode cX4_tray 38 = .ok (.iaload, 1) := dk_46 (dk_at dksX4_tray_1 14 rfl rfl)
theorem dX4_tray_39 : decode cX4_tray 39 = .ok (.iconst 1, 1) := dk_4 (dk_at dksX4_tray_1 15 rfl rfl)
theorem dX4_tray_40 : decode cX4_tray 40 = .ok (.iadd, 1) := dk_96 (dk_at dksX4_tray_1 16 rfl rfl)
theorem dX4_tray_41 : decode cX4_tray 41 = .ok (.goto 4, 3) := dk_167 0 4 (dk_at dksX4_tray_1 17 rfl rfl)
theorem dX4_tray_44 : decode cX4_tray 44 = .ok (.iconst 0, 1) := dk_3 (dk_at dksX4_tray_1 20 rfl rfl)
theorem dX4_tray_45 : decode cX4_tray 45 = .ok (.iadd, 1) := dk_96 (dk_at dksX4_tray_1 21 rfl rfl)
theorem dX4_tray_46 : decode cX4_tray 46 = .ok (.istore_n 2, 1) := dk_61 (dk_at dksX4_tray_1 22 rfl rfl)
theorem dX4_tray_47 : decode cX4_tray 47 = .ok (.iinc 3 1, 3) := dk_132 3 1 (dk_at dksX4_tray_2 0 rfl rfl)
theorem dX4_tray_50 : decode cX4_tray 50 = .ok (.goto (-46), 3) := dk_167 255 210 (dk_at dksX4_tray_2 3 rfl rfl)
theorem dX4_tray_53 : decode cX4_tray 53 = .ok (.iload_n 2, 1) := dk_28 (dk_at dksX4_tray_2 6 rfl rfl)
theorem dX4_tray_54 : decode cX4_tray 54 = .ok (.ireturn, 1) := dk_172 (dk_at dksX4_tray_2 7 rfl rfl)
abbrev cX4_in : ByteArray := prog_16_method_9_code
def yX4_in : MethodName := ⟨RX4, "in", "(II)I"⟩
def dkwX4_in_0 : List UInt8 := [16, 30, 16, 8, 26, 104, 96, 27, 96, 172]
abbrev dktX4_in_0 : List UInt8 := dkwX4_in_0 ++ []
theorem dksX4_in_0 : cX4_in.data.toList.drop 0 = dktX4_in_0 := by decide +kernel
theorem dX4_in_0 : decode cX4_in 0 = .ok (.bipush 30, 2) := dk_16 30 (dk_at dksX4_in_0 0 rfl rfl)
theorem dX4_in_2 : decode cX4_in 2 = .ok (.bipush 8, 2) := dk_16 8 (dk_at dksX4_in_0 2 rfl rfl)
theorem dX4_in_4 : decode cX4_in 4 = .ok (.iload_n 0, 1) := dk_26 (dk_at dksX4_in_0 4 rfl rfl)
theorem dX4_in_5 : decode cX4_in 5 = .ok (.imul, 1) := dk_104 (dk_at dksX4_in_0 5 rfl rfl)
theorem dX4_in_6 : decode cX4_in 6 = .ok (.iadd, 1) := dk_96 (dk_at dksX4_in_0 6 rfl rfl)
theorem dX4_in_7 : decode cX4_in 7 = .ok (.iload_n 1, 1) := dk_27 (dk_at dksX4_in_0 7 rfl rfl)
theorem dX4_in_8 : decode cX4_in 8 = .ok (.iadd, 1) := dk_96 (dk_at dksX4_in_0 8 rfl rfl)
theorem dX4_in_9 : decode cX4_in 9 = .ok (.ireturn, 1) := dk_172 (dk_at dksX4_in_0 9 rfl rfl)
abbrev cX4_ends : ByteArray := prog_16_method_7_code
def yX4_ends : MethodName := ⟨RX4, "ends", "(I)I"⟩
def dkwX4_ends_5 : List UInt8 := [172]
abbrev dktX4_ends_5 : List UInt8 := dkwX4_ends_5 ++ []
def dkwX4_ends_4 : List UInt8 := [42, 180, 0, 13, 28, 46, 79, 132, 2, 1, 167, 255, 227, 42, 89, 180, 0, 65, 4, 96, 181, 0, 65, 27]
abbrev dktX4_ends_4 : List UInt8 := dkwX4_ends_4 ++ dktX4_ends_5
def dkwX4_ends_3 : List UInt8 := [181, 0, 65, 3, 61, 28, 16, 126, 162, 0, 29, 42, 180, 0, 22, 42, 180, 0, 65, 16, 126, 104, 28, 96]
abbrev dktX4_ends_3 : List UInt8 := dkwX4_ends_3 ++ dktX4_ends_4
def dkwX4_ends_2 : List UInt8 := [180, 0, 22, 28, 16, 126, 96, 46, 79, 132, 2, 1, 167, 255, 231, 42, 89, 180, 0, 65, 4, 100]
abbrev dktX4_ends_2 : List UInt8 := dkwX4_ends_2 ++ dktX4_ends_3
def dkwX4_ends_1 : List UInt8 := [180, 0, 65, 16, 8, 160, 0, 43, 3, 61, 28, 17, 3, 114, 162, 0, 24, 42, 180, 0, 22, 28, 42]
abbrev dktX4_ends_1 : List UInt8 := dkwX4_ends_1 ++ dktX4_ends_2
def dkwX4_ends_0 : List UInt8 := [42, 180, 0, 41, 153, 0, 19, 42, 180, 0, 7, 42, 180, 0, 13, 184, 0, 61, 42, 180, 0, 41, 172, 42]
abbrev dktX4_ends_0 : List UInt8 := dkwX4_ends_0 ++ dktX4_ends_1
theorem dksX4_ends_0 : cX4_ends.data.toList.drop 0 = dktX4_ends_0 := by decide +kernel
theorem dksX4_ends_1 : cX4_ends.data.toList.drop 24 = dktX4_ends_1 := dk_seg dksX4_ends_0 24 rfl rfl
theorem dksX4_ends_2 : cX4_ends.data.toList.drop 47 = dktX4_ends_2 := dk_seg dksX4_ends_1 23 rfl rfl
theorem dksX4_ends_3 : cX4_ends.data.toList.drop 69 = dktX4_ends_3 := dk_seg dksX4_ends_2 22 rfl rfl
theorem dksX4_ends_4 : cX4_ends.data.toList.drop 93 = dktX4_ends_4 := dk_seg dksX4_ends_3 24 rfl rfl
theorem dksX4_ends_5 : cX4_ends.data.toList.drop 117 = dktX4_ends_5 := dk_seg dksX4_ends_4 24 rfl rfl
theorem dX4_ends_0 : decode cX4_ends 0 = .ok (.aload_n 0, 1) := dk_42 (dk_at dksX4_ends_0 0 rfl rfl)
theorem dX4_ends_1 : decode cX4_ends 1 = .ok (.getfield 41, 3) := dk_180 0 41 (dk_at dksX4_ends_0 1 rfl rfl)
theorem dX4_ends_4 : decode cX4_ends 4 = .ok (.ifCond .eq 19, 3) := dk_153 0 19 (dk_at dksX4_ends_0 4 rfl rfl)
theorem dX4_ends_7 : decode cX4_ends 7 = .ok (.aload_n 0, 1) := dk_42 (dk_at dksX4_ends_0 7 rfl rfl)
theorem dX4_ends_8 : decode cX4_ends 8 = .ok (.getfield 7, 3) := dk_180 0 7 (dk_at dksX4_ends_0 8 rfl rfl)
theorem dX4_ends_11 : decode cX4_ends 11 = .ok (.aload_n 0, 1) := dk_42 (dk_at dksX4_ends_0 11 rfl rfl)
theorem dX4_ends_12 : decode cX4_ends 12 = .ok (.getfield 13, 3) := dk_180 0 13 (dk_at dksX4_ends_0 12 rfl rfl)
theorem dX4_ends_15 : decode cX4_ends 15 = .ok (.invokestatic 61, 3) := dk_184 0 61 (dk_at dksX4_ends_0 15 rfl rfl)
theorem dX4_ends_18 : decode cX4_ends 18 = .ok (.aload_n 0, 1) := dk_42 (dk_at dksX4_ends_0 18 rfl rfl)
theorem dX4_ends_19 : decode cX4_ends 19 = .ok (.getfield 41, 3) := dk_180 0 41 (dk_at dksX4_ends_0 19 rfl rfl)
theorem dX4_ends_22 : decode cX4_ends 22 = .ok (.ireturn, 1) := dk_172 (dk_at dksX4_ends_0 22 rfl rfl)
theorem dX4_ends_23 : decode cX4_ends 23 = .ok (.aload_n 0, 1) := dk_42 (dk_at dksX4_ends_0 23 rfl rfl)
theorem dX4_ends_24 : decode cX4_ends 24 = .ok (.getfield 65, 3) := dk_180 0 65 (dk_at dksX4_ends_1 0 rfl rfl)
theorem dX4_ends_27 : decode cX4_ends 27 = .ok (.bipush 8, 2) := dk_16 8 (dk_at dksX4_ends_1 3 rfl rfl)
theorem dX4_ends_29 : decode cX4_ends 29 = .ok (.if_icmp .ne 43, 3) := dk_160 0 43 (dk_at dksX4_ends_1 5 rfl rfl)
theorem dX4_ends_32 : decode cX4_ends 32 = .ok (.iconst 0, 1) := dk_3 (dk_at dksX4_ends_1 8 rfl rfl)
theorem dX4_ends_33 : decode cX4_ends 33 = .ok (.istore_n 2, 1) := dk_61 (dk_at dksX4_ends_1 9 rfl rfl)
theorem dX4_ends_34 : decode cX4_ends 34 = .ok (.iload_n 2, 1) := dk_28 (dk_at dksX4_ends_1 10 rfl rfl)
theorem dX4_ends_35 : decode cX4_ends 35 = .ok (.sipush 882, 3) := dk_17 3 114 (dk_at dksX4_ends_1 11 rfl rfl)
theorem dX4_ends_38 : decode cX4_ends 38 = .ok (.if_icmp .ge 24, 3) := dk_162 0 24 (dk_at dksX4_ends_1 14 rfl rfl)
theorem dX4_ends_41 : decode cX4_ends 41 = .ok (.aload_n 0, 1) := dk_42 (dk_at dksX4_ends_1 17 rfl rfl)
theorem dX4_ends_42 : decode cX4_ends 42 = .ok (.getfield 22, 3) := dk_180 0 22 (dk_at dksX4_ends_1 18 rfl rfl)
theorem dX4_ends_45 : decode cX4_ends 45 = .ok (.iload_n 2, 1) := dk_28 (dk_at dksX4_ends_1 21 rfl rfl)
theorem dX4_ends_46 : decode cX4_ends 46 = .ok (.aload_n 0, 1) := dk_42 (dk_at dksX4_ends_1 22 rfl rfl)
theorem dX4_ends_47 : decode cX4_ends 47 = .ok (.getfield 22, 3) := dk_180 0 22 (dk_at dksX4_ends_2 0 rfl rfl)
theorem dX4_ends_50 : decode cX4_ends 50 = .ok (.iload_n 2, 1) := dk_28 (dk_at dksX4_ends_2 3 rfl rfl)
theorem dX4_ends_51 : decode cX4_ends 51 = .ok (.bipush 126, 2) := dk_16 126 (dk_at dksX4_ends_2 4 rfl rfl)
theorem dX4_ends_53 : decode cX4_ends 53 = .ok (.iadd, 1) := dk_96 (dk_at dksX4_ends_2 6 rfl rfl)
theorem dX4_ends_54 : decode cX4_ends 54 = .ok (.iaload, 1) := dk_46 (dk_at dksX4_ends_2 7 rfl rfl)
theorem dX4_ends_55 : decode cX4_ends 55 = .ok (.iastore, 1) := dk_79 (dk_at dksX4_ends_2 8 rfl rfl)
theorem dX4_ends_56 : decode cX4_ends 56 = .ok (.iinc 2 1, 3) := dk_132 2 1 (dk_at dksX4_ends_2 9 rfl rfl)
theorem dX4_ends_59 : decode cX4_ends 59 = .ok (.goto (-25), 3) := dk_167 255 231 (dk_at dksX4_ends_2 12 rfl rfl)
theorem dX4_ends_62 : decode cX4_ends 62 = .ok (.aload_n 0, 1) := dk_42 (dk_at dksX4_ends_2 15 rfl rfl)
theorem dX4_ends_63 : decode cX4_ends 63 = .ok (.dup, 1) := dk_89 (dk_at dksX4_ends_2 16 rfl rfl)
theorem dX4_ends_64 : decode cX4_ends 64 = .ok (.getfield 65, 3) := dk_180 0 65 (dk_at dksX4_ends_2 17 rfl rfl)
theorem dX4_ends_67 : decode cX4_ends 67 = .ok (.iconst 1, 1) := dk_4 (dk_at dksX4_ends_2 20 rfl rfl)
theorem dX4_ends_68 : decode cX4_ends 68 = .ok (.isub, 1) := dk_100 (dk_at dksX4_ends_2 21 rfl rfl)
theorem dX4_ends_69 : decode cX4_ends 69 = .ok (.putfield 65, 3) := dk_181 0 65 (dk_at dksX4_ends_3 0 rfl rfl)
theorem dX4_ends_72 : decode cX4_ends 72 = .ok (.iconst 0, 1) := dk_3 (dk_at dksX4_ends_3 3 rfl rfl)
theorem dX4_ends_73 : decode cX4_ends 73 = .ok (.istore_n 2, 1) := dk_61 (dk_at dksX4_ends_3 4 rfl rfl)
theorem dX4_ends_74 : decode cX4_ends 74 = .ok (.iload_n 2, 1) := dk_28 (dk_at dksX4_ends_3 5 rfl rfl)
theorem dX4_ends_75 : decode cX4_ends 75 = .ok (.bipush 126, 2) := dk_16 126 (dk_at dksX4_ends_3 6 rfl rfl)
theorem dX4_ends_77 : decode cX4_ends 77 = .ok (.if_icmp .ge 29, 3) := dk_162 0 29 (dk_at dksX4_ends_3 8 rfl rfl)
theorem dX4_ends_80 : decode cX4_ends 80 = .ok (.aload_n 0, 1) := dk_42 (dk_at dksX4_ends_3 11 rfl rfl)
theorem dX4_ends_81 : decode cX4_ends 81 = .ok (.getfield 22, 3) := dk_180 0 22 (dk_at dksX4_ends_3 12 rfl rfl)
theorem dX4_ends_84 : decode cX4_ends 84 = .ok (.aload_n 0, 1) := dk_42 (dk_at dksX4_ends_3 15 rfl rfl)
theorem dX4_ends_85 : decode cX4_ends 85 = .ok (.getfield 65, 3) := dk_180 0 65 (dk_at dksX4_ends_3 16 rfl rfl)
theorem dX4_ends_88 : decode cX4_ends 88 = .ok (.bipush 126, 2) := dk_16 126 (dk_at dksX4_ends_3 19 rfl rfl)
theorem dX4_ends_90 : decode cX4_ends 90 = .ok (.imul, 1) := dk_104 (dk_at dksX4_ends_3 21 rfl rfl)
theorem dX4_ends_91 : decode cX4_ends 91 = .ok (.iload_n 2, 1) := dk_28 (dk_at dksX4_ends_3 22 rfl rfl)
theorem dX4_ends_92 : decode cX4_ends 92 = .ok (.iadd, 1) := dk_96 (dk_at dksX4_ends_3 23 rfl rfl)
theorem dX4_ends_93 : decode cX4_ends 93 = .ok (.aload_n 0, 1) := dk_42 (dk_at dksX4_ends_4 0 rfl rfl)
theorem dX4_ends_94 : decode cX4_ends 94 = .ok (.getfield 13, 3) := dk_180 0 13 (dk_at dksX4_ends_4 1 rfl rfl)
theorem dX4_ends_97 : decode cX4_ends 97 = .ok (.iload_n 2, 1) := dk_28 (dk_at dksX4_ends_4 4 rfl rfl)
theorem dX4_ends_98 : decode cX4_ends 98 = .ok (.iaload, 1) := dk_46 (dk_at dksX4_ends_4 5 rfl rfl)
theorem dX4_ends_99 : decode cX4_ends 99 = .ok (.iastore, 1) := dk_79 (dk_at dksX4_ends_4 6 rfl rfl)
theorem dX4_ends_100 : decode cX4_ends 100 = .ok (.iinc 2 1, 3) := dk_132 2 1 (dk_at dksX4_ends_4 7 rfl rfl)
theorem dX4_ends_103 : decode cX4_ends 103 = .ok (.goto (-29), 3) := dk_167 255 227 (dk_at dksX4_ends_4 10 rfl rfl)
theorem dX4_ends_106 : decode cX4_ends 106 = .ok (.aload_n 0, 1) := dk_42 (dk_at dksX4_ends_4 13 rfl rfl)
theorem dX4_ends_107 : decode cX4_ends 107 = .ok (.dup, 1) := dk_89 (dk_at dksX4_ends_4 14 rfl rfl)
theorem dX4_ends_108 : decode cX4_ends 108 = .ok (.getfield 65, 3) := dk_180 0 65 (dk_at dksX4_ends_4 15 rfl rfl)
theorem dX4_ends_111 : decode cX4_ends 111 = .ok (.iconst 1, 1) := dk_4 (dk_at dksX4_ends_4 18 rfl rfl)
theorem dX4_ends_112 : decode cX4_ends 112 = .ok (.iadd, 1) := dk_96 (dk_at dksX4_ends_4 19 rfl rfl)
theorem dX4_ends_113 : decode cX4_ends 113 = .ok (.putfield 65, 3) := dk_181 0 65 (dk_at dksX4_ends_4 20 rfl rfl)
theorem dX4_ends_116 : decode cX4_ends 116 = .ok (.iload_n 1, 1) := dk_27 (dk_at dksX4_ends_4 23 rfl rfl)
theorem dX4_ends_117 : decode cX4_ends 117 = .ok (.ireturn, 1) := dk_172 (dk_at dksX4_ends_5 0 rfl rfl)
abbrev cX4_burn : ByteArray := prog_16_method_24_code
def yX4_burn : MethodName := ⟨RX4, "burn", "(II)I"⟩
def dkwX4_burn_0 : List UInt8 := [42, 182, 0, 96, 42, 42, 27, 28, 182, 0, 118, 182, 0, 102, 172]
abbrev dktX4_burn_0 : List UInt8 := dkwX4_burn_0 ++ []
theorem dksX4_burn_0 : cX4_burn.data.toList.drop 0 = dktX4_burn_0 := by decide +kernel
theorem dX4_burn_0 : decode cX4_burn 0 = .ok (.aload_n 0, 1) := dk_42 (dk_at dksX4_burn_0 0 rfl rfl)
theorem dX4_burn_1 : decode cX4_burn 1 = .ok (.invokevirtual 96, 3) := dk_182 0 96 (dk_at dksX4_burn_0 1 rfl rfl)
theorem dX4_burn_4 : decode cX4_burn 4 = .ok (.aload_n 0, 1) := dk_42 (dk_at dksX4_burn_0 4 rfl rfl)
theorem dX4_burn_5 : decode cX4_burn 5 = .ok (.aload_n 0, 1) := dk_42 (dk_at dksX4_burn_0 5 rfl rfl)
theorem dX4_burn_6 : decode cX4_burn 6 = .ok (.iload_n 1, 1) := dk_27 (dk_at dksX4_burn_0 6 rfl rfl)
theorem dX4_burn_7 : decode cX4_burn 7 = .ok (.iload_n 2, 1) := dk_28 (dk_at dksX4_burn_0 7 rfl rfl)
theorem dX4_burn_8 : decode cX4_burn 8 = .ok (.invokevirtual 118, 3) := dk_182 0 118 (dk_at dksX4_burn_0 8 rfl rfl)
theorem dX4_burn_11 : decode cX4_burn 11 = .ok (.invokevirtual 102, 3) := dk_182 0 102 (dk_at dksX4_burn_0 11 rfl rfl)
theorem dX4_burn_14 : decode cX4_burn 14 = .ok (.ireturn, 1) := dk_172 (dk_at dksX4_burn_0 14 rfl rfl)
abbrev cX4_burns : ByteArray := prog_16_method_23_code
def yX4_burns : MethodName := ⟨RX4, "burns", "(II)I"⟩
def dkwX4_burns_11 : List UInt8 := [21, 4, 172]
abbrev dktX4_burns_11 : List UInt8 := dkwX4_burns_11 ++ []
def dkwX4_burns_10 : List UInt8 := [184, 0, 72, 3, 79, 42, 180, 0, 7, 27, 4, 184, 0, 72, 46, 154, 0, 8, 42, 27, 182, 0, 114]
abbrev dktX4_burns_10 : List UInt8 := dkwX4_burns_10 ++ dktX4_burns_11
def dkwX4_burns_9 : List UInt8 := [21, 4, 96, 79, 42, 180, 0, 7, 27, 7, 184, 0, 72, 46, 154, 0, 14, 42, 180, 0, 7, 27, 6]
abbrev dktX4_burns_9 : List UInt8 := dkwX4_burns_9 ++ dktX4_burns_10
def dkwX4_burns_8 : List UInt8 := [79, 42, 180, 0, 7, 27, 7, 184, 0, 72, 92, 46, 21, 4, 100, 79, 42, 180, 0, 7, 7, 92, 46]
abbrev dktX4_burns_8 : List UInt8 := dkwX4_burns_8 ++ dktX4_burns_9
def dkwX4_burns_7 : List UInt8 := [42, 180, 0, 7, 6, 92, 46, 29, 96, 79, 42, 180, 0, 7, 27, 16, 7, 184, 0, 72, 92, 46, 29, 96]
abbrev dktX4_burns_7 : List UInt8 := dkwX4_burns_7 ++ dktX4_burns_8
def dkwX4_burns_6 : List UInt8 := [42, 180, 0, 7, 27, 4, 184, 0, 72, 92, 46, 28, 100, 79, 42, 180, 0, 7, 5, 92, 46, 28, 96, 79]
abbrev dktX4_burns_6 : List UInt8 := dkwX4_burns_6 ++ dktX4_burns_7
def dkwX4_burns_5 : List UInt8 := [184, 0, 72, 46, 29, 162, 0, 16, 42, 180, 0, 7, 27, 7, 184, 0, 72, 46, 167, 0, 4, 29, 54, 4]
abbrev dktX4_burns_5 : List UInt8 := dkwX4_burns_5 ++ dktX4_burns_6
def dkwX4_burns_4 : List UInt8 := [182, 0, 111, 172, 28, 42, 180, 0, 7, 27, 5, 184, 0, 72, 46, 104, 62, 42, 180, 0, 7, 27, 7]
abbrev dktX4_burns_4 : List UInt8 := dkwX4_burns_4 ++ dktX4_burns_5
def dkwX4_burns_3 : List UInt8 := [27, 4, 184, 0, 72, 46, 28, 162, 0, 21, 42, 27, 16, 6, 42, 180, 0, 7, 27, 4, 184, 0, 72, 46]
abbrev dktX4_burns_3 : List UInt8 := dkwX4_burns_3 ++ dktX4_burns_4
def dkwX4_burns_2 : List UInt8 := [158, 0, 20, 42, 27, 8, 42, 180, 0, 7, 27, 8, 184, 0, 72, 46, 182, 0, 111, 172, 42, 180, 0, 7]
abbrev dktX4_burns_2 : List UInt8 := dkwX4_burns_2 ++ dktX4_burns_3
def dkwX4_burns_1 : List UInt8 := [154, 0, 11, 42, 17, 252, 12, 182, 0, 57, 172, 42, 180, 0, 7, 27, 16, 6, 184, 0, 72, 46]
abbrev dktX4_burns_1 : List UInt8 := dkwX4_burns_1 ++ dktX4_burns_2
def dkwX4_burns_0 : List UInt8 := [42, 27, 182, 0, 108, 154, 0, 11, 42, 17, 252, 13, 182, 0, 57, 172, 28, 4, 16, 30, 184, 0, 68]
abbrev dktX4_burns_0 : List UInt8 := dkwX4_burns_0 ++ dktX4_burns_1
theorem dksX4_burns_0 : cX4_burns.data.toList.drop 0 = dktX4_burns_0 := by decide +kernel
theorem dksX4_burns_1 : cX4_burns.data.toList.drop 23 = dktX4_burns_1 := dk_seg dksX4_burns_0 23 rfl rfl
theorem dksX4_burns_2 : cX4_burns.data.toList.drop 45 = dktX4_burns_2 := dk_seg dksX4_burns_1 22 rfl rfl
theorem dksX4_burns_3 : cX4_burns.data.toList.drop 69 = dktX4_burns_3 := dk_seg dksX4_burns_2 24 rfl rfl
theorem dksX4_burns_4 : cX4_burns.data.toList.drop 93 = dktX4_burns_4 := dk_seg dksX4_burns_3 24 rfl rfl
theorem dksX4_burns_5 : cX4_burns.data.toList.drop 116 = dktX4_burns_5 := dk_seg dksX4_burns_4 23 rfl rfl
theorem dksX4_burns_6 : cX4_burns.data.toList.drop 140 = dktX4_burns_6 := dk_seg dksX4_burns_5 24 rfl rfl
theorem dksX4_burns_7 : cX4_burns.data.toList.drop 164 = dktX4_burns_7 := dk_seg dksX4_burns_6 24 rfl rfl
theorem dksX4_burns_8 : cX4_burns.data.toList.drop 188 = dktX4_burns_8 := dk_seg dksX4_burns_7 24 rfl rfl
theorem dksX4_burns_9 : cX4_burns.data.toList.drop 211 = dktX4_burns_9 := dk_seg dksX4_burns_8 23 rfl rfl
theorem dksX4_burns_10 : cX4_burns.data.toList.drop 234 = dktX4_burns_10 := dk_seg dksX4_burns_9 23 rfl rfl
theorem dksX4_burns_11 : cX4_burns.data.toList.drop 257 = dktX4_burns_11 := dk_seg dksX4_burns_10 23 rfl rfl
theorem dX4_burns_0 : decode cX4_burns 0 = .ok (.aload_n 0, 1) := dk_42 (dk_at dksX4_burns_0 0 rfl rfl)
theorem dX4_burns_1 : decode cX4_burns 1 = .ok (.iload_n 1, 1) := dk_27 (dk_at dksX4_burns_0 1 rfl rfl)
theorem dX4_burns_2 : decode cX4_burns 2 = .ok (.invokevirtual 108, 3) := dk_182 0 108 (dk_at dksX4_burns_0 2 rfl rfl)
theorem dX4_burns_5 : decode cX4_burns 5 = .ok (.ifCond .ne 11, 3) := dk_154 0 11 (dk_at dksX4_burns_0 5 rfl rfl)
theorem dX4_burns_8 : decode cX4_burns 8 = .ok (.aload_n 0, 1) := dk_42 (dk_at dksX4_burns_0 8 rfl rfl)
theorem dX4_burns_9 : decode cX4_burns 9 = .ok (.sipush (-1011), 3) := dk_17 252 13 (dk_at dksX4_burns_0 9 rfl rfl)
theorem dX4_burns_12 : decode cX4_burns 12 = .ok (.invokevirtual 57, 3) := dk_182 0 57 (dk_at dksX4_burns_0 12 rfl rfl)
theorem dX4_burns_15 : decode cX4_burns 15 = .ok (.ireturn, 1) := dk_172 (dk_at dksX4_burns_0 15 rfl rfl)
theorem dX4_burns_16 : decode cX4_burns 16 = .ok (.iload_n 2, 1) := dk_28 (dk_at dksX4_burns_0 16 rfl rfl)
theorem dX4_burns_17 : decode cX4_burns 17 = .ok (.iconst 1, 1) := dk_4 (dk_at dksX4_burns_0 17 rfl rfl)
theorem dX4_burns_18 : decode cX4_burns 18 = .ok (.bipush 30, 2) := dk_16 30 (dk_at dksX4_burns_0 18 rfl rfl)
theorem dX4_burns_20 : decode cX4_burns 20 = .ok (.invokestatic 68, 3) := dk_184 0 68 (dk_at dksX4_burns_0 20 rfl rfl)
theorem dX4_burns_23 : decode cX4_burns 23 = .ok (.ifCond .ne 11, 3) := dk_154 0 11 (dk_at dksX4_burns_1 0 rfl rfl)
theorem dX4_burns_26 : decode cX4_burns 26 = .ok (.aload_n 0, 1) := dk_42 (dk_at dksX4_burns_1 3 rfl rfl)
theorem dX4_burns_27 : decode cX4_burns 27 = .ok (.sipush (-1012), 3) := dk_17 252 12 (dk_at dksX4_burns_1 4 rfl rfl)
theorem dX4_burns_30 : decode cX4_burns 30 = .ok (.invokevirtual 57, 3) := dk_182 0 57 (dk_at dksX4_burns_1 7 rfl rfl)
theorem dX4_burns_33 : decode cX4_burns 33 = .ok (.ireturn, 1) := dk_172 (dk_at dksX4_burns_1 10 rfl rfl)
theorem dX4_burns_34 : decode cX4_burns 34 = .ok (.aload_n 0, 1) := dk_42 (dk_at dksX4_burns_1 11 rfl rfl)
theorem dX4_burns_35 : decode cX4_burns 35 = .ok (.getfield 7, 3) := dk_180 0 7 (dk_at dksX4_burns_1 12 rfl rfl)
theorem dX4_burns_38 : decode cX4_burns 38 = .ok (.iload_n 1, 1) := dk_27 (dk_at dksX4_burns_1 15 rfl rfl)
theorem dX4_burns_39 : decode cX4_burns 39 = .ok (.bipush 6, 2) := dk_16 6 (dk_at dksX4_burns_1 16 rfl rfl)
theorem dX4_burns_41 : decode cX4_burns 41 = .ok (.invokestatic 72, 3) := dk_184 0 72 (dk_at dksX4_burns_1 18 rfl rfl)
theorem dX4_burns_44 : decode cX4_burns 44 = .ok (.iaload, 1) := dk_46 (dk_at dksX4_burns_1 21 rfl rfl)
theorem dX4_burns_45 : decode cX4_burns 45 = .ok (.ifCond .le 20, 3) := dk_158 0 20 (dk_at dksX4_burns_2 0 rfl rfl)
theorem dX4_burns_48 : decode cX4_burns 48 = .ok (.aload_n 0, 1) := dk_42 (dk_at dksX4_burns_2 3 rfl rfl)
theorem dX4_burns_49 : decode cX4_burns 49 = .ok (.iload_n 1, 1) := dk_27 (dk_at dksX4_burns_2 4 rfl rfl)
theorem dX4_burns_50 : decode cX4_burns 50 = .ok (.iconst 5, 1) := dk_8 (dk_at dksX4_burns_2 5 rfl rfl)
theorem dX4_burns_51 : decode cX4_burns 51 = .ok (.aload_n 0, 1) := dk_42 (dk_at dksX4_burns_2 6 rfl rfl)
theorem dX4_burns_52 : decode cX4_burns 52 = .ok (.getfield 7, 3) := dk_180 0 7 (dk_at dksX4_burns_2 7 rfl rfl)
theorem dX4_burns_55 : decode cX4_burns 55 = .ok (.iload_n 1, 1) := dk_27 (dk_at dksX4_burns_2 10 rfl rfl)
theorem dX4_burns_56 : decode cX4_burns 56 = .ok (.iconst 5, 1) := dk_8 (dk_at dksX4_burns_2 11 rfl rfl)
theorem dX4_burns_57 : decode cX4_burns 57 = .ok (.invokestatic 72, 3) := dk_184 0 72 (dk_at dksX4_burns_2 12 rfl rfl)
theorem dX4_burns_60 : decode cX4_burns 60 = .ok (.iaload, 1) := dk_46 (dk_at dksX4_burns_2 15 rfl rfl)
theorem dX4_burns_61 : decode cX4_burns 61 = .ok (.invokevirtual 111, 3) := dk_182 0 111 (dk_at dksX4_burns_2 16 rfl rfl)
theorem dX4_burns_64 : decode cX4_burns 64 = .ok (.ireturn, 1) := dk_172 (dk_at dksX4_burns_2 19 rfl rfl)
theorem dX4_burns_65 : decode cX4_burns 65 = .ok (.aload_n 0, 1) := dk_42 (dk_at dksX4_burns_2 20 rfl rfl)
theorem dX4_burns_66 : decode cX4_burns 66 = .ok (.getfield 7, 3) := dk_180 0 7 (dk_at dksX4_burns_2 21 rfl rfl)
theorem dX4_burns_69 : decode cX4_burns 69 = .ok (.iload_n 1, 1) := dk_27 (dk_at dksX4_burns_3 0 rfl rfl)
theorem dX4_burns_70 : decode cX4_burns 70 = .ok (.iconst 1, 1) := dk_4 (dk_at dksX4_burns_3 1 rfl rfl)
theorem dX4_burns_71 : decode cX4_burns 71 = .ok (.invokestatic 72, 3) := dk_184 0 72 (dk_at dksX4_burns_3 2 rfl rfl)
theorem dX4_burns_74 : decode cX4_burns 74 = .ok (.iaload, 1) := dk_46 (dk_at dksX4_burns_3 5 rfl rfl)
theorem dX4_burns_75 : decode cX4_burns 75 = .ok (.iload_n 2, 1) := dk_28 (dk_at dksX4_burns_3 6 rfl rfl)
theorem dX4_burns_76 : decode cX4_burns 76 = .ok (.if_icmp .ge 21, 3) := dk_162 0 21 (dk_at dksX4_burns_3 7 rfl rfl)
theorem dX4_burns_79 : decode cX4_burns 79 = .ok (.aload_n 0, 1) := dk_42 (dk_at dksX4_burns_3 10 rfl rfl)
theorem dX4_burns_80 : decode cX4_burns 80 = .ok (.iload_n 1, 1) := dk_27 (dk_at dksX4_burns_3 11 rfl rfl)
theorem dX4_burns_81 : decode cX4_burns 81 = .ok (.bipush 6, 2) := dk_16 6 (dk_at dksX4_burns_3 12 rfl rfl)
theorem dX4_burns_83 : decode cX4_burns 83 = .ok (.aload_n 0, 1) := dk_42 (dk_at dksX4_burns_3 14 rfl rfl)
theorem dX4_burns_84 : decode cX4_burns 84 = .ok (.getfield 7, 3) := dk_180 0 7 (dk_at dksX4_burns_3 15 rfl rfl)
theorem dX4_burns_87 : decode cX4_burns 87 = .ok (.iload_n 1, 1) := dk_27 (dk_at dksX4_burns_3 18 rfl rfl)
theorem dX4_burns_88 : decode cX4_burns 88 = .ok (.iconst 1, 1) := dk_4 (dk_at dksX4_burns_3 19 rfl rfl)
theorem dX4_burns_89 : decode cX4_burns 89 = .ok (.invokestatic 72, 3) := dk_184 0 72 (dk_at dksX4_burns_3 20 rfl rfl)
theorem dX4_burns_92 : decode cX4_burns 92 = .ok (.iaload, 1) := dk_46 (dk_at dksX4_burns_3 23 rfl rfl)
theorem dX4_burns_93 : decode cX4_burns 93 = .ok (.invokevirtual 111, 3) := dk_182 0 111 (dk_at dksX4_burns_4 0 rfl rfl)
theorem dX4_burns_96 : decode cX4_burns 96 = .ok (.ireturn, 1) := dk_172 (dk_at dksX4_burns_4 3 rfl rfl)
theorem dX4_burns_97 : decode cX4_burns 97 = .ok (.iload_n 2, 1) := dk_28 (dk_at dksX4_burns_4 4 rfl rfl)
theorem dX4_burns_98 : decode cX4_burns 98 = .ok (.aload_n 0, 1) := dk_42 (dk_at dksX4_burns_4 5 rfl rfl)
theorem dX4_burns_99 : decode cX4_burns 99 = .ok (.getfield 7, 3) := dk_180 0 7 (dk_at dksX4_burns_4 6 rfl rfl)
theorem dX4_burns_102 : decode cX4_burns 102 = .ok (.iload_n 1, 1) := dk_27 (dk_at dksX4_burns_4 9 rfl rfl)
theorem dX4_burns_103 : decode cX4_burns 103 = .ok (.iconst 2, 1) := dk_5 (dk_at dksX4_burns_4 10 rfl rfl)
theorem dX4_burns_104 : decode cX4_burns 104 = .ok (.invokestatic 72, 3) := dk_184 0 72 (dk_at dksX4_burns_4 11 rfl rfl)
theorem dX4_burns_107 : decode cX4_burns 107 = .ok (.iaload, 1) := dk_46 (dk_at dksX4_burns_4 14 rfl rfl)
theorem dX4_burns_108 : decode cX4_burns 108 = .ok (.imul, 1) := dk_104 (dk_at dksX4_burns_4 15 rfl rfl)
theorem dX4_burns_109 : decode cX4_burns 109 = .ok (.istore_n 3, 1) := dk_62 (dk_at dksX4_burns_4 16 rfl rfl)
theorem dX4_burns_110 : decode cX4_burns 110 = .ok (.aload_n 0, 1) := dk_42 (dk_at dksX4_burns_4 17 rfl rfl)
theorem dX4_burns_111 : decode cX4_burns 111 = .ok (.getfield 7, 3) := dk_180 0 7 (dk_at dksX4_burns_4 18 rfl rfl)
theorem dX4_burns_114 : decode cX4_burns 114 = .ok (.iload_n 1, 1) := dk_27 (dk_at dksX4_burns_4 21 rfl rfl)
theorem dX4_burns_115 : decode cX4_burns 115 = .ok (.iconst 4, 1) := dk_7 (dk_at dksX4_burns_4 22 rfl rfl)
theorem dX4_burns_116 : decode cX4_burns 116 = .ok (.invokestatic 72, 3) := dk_184 0 72 (dk_at dksX4_burns_5 0 rfl rfl)
theorem dX4_burns_119 : decode cX4_burns 119 = .ok (.iaload, 1) := dk_46 (dk_at dksX4_burns_5 3 rfl rfl)
theorem dX4_burns_120 : decode cX4_burns 120 = .ok (.iload_n 3, 1) := dk_29 (dk_at dksX4_burns_5 4 rfl rfl)
theorem dX4_burns_121 : decode cX4_burns 121 = .ok (.if_icmp .ge 16, 3) := dk_162 0 16 (dk_at dksX4_burns_5 5 rfl rfl)
theorem dX4_burns_124 : decode cX4_burns 124 = .ok (.aload_n 0, 1) := dk_42 (dk_at dksX4_burns_5 8 rfl rfl)
theorem dX4_burns_125 : decode cX4_burns 125 = .ok (.getfield 7, 3) := dk_180 0 7 (dk_at dksX4_burns_5 9 rfl rfl)
theorem dX4_burns_128 : decode cX4_burns 128 = .ok (.iload_n 1, 1) := dk_27 (dk_at dksX4_burns_5 12 rfl rfl)
theorem dX4_burns_129 : decode cX4_burns 129 = .ok (.iconst 4, 1) := dk_7 (dk_at dksX4_burns_5 13 rfl rfl)
theorem dX4_burns_130 : decode cX4_burns 130 = .ok (.invokestatic 72, 3) := dk_184 0 72 (dk_at dksX4_burns_5 14 rfl rfl)
theorem dX4_burns_133 : decode cX4_burns 133 = .ok (.iaload, 1) := dk_46 (dk_at dksX4_burns_5 17 rfl rfl)
theorem dX4_burns_134 : decode cX4_burns 134 = .ok (.goto 4, 3) := dk_167 0 4 (dk_at dksX4_burns_5 18 rfl rfl)
theorem dX4_burns_137 : decode cX4_burns 137 = .ok (.iload_n 3, 1) := dk_29 (dk_at dksX4_burns_5 21 rfl rfl)
theorem dX4_burns_138 : decode cX4_burns 138 = .ok (.istore 4, 2) := dk_54 4 (dk_at dksX4_burns_5 22 rfl rfl)
theorem dX4_burns_140 : decode cX4_burns 140 = .ok (.aload_n 0, 1) := dk_42 (dk_at dksX4_burns_6 0 rfl rfl)
theorem dX4_burns_141 : decode cX4_burns 141 = .ok (.getfield 7, 3) := dk_180 0 7 (dk_at dksX4_burns_6 1 rfl rfl)
theorem dX4_burns_144 : decode cX4_burns 144 = .ok (.iload_n 1, 1) := dk_27 (dk_at dksX4_burns_6 4 rfl rfl)
theorem dX4_burns_145 : decode cX4_burns 145 = .ok (.iconst 1, 1) := dk_4 (dk_at dksX4_burns_6 5 rfl rfl)
theorem dX4_burns_146 : decode cX4_burns 146 = .ok (.invokestatic 72, 3) := dk_184 0 72 (dk_at dksX4_burns_6 6 rfl rfl)
theorem dX4_burns_149 : decode cX4_burns 149 = .ok (.dup2, 1) := dk_92 (dk_at dksX4_burns_6 9 rfl rfl)
theorem dX4_burns_150 : decode cX4_burns 150 = .ok (.iaload, 1) := dk_46 (dk_at dksX4_burns_6 10 rfl rfl)
theorem dX4_burns_151 : decode cX4_burns 151 = .ok (.iload_n 2, 1) := dk_28 (dk_at dksX4_burns_6 11 rfl rfl)
theorem dX4_burns_152 : decode cX4_burns 152 = .ok (.isub, 1) := dk_100 (dk_at dksX4_burns_6 12 rfl rfl)
theorem dX4_burns_153 : decode cX4_burns 153 = .ok (.iastore, 1) := dk_79 (dk_at dksX4_burns_6 13 rfl rfl)
theorem dX4_burns_154 : decode cX4_burns 154 = .ok (.aload_n 0, 1) := dk_42 (dk_at dksX4_burns_6 14 rfl rfl)
theorem dX4_burns_155 : decode cX4_burns 155 = .ok (.getfield 7, 3) := dk_180 0 7 (dk_at dksX4_burns_6 15 rfl rfl)
theorem dX4_burns_158 : decode cX4_burns 158 = .ok (.iconst 2, 1) := dk_5 (dk_at dksX4_burns_6 18 rfl rfl)
theorem dX4_burns_159 : decode cX4_burns 159 = .ok (.dup2, 1) := dk_92 (dk_at dksX4_burns_6 19 rfl rfl)
theorem dX4_burns_160 : decode cX4_burns 160 = .ok (.iaload, 1) := dk_46 (dk_at dksX4_burns_6 20 rfl rfl)
theorem dX4_burns_161 : decode cX4_burns 161 = .ok (.iload_n 2, 1) := dk_28 (dk_at dksX4_burns_6 21 rfl rfl)
theorem dX4_burns_162 : decode cX4_burns 162 = .ok (.iadd, 1) := dk_96 (dk_at dksX4_burns_6 22 rfl rfl)
theorem dX4_burns_163 : decode cX4_burns 163 = .ok (.iastore, 1) := dk_79 (dk_at dksX4_burns_6 23 rfl rfl)
theorem dX4_burns_164 : decode cX4_burns 164 = .ok (.aload_n 0, 1) := dk_42 (dk_at dksX4_burns_7 0 rfl rfl)
theorem dX4_burns_165 : decode cX4_burns 165 = .ok (.getfield 7, 3) := dk_180 0 7 (dk_at dksX4_burns_7 1 rfl rfl)
theorem dX4_burns_168 : decode cX4_burns 168 = .ok (.iconst 3, 1) := dk_6 (dk_at dksX4_burns_7 4 rfl rfl)
theorem dX4_burns_169 : decode cX4_burns 169 = .ok (.dup2, 1) := dk_92 (dk_at dksX4_burns_7 5 rfl rfl)
theorem dX4_burns_170 : decode cX4_burns 170 = .ok (.iaload, 1) := dk_46 (dk_at dksX4_burns_7 6 rfl rfl)
theorem dX4_burns_171 : decode cX4_burns 171 = .ok (.iload_n 3, 1) := dk_29 (dk_at dksX4_burns_7 7 rfl rfl)
theorem dX4_burns_172 : decode cX4_burns 172 = .ok (.iadd, 1) := dk_96 (dk_at dksX4_burns_7 8 rfl rfl)
theorem dX4_burns_173 : decode cX4_burns 173 = .ok (.iastore, 1) := dk_79 (dk_at dksX4_burns_7 9 rfl rfl)
theorem dX4_burns_174 : decode cX4_burns 174 = .ok (.aload_n 0, 1) := dk_42 (dk_at dksX4_burns_7 10 rfl rfl)
theorem dX4_burns_175 : decode cX4_burns 175 = .ok (.getfield 7, 3) := dk_180 0 7 (dk_at dksX4_burns_7 11 rfl rfl)
theorem dX4_burns_178 : decode cX4_burns 178 = .ok (.iload_n 1, 1) := dk_27 (dk_at dksX4_burns_7 14 rfl rfl)
theorem dX4_burns_179 : decode cX4_burns 179 = .ok (.bipush 7, 2) := dk_16 7 (dk_at dksX4_burns_7 15 rfl rfl)
theorem dX4_burns_181 : decode cX4_burns 181 = .ok (.invokestatic 72, 3) := dk_184 0 72 (dk_at dksX4_burns_7 17 rfl rfl)
theorem dX4_burns_184 : decode cX4_burns 184 = .ok (.dup2, 1) := dk_92 (dk_at dksX4_burns_7 20 rfl rfl)
theorem dX4_burns_185 : decode cX4_burns 185 = .ok (.iaload, 1) := dk_46 (dk_at dksX4_burns_7 21 rfl rfl)
theorem dX4_burns_186 : decode cX4_burns 186 = .ok (.iload_n 3, 1) := dk_29 (dk_at dksX4_burns_7 22 rfl rfl)
theorem dX4_burns_187 : decode cX4_burns 187 = .ok (.iadd, 1) := dk_96 (dk_at dksX4_burns_7 23 rfl rfl)
theorem dX4_burns_188 : decode cX4_burns 188 = .ok (.iastore, 1) := dk_79 (dk_at dksX4_burns_8 0 rfl rfl)
theorem dX4_burns_189 : decode cX4_burns 189 = .ok (.aload_n 0, 1) := dk_42 (dk_at dksX4_burns_8 1 rfl rfl)
theorem dX4_burns_190 : decode cX4_burns 190 = .ok (.getfield 7, 3) := dk_180 0 7 (dk_at dksX4_burns_8 2 rfl rfl)
theorem dX4_burns_193 : decode cX4_burns 193 = .ok (.iload_n 1, 1) := dk_27 (dk_at dksX4_burns_8 5 rfl rfl)
theorem dX4_burns_194 : decode cX4_burns 194 = .ok (.iconst 4, 1) := dk_7 (dk_at dksX4_burns_8 6 rfl rfl)
theorem dX4_burns_195 : decode cX4_burns 195 = .ok (.invokestatic 72, 3) := dk_184 0 72 (dk_at dksX4_burns_8 7 rfl rfl)
theorem dX4_burns_198 : decode cX4_burns 198 = .ok (.dup2, 1) := dk_92 (dk_at dksX4_burns_8 10 rfl rfl)
theorem dX4_burns_199 : decode cX4_burns 199 = .ok (.iaload, 1) := dk_46 (dk_at dksX4_burns_8 11 rfl rfl)
theorem dX4_burns_200 : decode cX4_burns 200 = .ok (.iload 4, 2) := dk_21 4 (dk_at dksX4_burns_8 12 rfl rfl)
theorem dX4_burns_202 : decode cX4_burns 202 = .ok (.isub, 1) := dk_100 (dk_at dksX4_burns_8 14 rfl rfl)
theorem dX4_burns_203 : decode cX4_burns 203 = .ok (.iastore, 1) := dk_79 (dk_at dksX4_burns_8 15 rfl rfl)
theorem dX4_burns_204 : decode cX4_burns 204 = .ok (.aload_n 0, 1) := dk_42 (dk_at dksX4_burns_8 16 rfl rfl)
theorem dX4_burns_205 : decode cX4_burns 205 = .ok (.getfield 7, 3) := dk_180 0 7 (dk_at dksX4_burns_8 17 rfl rfl)
theorem dX4_burns_208 : decode cX4_burns 208 = .ok (.iconst 4, 1) := dk_7 (dk_at dksX4_burns_8 20 rfl rfl)
theorem dX4_burns_209 : decode cX4_burns 209 = .ok (.dup2, 1) := dk_92 (dk_at dksX4_burns_8 21 rfl rfl)
theorem dX4_burns_210 : decode cX4_burns 210 = .ok (.iaload, 1) := dk_46 (dk_at dksX4_burns_8 22 rfl rfl)
theorem dX4_burns_211 : decode cX4_burns 211 = .ok (.iload 4, 2) := dk_21 4 (dk_at dksX4_burns_9 0 rfl rfl)
theorem dX4_burns_213 : decode cX4_burns 213 = .ok (.iadd, 1) := dk_96 (dk_at dksX4_burns_9 2 rfl rfl)
theorem dX4_burns_214 : decode cX4_burns 214 = .ok (.iastore, 1) := dk_79 (dk_at dksX4_burns_9 3 rfl rfl)
theorem dX4_burns_215 : decode cX4_burns 215 = .ok (.aload_n 0, 1) := dk_42 (dk_at dksX4_burns_9 4 rfl rfl)
theorem dX4_burns_216 : decode cX4_burns 216 = .ok (.getfield 7, 3) := dk_180 0 7 (dk_at dksX4_burns_9 5 rfl rfl)
theorem dX4_burns_219 : decode cX4_burns 219 = .ok (.iload_n 1, 1) := dk_27 (dk_at dksX4_burns_9 8 rfl rfl)
theorem dX4_burns_220 : decode cX4_burns 220 = .ok (.iconst 4, 1) := dk_7 (dk_at dksX4_burns_9 9 rfl rfl)
theorem dX4_burns_221 : decode cX4_burns 221 = .ok (.invokestatic 72, 3) := dk_184 0 72 (dk_at dksX4_burns_9 10 rfl rfl)
theorem dX4_burns_224 : decode cX4_burns 224 = .ok (.iaload, 1) := dk_46 (dk_at dksX4_burns_9 13 rfl rfl)
theorem dX4_burns_225 : decode cX4_burns 225 = .ok (.ifCond .ne 14, 3) := dk_154 0 14 (dk_at dksX4_burns_9 14 rfl rfl)
theorem dX4_burns_228 : decode cX4_burns 228 = .ok (.aload_n 0, 1) := dk_42 (dk_at dksX4_burns_9 17 rfl rfl)
theorem dX4_burns_229 : decode cX4_burns 229 = .ok (.getfield 7, 3) := dk_180 0 7 (dk_at dksX4_burns_9 18 rfl rfl)
theorem dX4_burns_232 : decode cX4_burns 232 = .ok (.iload_n 1, 1) := dk_27 (dk_at dksX4_burns_9 21 rfl rfl)
theorem dX4_burns_233 : decode cX4_burns 233 = .ok (.iconst 3, 1) := dk_6 (dk_at dksX4_burns_9 22 rfl rfl)
theorem dX4_burns_234 : decode cX4_burns 234 = .ok (.invokestatic 72, 3) := dk_184 0 72 (dk_at dksX4_burns_10 0 rfl rfl)
theorem dX4_burns_237 : decode cX4_burns 237 = .ok (.iconst 0, 1) := dk_3 (dk_at dksX4_burns_10 3 rfl rfl)
theorem dX4_burns_238 : decode cX4_burns 238 = .ok (.iastore, 1) := dk_79 (dk_at dksX4_burns_10 4 rfl rfl)
theorem dX4_burns_239 : decode cX4_burns 239 = .ok (.aload_n 0, 1) := dk_42 (dk_at dksX4_burns_10 5 rfl rfl)
theorem dX4_burns_240 : decode cX4_burns 240 = .ok (.getfield 7, 3) := dk_180 0 7 (dk_at dksX4_burns_10 6 rfl rfl)
theorem dX4_burns_243 : decode cX4_burns 243 = .ok (.iload_n 1, 1) := dk_27 (dk_at dksX4_burns_10 9 rfl rfl)
theorem dX4_burns_244 : decode cX4_burns 244 = .ok (.iconst 1, 1) := dk_4 (dk_at dksX4_burns_10 10 rfl rfl)
theorem dX4_burns_245 : decode cX4_burns 245 = .ok (.invokestatic 72, 3) := dk_184 0 72 (dk_at dksX4_burns_10 11 rfl rfl)
theorem dX4_burns_248 : decode cX4_burns 248 = .ok (.iaload, 1) := dk_46 (dk_at dksX4_burns_10 14 rfl rfl)
theorem dX4_burns_249 : decode cX4_burns 249 = .ok (.ifCond .ne 8, 3) := dk_154 0 8 (dk_at dksX4_burns_10 15 rfl rfl)
theorem dX4_burns_252 : decode cX4_burns 252 = .ok (.aload_n 0, 1) := dk_42 (dk_at dksX4_burns_10 18 rfl rfl)
theorem dX4_burns_253 : decode cX4_burns 253 = .ok (.iload_n 1, 1) := dk_27 (dk_at dksX4_burns_10 19 rfl rfl)
theorem dX4_burns_254 : decode cX4_burns 254 = .ok (.invokevirtual 114, 3) := dk_182 0 114 (dk_at dksX4_burns_10 20 rfl rfl)
theorem dX4_burns_257 : decode cX4_burns 257 = .ok (.iload 4, 2) := dk_21 4 (dk_at dksX4_burns_11 0 rfl rfl)
theorem dX4_burns_259 : decode cX4_burns 259 = .ok (.ireturn, 1) := dk_172 (dk_at dksX4_burns_11 2 rfl rfl)
abbrev cX4_isStub : ByteArray := prog_16_method_11_code
def yX4_isStub : MethodName := ⟨RX4, "isStub", "(I)Z"⟩
def dkwX4_isStub_0 : List UInt8 := [27, 3, 42, 180, 0, 7, 3, 46, 4, 100, 184, 0, 68, 172]
abbrev dktX4_isStub_0 : List UInt8 := dkwX4_isStub_0 ++ []
theorem dksX4_isStub_0 : cX4_isStub.data.toList.drop 0 = dktX4_isStub_0 := by decide +kernel
theorem dX4_isStub_0 : decode cX4_isStub 0 = .ok (.iload_n 1, 1) := dk_27 (dk_at dksX4_isStub_0 0 rfl rfl)
theorem dX4_isStub_1 : decode cX4_isStub 1 = .ok (.iconst 0, 1) := dk_3 (dk_at dksX4_isStub_0 1 rfl rfl)
theorem dX4_isStub_2 : decode cX4_isStub 2 = .ok (.aload_n 0, 1) := dk_42 (dk_at dksX4_isStub_0 2 rfl rfl)
theorem dX4_isStub_3 : decode cX4_isStub 3 = .ok (.getfield 7, 3) := dk_180 0 7 (dk_at dksX4_isStub_0 3 rfl rfl)
theorem dX4_isStub_6 : decode cX4_isStub 6 = .ok (.iconst 0, 1) := dk_3 (dk_at dksX4_isStub_0 6 rfl rfl)
theorem dX4_isStub_7 : decode cX4_isStub 7 = .ok (.iaload, 1) := dk_46 (dk_at dksX4_isStub_0 7 rfl rfl)
theorem dX4_isStub_8 : decode cX4_isStub 8 = .ok (.iconst 1, 1) := dk_4 (dk_at dksX4_isStub_0 8 rfl rfl)
theorem dX4_isStub_9 : decode cX4_isStub 9 = .ok (.isub, 1) := dk_100 (dk_at dksX4_isStub_0 9 rfl rfl)
theorem dX4_isStub_10 : decode cX4_isStub 10 = .ok (.invokestatic 68, 3) := dk_184 0 68 (dk_at dksX4_isStub_0 10 rfl rfl)
theorem dX4_isStub_13 : decode cX4_isStub 13 = .ok (.ireturn, 1) := dk_172 (dk_at dksX4_isStub_0 13 rfl rfl)
abbrev cX4_refusesBurning : ByteArray := prog_16_method_22_code
def yX4_refusesBurning : MethodName := ⟨RX4, "refusesBurning", "(III)I"⟩
def dkwX4_refusesBurning_0 : List UInt8 := [42, 7, 27, 182, 0, 78, 54, 4, 42, 28, 181, 0, 51, 42, 29, 181, 0, 105, 21, 4, 172]
abbrev dktX4_refusesBurning_0 : List UInt8 := dkwX4_refusesBurning_0 ++ []
theorem dksX4_refusesBurning_0 : cX4_refusesBurning.data.toList.drop 0 = dktX4_refusesBurning_0 := by decide +kernel
theorem dX4_refusesBurning_0 : decode cX4_refusesBurning 0 = .ok (.aload_n 0, 1) := dk_42 (dk_at dksX4_refusesBurning_0 0 rfl rfl)
theorem dX4_refusesBurning_1 : decode cX4_refusesBurning 1 = .ok (.iconst 4, 1) := dk_7 (dk_at dksX4_refusesBurning_0 1 rfl rfl)
theorem dX4_refusesBurning_2 : decode cX4_refusesBurning 2 = .ok (.iload_n 1, 1) := dk_27 (dk_at dksX4_refusesBurning_0 2 rfl rfl)
theorem dX4_refusesBurning_3 : decode cX4_refusesBurning 3 = .ok (.invokevirtual 78, 3) := dk_182 0 78 (dk_at dksX4_refusesBurning_0 3 rfl rfl)
theorem dX4_refusesBurning_6 : decode cX4_refusesBurning 6 = .ok (.istore 4, 2) := dk_54 4 (dk_at dksX4_refusesBurning_0 6 rfl rfl)
theorem dX4_refusesBurning_8 : decode cX4_refusesBurning 8 = .ok (.aload_n 0, 1) := dk_42 (dk_at dksX4_refusesBurning_0 8 rfl rfl)
theorem dX4_refusesBurning_9 : decode cX4_refusesBurning 9 = .ok (.iload_n 2, 1) := dk_28 (dk_at dksX4_refusesBurning_0 9 rfl rfl)
theorem dX4_refusesBurning_10 : decode cX4_refusesBurning 10 = .ok (.putfield 51, 3) := dk_181 0 51 (dk_at dksX4_refusesBurning_0 10 rfl rfl)
theorem dX4_refusesBurning_13 : decode cX4_refusesBurning 13 = .ok (.aload_n 0, 1) := dk_42 (dk_at dksX4_refusesBurning_0 13 rfl rfl)
theorem dX4_refusesBurning_14 : decode cX4_refusesBurning 14 = .ok (.iload_n 3, 1) := dk_29 (dk_at dksX4_refusesBurning_0 14 rfl rfl)
theorem dX4_refusesBurning_15 : decode cX4_refusesBurning 15 = .ok (.putfield 105, 3) := dk_181 0 105 (dk_at dksX4_refusesBurning_0 15 rfl rfl)
theorem dX4_refusesBurning_18 : decode cX4_refusesBurning 18 = .ok (.iload 4, 2) := dk_21 4 (dk_at dksX4_refusesBurning_0 18 rfl rfl)
theorem dX4_refusesBurning_20 : decode cX4_refusesBurning 20 = .ok (.ireturn, 1) := dk_172 (dk_at dksX4_refusesBurning_0 20 rfl rfl)
abbrev cX4_goes : ByteArray := prog_16_method_15_code
def yX4_goes : MethodName := ⟨RX4, "goes", "(I)V"⟩
def dkwX4_goes_2 : List UInt8 := [180, 0, 7, 3, 92, 46, 4, 100, 79, 177]
abbrev dktX4_goes_2 : List UInt8 := dkwX4_goes_2 ++ []
def dkwX4_goes_1 : List UInt8 := [162, 0, 15, 42, 180, 0, 7, 28, 16, 8, 96, 46, 167, 0, 4, 3, 79, 132, 2, 1, 167, 255, 219, 42]
abbrev dktX4_goes_1 : List UInt8 := dkwX4_goes_1 ++ dktX4_goes_2
def dkwX4_goes_0 : List UInt8 := [27, 3, 184, 0, 72, 61, 28, 16, 126, 162, 0, 37, 42, 180, 0, 7, 28, 28, 16, 8, 96, 16, 126]
abbrev dktX4_goes_0 : List UInt8 := dkwX4_goes_0 ++ dktX4_goes_1
theorem dksX4_goes_0 : cX4_goes.data.toList.drop 0 = dktX4_goes_0 := by decide +kernel
theorem dksX4_goes_1 : cX4_goes.data.toList.drop 23 = dktX4_goes_1 := dk_seg dksX4_goes_0 23 rfl rfl
theorem dksX4_goes_2 : cX4_goes.data.toList.drop 47 = dktX4_goes_2 := dk_seg dksX4_goes_1 24 rfl rfl
theorem dX4_goes_0 : decode cX4_goes 0 = .ok (.iload_n 1, 1) := dk_27 (dk_at dksX4_goes_0 0 rfl rfl)
theorem dX4_goes_1 : decode cX4_goes 1 = .ok (.iconst 0, 1) := dk_3 (dk_at dksX4_goes_0 1 rfl rfl)
theorem dX4_goes_2 : decode cX4_goes 2 = .ok (.invokestatic 72, 3) := dk_184 0 72 (dk_at dksX4_goes_0 2 rfl rfl)
theorem dX4_goes_5 : decode cX4_goes 5 = .ok (.istore_n 2, 1) := dk_61 (dk_at dksX4_goes_0 5 rfl rfl)
theorem dX4_goes_6 : decode cX4_goes 6 = .ok (.iload_n 2, 1) := dk_28 (dk_at dksX4_goes_0 6 rfl rfl)
theorem dX4_goes_7 : decode cX4_goes 7 = .ok (.bipush 126, 2) := dk_16 126 (dk_at dksX4_goes_0 7 rfl rfl)
theorem dX4_goes_9 : decode cX4_goes 9 = .ok (.if_icmp .ge 37, 3) := dk_162 0 37 (dk_at dksX4_goes_0 9 rfl rfl)
theorem dX4_goes_12 : decode cX4_goes 12 = .ok (.aload_n 0, 1) := dk_42 (dk_at dksX4_goes_0 12 rfl rfl)
theorem dX4_goes_13 : decode cX4_goes 13 = .ok (.getfield 7, 3) := dk_180 0 7 (dk_at dksX4_goes_0 13 rfl rfl)
theorem dX4_goes_16 : decode cX4_goes 16 = .ok (.iload_n 2, 1) := dk_28 (dk_at dksX4_goes_0 16 rfl rfl)
theorem dX4_goes_17 : decode cX4_goes 17 = .ok (.iload_n 2, 1) := dk_28 (dk_at dksX4_goes_0 17 rfl rfl)
theorem dX4_goes_18 : decode cX4_goes 18 = .ok (.bipush 8, 2) := dk_16 8 (dk_at dksX4_goes_0 18 rfl rfl)
theorem dX4_goes_20 : decode cX4_goes 20 = .ok (.iadd, 1) := dk_96 (dk_at dksX4_goes_0 20 rfl rfl)
theorem dX4_goes_21 : decode cX4_goes 21 = .ok (.bipush 126, 2) := dk_16 126 (dk_at dksX4_goes_0 21 rfl rfl)
theorem dX4_goes_23 : decode cX4_goes 23 = .ok (.if_icmp .ge 15, 3) := dk_162 0 15 (dk_at dksX4_goes_1 0 rfl rfl)
theorem dX4_goes_26 : decode cX4_goes 26 = .ok (.aload_n 0, 1) := dk_42 (dk_at dksX4_goes_1 3 rfl rfl)
theorem dX4_goes_27 : decode cX4_goes 27 = .ok (.getfield 7, 3) := dk_180 0 7 (dk_at dksX4_goes_1 4 rfl rfl)
theorem dX4_goes_30 : decode cX4_goes 30 = .ok (.iload_n 2, 1) := dk_28 (dk_at dksX4_goes_1 7 rfl rfl)
theorem dX4_goes_31 : decode cX4_goes 31 = .ok (.bipush 8, 2) := dk_16 8 (dk_at dksX4_goes_1 8 rfl rfl)
theorem dX4_goes_33 : decode cX4_goes 33 = .ok (.iadd, 1) := dk_96 (dk_at dksX4_goes_1 10 rfl rfl)
theorem dX4_goes_34 : decode cX4_goes 34 = .ok (.iaload, 1) := dk_46 (dk_at dksX4_goes_1 11 rfl rfl)
theorem dX4_goes_35 : decode cX4_goes 35 = .ok (.goto 4, 3) := dk_167 0 4 (dk_at dksX4_goes_1 12 rfl rfl)
theorem dX4_goes_38 : decode cX4_goes 38 = .ok (.iconst 0, 1) := dk_3 (dk_at dksX4_goes_1 15 rfl rfl)
theorem dX4_goes_39 : decode cX4_goes 39 = .ok (.iastore, 1) := dk_79 (dk_at dksX4_goes_1 16 rfl rfl)
theorem dX4_goes_40 : decode cX4_goes 40 = .ok (.iinc 2 1, 3) := dk_132 2 1 (dk_at dksX4_goes_1 17 rfl rfl)
theorem dX4_goes_43 : decode cX4_goes 43 = .ok (.goto (-37), 3) := dk_167 255 219 (dk_at dksX4_goes_1 20 rfl rfl)
theorem dX4_goes_46 : decode cX4_goes 46 = .ok (.aload_n 0, 1) := dk_42 (dk_at dksX4_goes_1 23 rfl rfl)
theorem dX4_goes_47 : decode cX4_goes 47 = .ok (.getfield 7, 3) := dk_180 0 7 (dk_at dksX4_goes_2 0 rfl rfl)
theorem dX4_goes_50 : decode cX4_goes 50 = .ok (.iconst 0, 1) := dk_3 (dk_at dksX4_goes_2 3 rfl rfl)
theorem dX4_goes_51 : decode cX4_goes 51 = .ok (.dup2, 1) := dk_92 (dk_at dksX4_goes_2 4 rfl rfl)
theorem dX4_goes_52 : decode cX4_goes 52 = .ok (.iaload, 1) := dk_46 (dk_at dksX4_goes_2 5 rfl rfl)
theorem dX4_goes_53 : decode cX4_goes 53 = .ok (.iconst 1, 1) := dk_4 (dk_at dksX4_goes_2 6 rfl rfl)
theorem dX4_goes_54 : decode cX4_goes 54 = .ok (.isub, 1) := dk_100 (dk_at dksX4_goes_2 7 rfl rfl)
theorem dX4_goes_55 : decode cX4_goes 55 = .ok (.iastore, 1) := dk_79 (dk_at dksX4_goes_2 8 rfl rfl)
theorem dX4_goes_56 : decode cX4_goes 56 = .ok (.return_, 1) := dk_177 (dk_at dksX4_goes_2 9 rfl rfl)
abbrev cX4_owe : ByteArray := prog_16_method_26_code
def yX4_owe : MethodName := ⟨RX4, "owe", "(III)I"⟩
def dkwX4_owe_0 : List UInt8 := [42, 182, 0, 96, 42, 42, 27, 28, 29, 182, 0, 124, 182, 0, 102, 172]
abbrev dktX4_owe_0 : List UInt8 := dkwX4_owe_0 ++ []
theorem dksX4_owe_0 : cX4_owe.data.toList.drop 0 = dktX4_owe_0 := by decide +kernel
theorem dX4_owe_0 : decode cX4_owe 0 = .ok (.aload_n 0, 1) := dk_42 (dk_at dksX4_owe_0 0 rfl rfl)
theorem dX4_owe_1 : decode cX4_owe 1 = .ok (.invokevirtual 96, 3) := dk_182 0 96 (dk_at dksX4_owe_0 1 rfl rfl)
theorem dX4_owe_4 : decode cX4_owe 4 = .ok (.aload_n 0, 1) := dk_42 (dk_at dksX4_owe_0 4 rfl rfl)
theorem dX4_owe_5 : decode cX4_owe 5 = .ok (.aload_n 0, 1) := dk_42 (dk_at dksX4_owe_0 5 rfl rfl)
theorem dX4_owe_6 : decode cX4_owe 6 = .ok (.iload_n 1, 1) := dk_27 (dk_at dksX4_owe_0 6 rfl rfl)
theorem dX4_owe_7 : decode cX4_owe 7 = .ok (.iload_n 2, 1) := dk_28 (dk_at dksX4_owe_0 7 rfl rfl)
theorem dX4_owe_8 : decode cX4_owe 8 = .ok (.iload_n 3, 1) := dk_29 (dk_at dksX4_owe_0 8 rfl rfl)
theorem dX4_owe_9 : decode cX4_owe 9 = .ok (.invokevirtual 124, 3) := dk_182 0 124 (dk_at dksX4_owe_0 9 rfl rfl)
theorem dX4_owe_12 : decode cX4_owe 12 = .ok (.invokevirtual 102, 3) := dk_182 0 102 (dk_at dksX4_owe_0 12 rfl rfl)
theorem dX4_owe_15 : decode cX4_owe 15 = .ok (.ireturn, 1) := dk_172 (dk_at dksX4_owe_0 15 rfl rfl)
abbrev cX4_owes : ByteArray := prog_16_method_25_code
def yX4_owes : MethodName := ⟨RX4, "owes", "(III)I"⟩
def dkwX4_owes_5 : List UInt8 := [184, 0, 72, 28, 4, 96, 79, 42, 180, 0, 7, 27, 7, 184, 0, 72, 29, 79, 42, 28, 182, 0, 121, 172]
abbrev dktX4_owes_5 : List UInt8 := dkwX4_owes_5 ++ []
def dkwX4_owes_4 : List UInt8 := [42, 180, 0, 7, 27, 6, 184, 0, 72, 46, 4, 100, 182, 0, 78, 172, 42, 180, 0, 7, 27, 6]
abbrev dktX4_owes_4 : List UInt8 := dkwX4_owes_4 ++ dktX4_owes_5
def dkwX4_owes_3 : List UInt8 := [42, 16, 8, 28, 182, 0, 78, 172, 42, 180, 0, 7, 27, 6, 184, 0, 72, 46, 158, 0, 22, 42, 16, 7]
abbrev dktX4_owes_3 : List UInt8 := dkwX4_owes_3 ++ dktX4_owes_4
def dkwX4_owes_2 : List UInt8 := [154, 0, 10, 42, 5, 28, 182, 0, 78, 172, 42, 180, 0, 7, 27, 3, 184, 0, 72, 46, 28, 160, 0, 11]
abbrev dktX4_owes_2 : List UInt8 := dkwX4_owes_2 ++ dktX4_owes_3
def dkwX4_owes_1 : List UInt8 := [4, 16, 90, 184, 0, 68, 154, 0, 11, 42, 17, 252, 12, 182, 0, 57, 172, 42, 28, 182, 0, 89]
abbrev dktX4_owes_1 : List UInt8 := dkwX4_owes_1 ++ dktX4_owes_2
def dkwX4_owes_0 : List UInt8 := [42, 27, 182, 0, 108, 153, 0, 10, 28, 184, 0, 81, 154, 0, 11, 42, 17, 252, 13, 182, 0, 57, 172, 29]
abbrev dktX4_owes_0 : List UInt8 := dkwX4_owes_0 ++ dktX4_owes_1
theorem dksX4_owes_0 : cX4_owes.data.toList.drop 0 = dktX4_owes_0 := by decide +kernel
theorem dksX4_owes_1 : cX4_owes.data.toList.drop 24 = dktX4_owes_1 := dk_seg dksX4_owes_0 24 rfl rfl
theorem dksX4_owes_2 : cX4_owes.data.toList.drop 46 = dktX4_owes_2 := dk_seg dksX4_owes_1 22 rfl rfl
theorem dksX4_owes_3 : cX4_owes.data.toList.drop 70 = dktX4_owes_3 := dk_seg dksX4_owes_2 24 rfl rfl
theorem dksX4_owes_4 : cX4_owes.data.toList.drop 94 = dktX4_owes_4 := dk_seg dksX4_owes_3 24 rfl rfl
theorem dksX4_owes_5 : cX4_owes.data.toList.drop 116 = dktX4_owes_5 := dk_seg dksX4_owes_4 22 rfl rfl
theorem dX4_owes_0 : decode cX4_owes 0 = .ok (.aload_n 0, 1) := dk_42 (dk_at dksX4_owes_0 0 rfl rfl)
theorem dX4_owes_1 : decode cX4_owes 1 = .ok (.iload_n 1, 1) := dk_27 (dk_at dksX4_owes_0 1 rfl rfl)
theorem dX4_owes_2 : decode cX4_owes 2 = .ok (.invokevirtual 108, 3) := dk_182 0 108 (dk_at dksX4_owes_0 2 rfl rfl)
theorem dX4_owes_5 : decode cX4_owes 5 = .ok (.ifCond .eq 10, 3) := dk_153 0 10 (dk_at dksX4_owes_0 5 rfl rfl)
theorem dX4_owes_8 : decode cX4_owes 8 = .ok (.iload_n 2, 1) := dk_28 (dk_at dksX4_owes_0 8 rfl rfl)
theorem dX4_owes_9 : decode cX4_owes 9 = .ok (.invokestatic 81, 3) := dk_184 0 81 (dk_at dksX4_owes_0 9 rfl rfl)
theorem dX4_owes_12 : decode cX4_owes 12 = .ok (.ifCond .ne 11, 3) := dk_154 0 11 (dk_at dksX4_owes_0 12 rfl rfl)
theorem dX4_owes_15 : decode cX4_owes 15 = .ok (.aload_n 0, 1) := dk_42 (dk_at dksX4_owes_0 15 rfl rfl)
theorem dX4_owes_16 : decode cX4_owes 16 = .ok (.sipush (-1011), 3) := dk_17 252 13 (dk_at dksX4_owes_0 16 rfl rfl)
theorem dX4_owes_19 : decode cX4_owes 19 = .ok (.invokevirtual 57, 3) := dk_182 0 57 (dk_at dksX4_owes_0 19 rfl rfl)
theorem dX4_owes_22 : decode cX4_owes 22 = .ok (.ireturn, 1) := dk_172 (dk_at dksX4_owes_0 22 rfl rfl)
theorem dX4_owes_23 : decode cX4_owes 23 = .ok (.iload_n 3, 1) := dk_29 (dk_at dksX4_owes_0 23 rfl rfl)
theorem dX4_owes_24 : decode cX4_owes 24 = .ok (.iconst 1, 1) := dk_4 (dk_at dksX4_owes_1 0 rfl rfl)
theorem dX4_owes_25 : decode cX4_owes 25 = .ok (.bipush 90, 2) := dk_16 90 (dk_at dksX4_owes_1 1 rfl rfl)
theorem dX4_owes_27 : decode cX4_owes 27 = .ok (.invokestatic 68, 3) := dk_184 0 68 (dk_at dksX4_owes_1 3 rfl rfl)
theorem dX4_owes_30 : decode cX4_owes 30 = .ok (.ifCond .ne 11, 3) := dk_154 0 11 (dk_at dksX4_owes_1 6 rfl rfl)
theorem dX4_owes_33 : decode cX4_owes 33 = .ok (.aload_n 0, 1) := dk_42 (dk_at dksX4_owes_1 9 rfl rfl)
theorem dX4_owes_34 : decode cX4_owes 34 = .ok (.sipush (-1012), 3) := dk_17 252 12 (dk_at dksX4_owes_1 10 rfl rfl)
theorem dX4_owes_37 : decode cX4_owes 37 = .ok (.invokevirtual 57, 3) := dk_182 0 57 (dk_at dksX4_owes_1 13 rfl rfl)
theorem dX4_owes_40 : decode cX4_owes 40 = .ok (.ireturn, 1) := dk_172 (dk_at dksX4_owes_1 16 rfl rfl)
theorem dX4_owes_41 : decode cX4_owes 41 = .ok (.aload_n 0, 1) := dk_42 (dk_at dksX4_owes_1 17 rfl rfl)
theorem dX4_owes_42 : decode cX4_owes 42 = .ok (.iload_n 2, 1) := dk_28 (dk_at dksX4_owes_1 18 rfl rfl)
theorem dX4_owes_43 : decode cX4_owes 43 = .ok (.invokevirtual 89, 3) := dk_182 0 89 (dk_at dksX4_owes_1 19 rfl rfl)
theorem dX4_owes_46 : decode cX4_owes 46 = .ok (.ifCond .ne 10, 3) := dk_154 0 10 (dk_at dksX4_owes_2 0 rfl rfl)
theorem dX4_owes_49 : decode cX4_owes 49 = .ok (.aload_n 0, 1) := dk_42 (dk_at dksX4_owes_2 3 rfl rfl)
theorem dX4_owes_50 : decode cX4_owes 50 = .ok (.iconst 2, 1) := dk_5 (dk_at dksX4_owes_2 4 rfl rfl)
theorem dX4_owes_51 : decode cX4_owes 51 = .ok (.iload_n 2, 1) := dk_28 (dk_at dksX4_owes_2 5 rfl rfl)
theorem dX4_owes_52 : decode cX4_owes 52 = .ok (.invokevirtual 78, 3) := dk_182 0 78 (dk_at dksX4_owes_2 6 rfl rfl)
theorem dX4_owes_55 : decode cX4_owes 55 = .ok (.ireturn, 1) := dk_172 (dk_at dksX4_owes_2 9 rfl rfl)
theorem dX4_owes_56 : decode cX4_owes 56 = .ok (.aload_n 0, 1) := dk_42 (dk_at dksX4_owes_2 10 rfl rfl)
theorem dX4_owes_57 : decode cX4_owes 57 = .ok (.getfield 7, 3) := dk_180 0 7 (dk_at dksX4_owes_2 11 rfl rfl)
theorem dX4_owes_60 : decode cX4_owes 60 = .ok (.iload_n 1, 1) := dk_27 (dk_at dksX4_owes_2 14 rfl rfl)
theorem dX4_owes_61 : decode cX4_owes 61 = .ok (.iconst 0, 1) := dk_3 (dk_at dksX4_owes_2 15 rfl rfl)
theorem dX4_owes_62 : decode cX4_owes 62 = .ok (.invokestatic 72, 3) := dk_184 0 72 (dk_at dksX4_owes_2 16 rfl rfl)
theorem dX4_owes_65 : decode cX4_owes 65 = .ok (.iaload, 1) := dk_46 (dk_at dksX4_owes_2 19 rfl rfl)
theorem dX4_owes_66 : decode cX4_owes 66 = .ok (.iload_n 2, 1) := dk_28 (dk_at dksX4_owes_2 20 rfl rfl)
theorem dX4_owes_67 : decode cX4_owes 67 = .ok (.if_icmp .ne 11, 3) := dk_160 0 11 (dk_at dksX4_owes_2 21 rfl rfl)
theorem dX4_owes_70 : decode cX4_owes 70 = .ok (.aload_n 0, 1) := dk_42 (dk_at dksX4_owes_3 0 rfl rfl)
theorem dX4_owes_71 : decode cX4_owes 71 = .ok (.bipush 8, 2) := dk_16 8 (dk_at dksX4_owes_3 1 rfl rfl)
theorem dX4_owes_73 : decode cX4_owes 73 = .ok (.iload_n 2, 1) := dk_28 (dk_at dksX4_owes_3 3 rfl rfl)
theorem dX4_owes_74 : decode cX4_owes 74 = .ok (.invokevirtual 78, 3) := dk_182 0 78 (dk_at dksX4_owes_3 4 rfl rfl)
theorem dX4_owes_77 : decode cX4_owes 77 = .ok (.ireturn, 1) := dk_172 (dk_at dksX4_owes_3 7 rfl rfl)
theorem dX4_owes_78 : decode cX4_owes 78 = .ok (.aload_n 0, 1) := dk_42 (dk_at dksX4_owes_3 8 rfl rfl)
theorem dX4_owes_79 : decode cX4_owes 79 = .ok (.getfield 7, 3) := dk_180 0 7 (dk_at dksX4_owes_3 9 rfl rfl)
theorem dX4_owes_82 : decode cX4_owes 82 = .ok (.iload_n 1, 1) := dk_27 (dk_at dksX4_owes_3 12 rfl rfl)
theorem dX4_owes_83 : decode cX4_owes 83 = .ok (.iconst 3, 1) := dk_6 (dk_at dksX4_owes_3 13 rfl rfl)
theorem dX4_owes_84 : decode cX4_owes 84 = .ok (.invokestatic 72, 3) := dk_184 0 72 (dk_at dksX4_owes_3 14 rfl rfl)
theorem dX4_owes_87 : decode cX4_owes 87 = .ok (.iaload, 1) := dk_46 (dk_at dksX4_owes_3 17 rfl rfl)
theorem dX4_owes_88 : decode cX4_owes 88 = .ok (.ifCond .le 22, 3) := dk_158 0 22 (dk_at dksX4_owes_3 18 rfl rfl)
theorem dX4_owes_91 : decode cX4_owes 91 = .ok (.aload_n 0, 1) := dk_42 (dk_at dksX4_owes_3 21 rfl rfl)
theorem dX4_owes_92 : decode cX4_owes 92 = .ok (.bipush 7, 2) := dk_16 7 (dk_at dksX4_owes_3 22 rfl rfl)
theorem dX4_owes_94 : decode cX4_owes 94 = .ok (.aload_n 0, 1) := dk_42 (dk_at dksX4_owes_4 0 rfl rfl)
theorem dX4_owes_95 : decode cX4_owes 95 = .ok (.getfield 7, 3) := dk_180 0 7 (dk_at dksX4_owes_4 1 rfl rfl)
theorem dX4_owes_98 : decode cX4_owes 98 = .ok (.iload_n 1, 1) := dk_27 (dk_at dksX4_owes_4 4 rfl rfl)
theorem dX4_owes_99 : decode cX4_owes 99 = .ok (.iconst 3, 1) := dk_6 (dk_at dksX4_owes_4 5 rfl rfl)
theorem dX4_owes_100 : decode cX4_owes 100 = .ok (.invokestatic 72, 3) := dk_184 0 72 (dk_at dksX4_owes_4 6 rfl rfl)
theorem dX4_owes_103 : decode cX4_owes 103 = .ok (.iaload, 1) := dk_46 (dk_at dksX4_owes_4 9 rfl rfl)
theorem dX4_owes_104 : decode cX4_owes 104 = .ok (.iconst 1, 1) := dk_4 (dk_at dksX4_owes_4 10 rfl rfl)
theorem dX4_owes_105 : decode cX4_owes 105 = .ok (.isub, 1) := dk_100 (dk_at dksX4_owes_4 11 rfl rfl)
theorem dX4_owes_106 : decode cX4_owes 106 = .ok (.invokevirtual 78, 3) := dk_182 0 78 (dk_at dksX4_owes_4 12 rfl rfl)
theorem dX4_owes_109 : decode cX4_owes 109 = .ok (.ireturn, 1) := dk_172 (dk_at dksX4_owes_4 15 rfl rfl)
theorem dX4_owes_110 : decode cX4_owes 110 = .ok (.aload_n 0, 1) := dk_42 (dk_at dksX4_owes_4 16 rfl rfl)
theorem dX4_owes_111 : decode cX4_owes 111 = .ok (.getfield 7, 3) := dk_180 0 7 (dk_at dksX4_owes_4 17 rfl rfl)
theorem dX4_owes_114 : decode cX4_owes 114 = .ok (.iload_n 1, 1) := dk_27 (dk_at dksX4_owes_4 20 rfl rfl)
theorem dX4_owes_115 : decode cX4_owes 115 = .ok (.iconst 3, 1) := dk_6 (dk_at dksX4_owes_4 21 rfl rfl)
theorem dX4_owes_116 : decode cX4_owes 116 = .ok (.invokestatic 72, 3) := dk_184 0 72 (dk_at dksX4_owes_5 0 rfl rfl)
theorem dX4_owes_119 : decode cX4_owes 119 = .ok (.iload_n 2, 1) := dk_28 (dk_at dksX4_owes_5 3 rfl rfl)
theorem dX4_owes_120 : decode cX4_owes 120 = .ok (.iconst 1, 1) := dk_4 (dk_at dksX4_owes_5 4 rfl rfl)
theorem dX4_owes_121 : decode cX4_owes 121 = .ok (.iadd, 1) := dk_96 (dk_at dksX4_owes_5 5 rfl rfl)
theorem dX4_owes_122 : decode cX4_owes 122 = .ok (.iastore, 1) := dk_79 (dk_at dksX4_owes_5 6 rfl rfl)
theorem dX4_owes_123 : decode cX4_owes 123 = .ok (.aload_n 0, 1) := dk_42 (dk_at dksX4_owes_5 7 rfl rfl)
theorem dX4_owes_124 : decode cX4_owes 124 = .ok (.getfield 7, 3) := dk_180 0 7 (dk_at dksX4_owes_5 8 rfl rfl)
theorem dX4_owes_127 : decode cX4_owes 127 = .ok (.iload_n 1, 1) := dk_27 (dk_at dksX4_owes_5 11 rfl rfl)
theorem dX4_owes_128 : decode cX4_owes 128 = .ok (.iconst 4, 1) := dk_7 (dk_at dksX4_owes_5 12 rfl rfl)
theorem dX4_owes_129 : decode cX4_owes 129 = .ok (.invokestatic 72, 3) := dk_184 0 72 (dk_at dksX4_owes_5 13 rfl rfl)
theorem dX4_owes_132 : decode cX4_owes 132 = .ok (.iload_n 3, 1) := dk_29 (dk_at dksX4_owes_5 16 rfl rfl)
theorem dX4_owes_133 : decode cX4_owes 133 = .ok (.iastore, 1) := dk_79 (dk_at dksX4_owes_5 17 rfl rfl)
theorem dX4_owes_134 : decode cX4_owes 134 = .ok (.aload_n 0, 1) := dk_42 (dk_at dksX4_owes_5 18 rfl rfl)
theorem dX4_owes_135 : decode cX4_owes 135 = .ok (.iload_n 2, 1) := dk_28 (dk_at dksX4_owes_5 19 rfl rfl)
theorem dX4_owes_136 : decode cX4_owes 136 = .ok (.invokevirtual 121, 3) := dk_182 0 121 (dk_at dksX4_owes_5 20 rfl rfl)
theorem dX4_owes_139 : decode cX4_owes 139 = .ok (.ireturn, 1) := dk_172 (dk_at dksX4_owes_5 23 rfl rfl)
abbrev cX4_owed : ByteArray := prog_16_method_16_code
def yX4_owed : MethodName := ⟨RX4, "owed", "(I)I"⟩
def dkwX4_owed_2 : List UInt8 := [132, 3, 1, 167, 255, 210, 28, 172]
abbrev dktX4_owed_2 : List UInt8 := dkwX4_owed_2 ++ []
def dkwX4_owed_1 : List UInt8 := [46, 27, 4, 96, 160, 0, 16, 42, 180, 0, 7, 29, 7, 184, 0, 72, 46, 167, 0, 4, 3, 96, 61]
abbrev dktX4_owed_1 : List UInt8 := dkwX4_owed_1 ++ dktX4_owed_2
def dkwX4_owed_0 : List UInt8 := [3, 61, 3, 62, 29, 42, 180, 0, 7, 3, 46, 162, 0, 42, 28, 42, 180, 0, 7, 29, 6, 184, 0, 72]
abbrev dktX4_owed_0 : List UInt8 := dkwX4_owed_0 ++ dktX4_owed_1
theorem dksX4_owed_0 : cX4_owed.data.toList.drop 0 = dktX4_owed_0 := by decide +kernel
theorem dksX4_owed_1 : cX4_owed.data.toList.drop 24 = dktX4_owed_1 := dk_seg dksX4_owed_0 24 rfl rfl
theorem dksX4_owed_2 : cX4_owed.data.toList.drop 47 = dktX4_owed_2 := dk_seg dksX4_owed_1 23 rfl rfl
theorem dX4_owed_0 : decode cX4_owed 0 = .ok (.iconst 0, 1) := dk_3 (dk_at dksX4_owed_0 0 rfl rfl)
theorem dX4_owed_1 : decode cX4_owed 1 = .ok (.istore_n 2, 1) := dk_61 (dk_at dksX4_owed_0 1 rfl rfl)
theorem dX4_owed_2 : decode cX4_owed 2 = .ok (.iconst 0, 1) := dk_3 (dk_at dksX4_owed_0 2 rfl rfl)
theorem dX4_owed_3 : decode cX4_owed 3 = .ok (.istore_n 3, 1) := dk_62 (dk_at dksX4_owed_0 3 rfl rfl)
theorem dX4_owed_4 : decode cX4_owed 4 = .ok (.iload_n 3, 1) := dk_29 (dk_at dksX4_owed_0 4 rfl rfl)
theorem dX4_owed_5 : decode cX4_owed 5 = .ok (.aload_n 0, 1) := dk_42 (dk_at dksX4_owed_0 5 rfl rfl)
theorem dX4_owed_6 : decode cX4_owed 6 = .ok (.getfield 7, 3) := dk_180 0 7 (dk_at dksX4_owed_0 6 rfl rfl)
theorem dX4_owed_9 : decode cX4_owed 9 = .ok (.iconst 0, 1) := dk_3 (dk_at dksX4_owed_0 9 rfl rfl)
theorem dX4_owed_10 : decode cX4_owed 10 = .ok (.iaload, 1) := dk_46 (dk_at dksX4_owed_0 10 rfl rfl)
theorem dX4_owed_11 : decode cX4_owed 11 = .ok (.if_icmp .ge 42, 3) := dk_162 0 42 (dk_at dksX4_owed_0 11 rfl rfl)
theorem dX4_owed_14 : decode cX4_owed 14 = .ok (.iload_n 2, 1) := dk_28 (dk_at dksX4_owed_0 14 rfl rfl)
theorem dX4_owed_15 : decode cX4_owed 15 = .ok (.aload_n 0, 1) := dk_42 (dk_at dksX4_owed_0 15 rfl rfl)
theorem dX4_owed_16 : decode cX4_owed 16 = .ok (.getfield 7, 3) := dk_180 0 7 (dk_at dksX4_owed_0 16 rfl rfl)
theorem dX4_owed_19 : decode cX4_owed 19 = .ok (.iload_n 3, 1) := dk_29 (dk_at dksX4_owed_0 19 rfl rfl)
theorem dX4_owed_20 : decode cX4_owed 20 = .ok (.iconst 3, 1) := dk_6 (dk_at dksX4_owed_0 20 rfl rfl)
theorem dX4_owed_21 : decode cX4_owed 21 = .ok (.invokestatic 72, 3) := dk_184 0 72 (dk_at dksX4_owed_0 21 rfl rfl)
theorem dX4_owed_24 : decode cX4_owed 24 = .ok (.iaload, 1) := dk_46 (dk_at dksX4_owed_1 0 rfl rfl)
theorem dX4_owed_25 : decode cX4_owed 25 = .ok (.iload_n 1, 1) := dk_27 (dk_at dksX4_owed_1 1 rfl rfl)
theorem dX4_owed_26 : decode cX4_owed 26 = .ok (.iconst 1, 1) := dk_4 (dk_at dksX4_owed_1 2 rfl rfl)
theorem dX4_owed_27 : decode cX4_owed 27 = .ok (.iadd, 1) := dk_96 (dk_at dksX4_owed_1 3 rfl rfl)
theorem dX4_owed_28 : decode cX4_owed 28 = .ok (.if_icmp .ne 16, 3) := dk_160 0 16 (dk_at dksX4_owed_1 4 rfl rfl)
theorem dX4_owed_31 : decode cX4_owed 31 = .ok (.aload_n 0, 1) := dk_42 (dk_at dksX4_owed_1 7 rfl rfl)
theorem dX4_owed_32 : decode cX4_owed 32 = .ok (.getfield 7, 3) := dk_180 0 7 (dk_at dksX4_owed_1 8 rfl rfl)
theorem dX4_owed_35 : decode cX4_owed 35 = .ok (.iload_n 3, 1) := dk_29 (dk_at dksX4_owed_1 11 rfl rfl)
theorem dX4_owed_36 : decode cX4_owed 36 = .ok (.iconst 4, 1) := dk_7 (dk_at dksX4_owed_1 12 rfl rfl)
theorem dX4_owed_37 : decode cX4_owed 37 = .ok (.invokestatic 72, 3) := dk_184 0 72 (dk_at dksX4_owed_1 13 rfl rfl)
theorem dX4_owed_40 : decode cX4_owed 40 = .ok (.iaload, 1) := dk_46 (dk_at dksX4_owed_1 16 rfl rfl)
theorem dX4_owed_41 : decode cX4_owed 41 = .ok (.goto 4, 3) := dk_167 0 4 (dk_at dksX4_owed_1 17 rfl rfl)
theorem dX4_owed_44 : decode cX4_owed 44 = .ok (.iconst 0, 1) := dk_3 (dk_at dksX4_owed_1 20 rfl rfl)
theorem dX4_owed_45 : decode cX4_owed 45 = .ok (.iadd, 1) := dk_96 (dk_at dksX4_owed_1 21 rfl rfl)
theorem dX4_owed_46 : decode cX4_owed 46 = .ok (.istore_n 2, 1) := dk_61 (dk_at dksX4_owed_1 22 rfl rfl)
theorem dX4_owed_47 : decode cX4_owed 47 = .ok (.iinc 3 1, 3) := dk_132 3 1 (dk_at dksX4_owed_2 0 rfl rfl)
theorem dX4_owed_50 : decode cX4_owed 50 = .ok (.goto (-46), 3) := dk_167 255 210 (dk_at dksX4_owed_2 3 rfl rfl)
theorem dX4_owed_53 : decode cX4_owed 53 = .ok (.iload_n 2, 1) := dk_28 (dk_at dksX4_owed_2 6 rfl rfl)
theorem dX4_owed_54 : decode cX4_owed 54 = .ok (.ireturn, 1) := dk_172 (dk_at dksX4_owed_2 7 rfl rfl)
abbrev cX4_writ : ByteArray := prog_16_method_28_code
def yX4_writ : MethodName := ⟨RX4, "writ", "(III)I"⟩
def dkwX4_writ_0 : List UInt8 := [42, 182, 0, 96, 42, 42, 27, 28, 29, 182, 0, 130, 182, 0, 102, 172]
abbrev dktX4_writ_0 : List UInt8 := dkwX4_writ_0 ++ []
theorem dksX4_writ_0 : cX4_writ.data.toList.drop 0 = dktX4_writ_0 := by decide +kernel
theorem dX4_writ_0 : decode cX4_writ 0 = .ok (.aload_n 0, 1) := dk_42 (dk_at dksX4_writ_0 0 rfl rfl)
theorem dX4_writ_1 : decode cX4_writ 1 = .ok (.invokevirtual 96, 3) := dk_182 0 96 (dk_at dksX4_writ_0 1 rfl rfl)
theorem dX4_writ_4 : decode cX4_writ 4 = .ok (.aload_n 0, 1) := dk_42 (dk_at dksX4_writ_0 4 rfl rfl)
theorem dX4_writ_5 : decode cX4_writ 5 = .ok (.aload_n 0, 1) := dk_42 (dk_at dksX4_writ_0 5 rfl rfl)
theorem dX4_writ_6 : decode cX4_writ 6 = .ok (.iload_n 1, 1) := dk_27 (dk_at dksX4_writ_0 6 rfl rfl)
theorem dX4_writ_7 : decode cX4_writ 7 = .ok (.iload_n 2, 1) := dk_28 (dk_at dksX4_writ_0 7 rfl rfl)
theorem dX4_writ_8 : decode cX4_writ 8 = .ok (.iload_n 3, 1) := dk_29 (dk_at dksX4_writ_0 8 rfl rfl)
theorem dX4_writ_9 : decode cX4_writ 9 = .ok (.invokevirtual 130, 3) := dk_182 0 130 (dk_at dksX4_writ_0 9 rfl rfl)
theorem dX4_writ_12 : decode cX4_writ 12 = .ok (.invokevirtual 102, 3) := dk_182 0 102 (dk_at dksX4_writ_0 12 rfl rfl)
theorem dX4_writ_15 : decode cX4_writ 15 = .ok (.ireturn, 1) := dk_172 (dk_at dksX4_writ_0 15 rfl rfl)
abbrev cX4_snuffs : ByteArray := prog_16_method_27_code
def yX4_snuffs : MethodName := ⟨RX4, "snuffs", "(III)I"⟩
def dkwX4_snuffs_6 : List UInt8 := [42, 180, 0, 7, 28, 8, 184, 0, 72, 29, 79, 42, 2, 182, 0, 127, 172]
abbrev dktX4_snuffs_6 : List UInt8 := dkwX4_snuffs_6 ++ []
def dkwX4_snuffs_5 : List UInt8 := [160, 0, 10, 42, 4, 5, 182, 0, 78, 172, 42, 180, 0, 7, 28, 16, 6, 184, 0, 72, 27, 4, 96, 79]
abbrev dktX4_snuffs_5 : List UInt8 := dkwX4_snuffs_5 ++ dktX4_snuffs_6
def dkwX4_snuffs_4 : List UInt8 := [16, 9, 42, 180, 0, 7, 28, 8, 184, 0, 72, 46, 182, 0, 78, 172, 42, 27, 182, 0, 127, 5]
abbrev dktX4_snuffs_4 : List UInt8 := dkwX4_snuffs_4 ++ dktX4_snuffs_5
def dkwX4_snuffs_3 : List UInt8 := [42, 16, 8, 27, 182, 0, 78, 172, 42, 180, 0, 7, 28, 16, 6, 184, 0, 72, 46, 158, 0, 20, 42]
abbrev dktX4_snuffs_3 : List UInt8 := dkwX4_snuffs_3 ++ dktX4_snuffs_4
def dkwX4_snuffs_2 : List UInt8 := [154, 0, 10, 42, 5, 27, 182, 0, 78, 172, 42, 180, 0, 7, 28, 3, 184, 0, 72, 46, 27, 160, 0, 11]
abbrev dktX4_snuffs_2 : List UInt8 := dkwX4_snuffs_2 ++ dktX4_snuffs_3
def dkwX4_snuffs_1 : List UInt8 := [4, 16, 24, 184, 0, 68, 154, 0, 11, 42, 17, 252, 12, 182, 0, 57, 172, 42, 27, 182, 0, 89]
abbrev dktX4_snuffs_1 : List UInt8 := dkwX4_snuffs_1 ++ dktX4_snuffs_2
def dkwX4_snuffs_0 : List UInt8 := [27, 184, 0, 81, 153, 0, 11, 42, 28, 182, 0, 108, 154, 0, 11, 42, 17, 252, 13, 182, 0, 57, 172, 29]
abbrev dktX4_snuffs_0 : List UInt8 := dkwX4_snuffs_0 ++ dktX4_snuffs_1
theorem dksX4_snuffs_0 : cX4_snuffs.data.toList.drop 0 = dktX4_snuffs_0 := by decide +kernel
theorem dksX4_snuffs_1 : cX4_snuffs.data.toList.drop 24 = dktX4_snuffs_1 := dk_seg dksX4_snuffs_0 24 rfl rfl
theorem dksX4_snuffs_2 : cX4_snuffs.data.toList.drop 46 = dktX4_snuffs_2 := dk_seg dksX4_snuffs_1 22 rfl rfl
theorem dksX4_snuffs_3 : cX4_snuffs.data.toList.drop 70 = dktX4_snuffs_3 := dk_seg dksX4_snuffs_2 24 rfl rfl
theorem dksX4_snuffs_4 : cX4_snuffs.data.toList.drop 93 = dktX4_snuffs_4 := dk_seg dksX4_snuffs_3 23 rfl rfl
theorem dksX4_snuffs_5 : cX4_snuffs.data.toList.drop 115 = dktX4_snuffs_5 := dk_seg dksX4_snuffs_4 22 rfl rfl
theorem dksX4_snuffs_6 : cX4_snuffs.data.toList.drop 139 = dktX4_snuffs_6 := dk_seg dksX4_snuffs_5 24 rfl rfl
theorem dX4_snuffs_0 : decode cX4_snuffs 0 = .ok (.iload_n 1, 1) := dk_27 (dk_at dksX4_snuffs_0 0 rfl rfl)
theorem dX4_snuffs_1 : decode cX4_snuffs 1 = .ok (.invokestatic 81, 3) := dk_184 0 81 (dk_at dksX4_snuffs_0 1 rfl rfl)
theorem dX4_snuffs_4 : decode cX4_snuffs 4 = .ok (.ifCond .eq 11, 3) := dk_153 0 11 (dk_at dksX4_snuffs_0 4 rfl rfl)
theorem dX4_snuffs_7 : decode cX4_snuffs 7 = .ok (.aload_n 0, 1) := dk_42 (dk_at dksX4_snuffs_0 7 rfl rfl)
theorem dX4_snuffs_8 : decode cX4_snuffs 8 = .ok (.iload_n 2, 1) := dk_28 (dk_at dksX4_snuffs_0 8 rfl rfl)
theorem dX4_snuffs_9 : decode cX4_snuffs 9 = .ok (.invokevirtual 108, 3) := dk_182 0 108 (dk_at dksX4_snuffs_0 9 rfl rfl)
theorem dX4_snuffs_12 : decode cX4_snuffs 12 = .ok (.ifCond .ne 11, 3) := dk_154 0 11 (dk_at dksX4_snuffs_0 12 rfl rfl)
theorem dX4_snuffs_15 : decode cX4_snuffs 15 = .ok (.aload_n 0, 1) := dk_42 (dk_at dksX4_snuffs_0 15 rfl rfl)
theorem dX4_snuffs_16 : decode cX4_snuffs 16 = .ok (.sipush (-1011), 3) := dk_17 252 13 (dk_at dksX4_snuffs_0 16 rfl rfl)
theorem dX4_snuffs_19 : decode cX4_snuffs 19 = .ok (.invokevirtual 57, 3) := dk_182 0 57 (dk_at dksX4_snuffs_0 19 rfl rfl)
theorem dX4_snuffs_22 : decode cX4_snuffs 22 = .ok (.ireturn, 1) := dk_172 (dk_at dksX4_snuffs_0 22 rfl rfl)
theorem dX4_snuffs_23 : decode cX4_snuffs 23 = .ok (.iload_n 3, 1) := dk_29 (dk_at dksX4_snuffs_0 23 rfl rfl)
theorem dX4_snuffs_24 : decode cX4_snuffs 24 = .ok (.iconst 1, 1) := dk_4 (dk_at dksX4_snuffs_1 0 rfl rfl)
theorem dX4_snuffs_25 : decode cX4_snuffs 25 = .ok (.bipush 24, 2) := dk_16 24 (dk_at dksX4_snuffs_1 1 rfl rfl)
theorem dX4_snuffs_27 : decode cX4_snuffs 27 = .ok (.invokestatic 68, 3) := dk_184 0 68 (dk_at dksX4_snuffs_1 3 rfl rfl)
theorem dX4_snuffs_30 : decode cX4_snuffs 30 = .ok (.ifCond .ne 11, 3) := dk_154 0 11 (dk_at dksX4_snuffs_1 6 rfl rfl)
theorem dX4_snuffs_33 : decode cX4_snuffs 33 = .ok (.aload_n 0, 1) := dk_42 (dk_at dksX4_snuffs_1 9 rfl rfl)
theorem dX4_snuffs_34 : decode cX4_snuffs 34 = .ok (.sipush (-1012), 3) := dk_17 252 12 (dk_at dksX4_snuffs_1 10 rfl rfl)
theorem dX4_snuffs_37 : decode cX4_snuffs 37 = .ok (.invokevirtual 57, 3) := dk_182 0 57 (dk_at dksX4_snuffs_1 13 rfl rfl)
theorem dX4_snuffs_40 : decode cX4_snuffs 40 = .ok (.ireturn, 1) := dk_172 (dk_at dksX4_snuffs_1 16 rfl rfl)
theorem dX4_snuffs_41 : decode cX4_snuffs 41 = .ok (.aload_n 0, 1) := dk_42 (dk_at dksX4_snuffs_1 17 rfl rfl)
theorem dX4_snuffs_42 : decode cX4_snuffs 42 = .ok (.iload_n 1, 1) := dk_27 (dk_at dksX4_snuffs_1 18 rfl rfl)
theorem dX4_snuffs_43 : decode cX4_snuffs 43 = .ok (.invokevirtual 89, 3) := dk_182 0 89 (dk_at dksX4_snuffs_1 19 rfl rfl)
theorem dX4_snuffs_46 : decode cX4_snuffs 46 = .ok (.ifCond .ne 10, 3) := dk_154 0 10 (dk_at dksX4_snuffs_2 0 rfl rfl)
theorem dX4_snuffs_49 : decode cX4_snuffs 49 = .ok (.aload_n 0, 1) := dk_42 (dk_at dksX4_snuffs_2 3 rfl rfl)
theorem dX4_snuffs_50 : decode cX4_snuffs 50 = .ok (.iconst 2, 1) := dk_5 (dk_at dksX4_snuffs_2 4 rfl rfl)
theorem dX4_snuffs_51 : decode cX4_snuffs 51 = .ok (.iload_n 1, 1) := dk_27 (dk_at dksX4_snuffs_2 5 rfl rfl)
theorem dX4_snuffs_52 : decode cX4_snuffs 52 = .ok (.invokevirtual 78, 3) := dk_182 0 78 (dk_at dksX4_snuffs_2 6 rfl rfl)
theorem dX4_snuffs_55 : decode cX4_snuffs 55 = .ok (.ireturn, 1) := dk_172 (dk_at dksX4_snuffs_2 9 rfl rfl)
theorem dX4_snuffs_56 : decode cX4_snuffs 56 = .ok (.aload_n 0, 1) := dk_42 (dk_at dksX4_snuffs_2 10 rfl rfl)
theorem dX4_snuffs_57 : decode cX4_snuffs 57 = .ok (.getfield 7, 3) := dk_180 0 7 (dk_at dksX4_snuffs_2 11 rfl rfl)
theorem dX4_snuffs_60 : decode cX4_snuffs 60 = .ok (.iload_n 2, 1) := dk_28 (dk_at dksX4_snuffs_2 14 rfl rfl)
theorem dX4_snuffs_61 : decode cX4_snuffs 61 = .ok (.iconst 0, 1) := dk_3 (dk_at dksX4_snuffs_2 15 rfl rfl)
theorem dX4_snuffs_62 : decode cX4_snuffs 62 = .ok (.invokestatic 72, 3) := dk_184 0 72 (dk_at dksX4_snuffs_2 16 rfl rfl)
theorem dX4_snuffs_65 : decode cX4_snuffs 65 = .ok (.iaload, 1) := dk_46 (dk_at dksX4_snuffs_2 19 rfl rfl)
theorem dX4_snuffs_66 : decode cX4_snuffs 66 = .ok (.iload_n 1, 1) := dk_27 (dk_at dksX4_snuffs_2 20 rfl rfl)
theorem dX4_snuffs_67 : decode cX4_snuffs 67 = .ok (.if_icmp .ne 11, 3) := dk_160 0 11 (dk_at dksX4_snuffs_2 21 rfl rfl)
theorem dX4_snuffs_70 : decode cX4_snuffs 70 = .ok (.aload_n 0, 1) := dk_42 (dk_at dksX4_snuffs_3 0 rfl rfl)
theorem dX4_snuffs_71 : decode cX4_snuffs 71 = .ok (.bipush 8, 2) := dk_16 8 (dk_at dksX4_snuffs_3 1 rfl rfl)
theorem dX4_snuffs_73 : decode cX4_snuffs 73 = .ok (.iload_n 1, 1) := dk_27 (dk_at dksX4_snuffs_3 3 rfl rfl)
theorem dX4_snuffs_74 : decode cX4_snuffs 74 = .ok (.invokevirtual 78, 3) := dk_182 0 78 (dk_at dksX4_snuffs_3 4 rfl rfl)
theorem dX4_snuffs_77 : decode cX4_snuffs 77 = .ok (.ireturn, 1) := dk_172 (dk_at dksX4_snuffs_3 7 rfl rfl)
theorem dX4_snuffs_78 : decode cX4_snuffs 78 = .ok (.aload_n 0, 1) := dk_42 (dk_at dksX4_snuffs_3 8 rfl rfl)
theorem dX4_snuffs_79 : decode cX4_snuffs 79 = .ok (.getfield 7, 3) := dk_180 0 7 (dk_at dksX4_snuffs_3 9 rfl rfl)
theorem dX4_snuffs_82 : decode cX4_snuffs 82 = .ok (.iload_n 2, 1) := dk_28 (dk_at dksX4_snuffs_3 12 rfl rfl)
theorem dX4_snuffs_83 : decode cX4_snuffs 83 = .ok (.bipush 6, 2) := dk_16 6 (dk_at dksX4_snuffs_3 13 rfl rfl)
theorem dX4_snuffs_85 : decode cX4_snuffs 85 = .ok (.invokestatic 72, 3) := dk_184 0 72 (dk_at dksX4_snuffs_3 15 rfl rfl)
theorem dX4_snuffs_88 : decode cX4_snuffs 88 = .ok (.iaload, 1) := dk_46 (dk_at dksX4_snuffs_3 18 rfl rfl)
theorem dX4_snuffs_89 : decode cX4_snuffs 89 = .ok (.ifCond .le 20, 3) := dk_158 0 20 (dk_at dksX4_snuffs_3 19 rfl rfl)
theorem dX4_snuffs_92 : decode cX4_snuffs 92 = .ok (.aload_n 0, 1) := dk_42 (dk_at dksX4_snuffs_3 22 rfl rfl)
theorem dX4_snuffs_93 : decode cX4_snuffs 93 = .ok (.bipush 9, 2) := dk_16 9 (dk_at dksX4_snuffs_4 0 rfl rfl)
theorem dX4_snuffs_95 : decode cX4_snuffs 95 = .ok (.aload_n 0, 1) := dk_42 (dk_at dksX4_snuffs_4 2 rfl rfl)
theorem dX4_snuffs_96 : decode cX4_snuffs 96 = .ok (.getfield 7, 3) := dk_180 0 7 (dk_at dksX4_snuffs_4 3 rfl rfl)
theorem dX4_snuffs_99 : decode cX4_snuffs 99 = .ok (.iload_n 2, 1) := dk_28 (dk_at dksX4_snuffs_4 6 rfl rfl)
theorem dX4_snuffs_100 : decode cX4_snuffs 100 = .ok (.iconst 5, 1) := dk_8 (dk_at dksX4_snuffs_4 7 rfl rfl)
theorem dX4_snuffs_101 : decode cX4_snuffs 101 = .ok (.invokestatic 72, 3) := dk_184 0 72 (dk_at dksX4_snuffs_4 8 rfl rfl)
theorem dX4_snuffs_104 : decode cX4_snuffs 104 = .ok (.iaload, 1) := dk_46 (dk_at dksX4_snuffs_4 11 rfl rfl)
theorem dX4_snuffs_105 : decode cX4_snuffs 105 = .ok (.invokevirtual 78, 3) := dk_182 0 78 (dk_at dksX4_snuffs_4 12 rfl rfl)
theorem dX4_snuffs_108 : decode cX4_snuffs 108 = .ok (.ireturn, 1) := dk_172 (dk_at dksX4_snuffs_4 15 rfl rfl)
theorem dX4_snuffs_109 : decode cX4_snuffs 109 = .ok (.aload_n 0, 1) := dk_42 (dk_at dksX4_snuffs_4 16 rfl rfl)
theorem dX4_snuffs_110 : decode cX4_snuffs 110 = .ok (.iload_n 1, 1) := dk_27 (dk_at dksX4_snuffs_4 17 rfl rfl)
theorem dX4_snuffs_111 : decode cX4_snuffs 111 = .ok (.invokevirtual 127, 3) := dk_182 0 127 (dk_at dksX4_snuffs_4 18 rfl rfl)
theorem dX4_snuffs_114 : decode cX4_snuffs 114 = .ok (.iconst 2, 1) := dk_5 (dk_at dksX4_snuffs_4 21 rfl rfl)
theorem dX4_snuffs_115 : decode cX4_snuffs 115 = .ok (.if_icmp .ne 10, 3) := dk_160 0 10 (dk_at dksX4_snuffs_5 0 rfl rfl)
theorem dX4_snuffs_118 : decode cX4_snuffs 118 = .ok (.aload_n 0, 1) := dk_42 (dk_at dksX4_snuffs_5 3 rfl rfl)
theorem dX4_snuffs_119 : decode cX4_snuffs 119 = .ok (.iconst 1, 1) := dk_4 (dk_at dksX4_snuffs_5 4 rfl rfl)
theorem dX4_snuffs_120 : decode cX4_snuffs 120 = .ok (.iconst 2, 1) := dk_5 (dk_at dksX4_snuffs_5 5 rfl rfl)
theorem dX4_snuffs_121 : decode cX4_snuffs 121 = .ok (.invokevirtual 78, 3) := dk_182 0 78 (dk_at dksX4_snuffs_5 6 rfl rfl)
theorem dX4_snuffs_124 : decode cX4_snuffs 124 = .ok (.ireturn, 1) := dk_172 (dk_at dksX4_snuffs_5 9 rfl rfl)
theorem dX4_snuffs_125 : decode cX4_snuffs 125 = .ok (.aload_n 0, 1) := dk_42 (dk_at dksX4_snuffs_5 10 rfl rfl)
theorem dX4_snuffs_126 : decode cX4_snuffs 126 = .ok (.getfield 7, 3) := dk_180 0 7 (dk_at dksX4_snuffs_5 11 rfl rfl)
theorem dX4_snuffs_129 : decode cX4_snuffs 129 = .ok (.iload_n 2, 1) := dk_28 (dk_at dksX4_snuffs_5 14 rfl rfl)
theorem dX4_snuffs_130 : decode cX4_snuffs 130 = .ok (.bipush 6, 2) := dk_16 6 (dk_at dksX4_snuffs_5 15 rfl rfl)
theorem dX4_snuffs_132 : decode cX4_snuffs 132 = .ok (.invokestatic 72, 3) := dk_184 0 72 (dk_at dksX4_snuffs_5 17 rfl rfl)
theorem dX4_snuffs_135 : decode cX4_snuffs 135 = .ok (.iload_n 1, 1) := dk_27 (dk_at dksX4_snuffs_5 20 rfl rfl)
theorem dX4_snuffs_136 : decode cX4_snuffs 136 = .ok (.iconst 1, 1) := dk_4 (dk_at dksX4_snuffs_5 21 rfl rfl)
theorem dX4_snuffs_137 : decode cX4_snuffs 137 = .ok (.iadd, 1) := dk_96 (dk_at dksX4_snuffs_5 22 rfl rfl)
theorem dX4_snuffs_138 : decode cX4_snuffs 138 = .ok (.iastore, 1) := dk_79 (dk_at dksX4_snuffs_5 23 rfl rfl)
theorem dX4_snuffs_139 : decode cX4_snuffs 139 = .ok (.aload_n 0, 1) := dk_42 (dk_at dksX4_snuffs_6 0 rfl rfl)
theorem dX4_snuffs_140 : decode cX4_snuffs 140 = .ok (.getfield 7, 3) := dk_180 0 7 (dk_at dksX4_snuffs_6 1 rfl rfl)
theorem dX4_snuffs_143 : decode cX4_snuffs 143 = .ok (.iload_n 2, 1) := dk_28 (dk_at dksX4_snuffs_6 4 rfl rfl)
theorem dX4_snuffs_144 : decode cX4_snuffs 144 = .ok (.iconst 5, 1) := dk_8 (dk_at dksX4_snuffs_6 5 rfl rfl)
theorem dX4_snuffs_145 : decode cX4_snuffs 145 = .ok (.invokestatic 72, 3) := dk_184 0 72 (dk_at dksX4_snuffs_6 6 rfl rfl)
theorem dX4_snuffs_148 : decode cX4_snuffs 148 = .ok (.iload_n 3, 1) := dk_29 (dk_at dksX4_snuffs_6 9 rfl rfl)
theorem dX4_snuffs_149 : decode cX4_snuffs 149 = .ok (.iastore, 1) := dk_79 (dk_at dksX4_snuffs_6 10 rfl rfl)
theorem dX4_snuffs_150 : decode cX4_snuffs 150 = .ok (.aload_n 0, 1) := dk_42 (dk_at dksX4_snuffs_6 11 rfl rfl)
theorem dX4_snuffs_151 : decode cX4_snuffs 151 = .ok (.iconst (-1), 1) := dk_2 (dk_at dksX4_snuffs_6 12 rfl rfl)
theorem dX4_snuffs_152 : decode cX4_snuffs 152 = .ok (.invokevirtual 127, 3) := dk_182 0 127 (dk_at dksX4_snuffs_6 13 rfl rfl)
theorem dX4_snuffs_155 : decode cX4_snuffs 155 = .ok (.ireturn, 1) := dk_172 (dk_at dksX4_snuffs_6 16 rfl rfl)
abbrev cX4_writs : ByteArray := prog_16_method_17_code
def yX4_writs : MethodName := ⟨RX4, "writs", "(I)I"⟩
def dkwX4_writs_3 : List UInt8 := [172]
abbrev dktX4_writs_3 : List UInt8 := dkwX4_writs_3 ++ []
def dkwX4_writs_2 : List UInt8 := [184, 0, 72, 46, 27, 4, 96, 160, 0, 7, 4, 167, 0, 4, 3, 96, 61, 132, 3, 1, 167, 255, 192, 28]
abbrev dktX4_writs_2 : List UInt8 := dkwX4_writs_2 ++ dktX4_writs_3
def dkwX4_writs_1 : List UInt8 := [16, 6, 184, 0, 72, 46, 158, 0, 7, 4, 167, 0, 29, 3, 167, 0, 25, 42, 180, 0, 7, 29, 16, 6]
abbrev dktX4_writs_1 : List UInt8 := dkwX4_writs_1 ++ dktX4_writs_2
def dkwX4_writs_0 : List UInt8 := [3, 61, 3, 62, 29, 42, 180, 0, 7, 3, 46, 162, 0, 60, 28, 27, 156, 0, 25, 42, 180, 0, 7, 29]
abbrev dktX4_writs_0 : List UInt8 := dkwX4_writs_0 ++ dktX4_writs_1
theorem dksX4_writs_0 : cX4_writs.data.toList.drop 0 = dktX4_writs_0 := by decide +kernel
theorem dksX4_writs_1 : cX4_writs.data.toList.drop 24 = dktX4_writs_1 := dk_seg dksX4_writs_0 24 rfl rfl
theorem dksX4_writs_2 : cX4_writs.data.toList.drop 48 = dktX4_writs_2 := dk_seg dksX4_writs_1 24 rfl rfl
theorem dksX4_writs_3 : cX4_writs.data.toList.drop 72 = dktX4_writs_3 := dk_seg dksX4_writs_2 24 rfl rfl
theorem dX4_writs_0 : decode cX4_writs 0 = .ok (.iconst 0, 1) := dk_3 (dk_at dksX4_writs_0 0 rfl rfl)
theorem dX4_writs_1 : decode cX4_writs 1 = .ok (.istore_n 2, 1) := dk_61 (dk_at dksX4_writs_0 1 rfl rfl)
theorem dX4_writs_2 : decode cX4_writs 2 = .ok (.iconst 0, 1) := dk_3 (dk_at dksX4_writs_0 2 rfl rfl)
theorem dX4_writs_3 : decode cX4_writs 3 = .ok (.istore_n 3, 1) := dk_62 (dk_at dksX4_writs_0 3 rfl rfl)
theorem dX4_writs_4 : decode cX4_writs 4 = .ok (.iload_n 3, 1) := dk_29 (dk_at dksX4_writs_0 4 rfl rfl)
theorem dX4_writs_5 : decode cX4_writs 5 = .ok (.aload_n 0, 1) := dk_42 (dk_at dksX4_writs_0 5 rfl rfl)
theorem dX4_writs_6 : decode cX4_writs 6 = .ok (.getfield 7, 3) := dk_180 0 7 (dk_at dksX4_writs_0 6 rfl rfl)
theorem dX4_writs_9 : decode cX4_writs 9 = .ok (.iconst 0, 1) := dk_3 (dk_at dksX4_writs_0 9 rfl rfl)
theorem dX4_writs_10 : decode cX4_writs 10 = .ok (.iaload, 1) := dk_46 (dk_at dksX4_writs_0 10 rfl rfl)
theorem dX4_writs_11 : decode cX4_writs 11 = .ok (.if_icmp .ge 60, 3) := dk_162 0 60 (dk_at dksX4_writs_0 11 rfl rfl)
theorem dX4_writs_14 : decode cX4_writs 14 = .ok (.iload_n 2, 1) := dk_28 (dk_at dksX4_writs_0 14 rfl rfl)
theorem dX4_writs_15 : decode cX4_writs 15 = .ok (.iload_n 1, 1) := dk_27 (dk_at dksX4_writs_0 15 rfl rfl)
theorem dX4_writs_16 : decode cX4_writs 16 = .ok (.ifCond .ge 25, 3) := dk_156 0 25 (dk_at dksX4_writs_0 16 rfl rfl)
theorem dX4_writs_19 : decode cX4_writs 19 = .ok (.aload_n 0, 1) := dk_42 (dk_at dksX4_writs_0 19 rfl rfl)
theorem dX4_writs_20 : decode cX4_writs 20 = .ok (.getfield 7, 3) := dk_180 0 7 (dk_at dksX4_writs_0 20 rfl rfl)
theorem dX4_writs_23 : decode cX4_writs 23 = .ok (.iload_n 3, 1) := dk_29 (dk_at dksX4_writs_0 23 rfl rfl)
theorem dX4_writs_24 : decode cX4_writs 24 = .ok (.bipush 6, 2) := dk_16 6 (dk_at dksX4_writs_1 0 rfl rfl)
theorem dX4_writs_26 : decode cX4_writs 26 = .ok (.invokestatic 72, 3) := dk_184 0 72 (dk_at dksX4_writs_1 2 rfl rfl)
theorem dX4_writs_29 : decode cX4_writs 29 = .ok (.iaload, 1) := dk_46 (dk_at dksX4_writs_1 5 rfl rfl)
theorem dX4_writs_30 : decode cX4_writs 30 = .ok (.ifCond .le 7, 3) := dk_158 0 7 (dk_at dksX4_writs_1 6 rfl rfl)
theorem dX4_writs_33 : decode cX4_writs 33 = .ok (.iconst 1, 1) := dk_4 (dk_at dksX4_writs_1 9 rfl rfl)
theorem dX4_writs_34 : decode cX4_writs 34 = .ok (.goto 29, 3) := dk_167 0 29 (dk_at dksX4_writs_1 10 rfl rfl)
theorem dX4_writs_37 : decode cX4_writs 37 = .ok (.iconst 0, 1) := dk_3 (dk_at dksX4_writs_1 13 rfl rfl)
theorem dX4_writs_38 : decode cX4_writs 38 = .ok (.goto 25, 3) := dk_167 0 25 (dk_at dksX4_writs_1 14 rfl rfl)
theorem dX4_writs_41 : decode cX4_writs 41 = .ok (.aload_n 0, 1) := dk_42 (dk_at dksX4_writs_1 17 rfl rfl)
theorem dX4_writs_42 : decode cX4_writs 42 = .ok (.getfield 7, 3) := dk_180 0 7 (dk_at dksX4_writs_1 18 rfl rfl)
theorem dX4_writs_45 : decode cX4_writs 45 = .ok (.iload_n 3, 1) := dk_29 (dk_at dksX4_writs_1 21 rfl rfl)
theorem dX4_writs_46 : decode cX4_writs 46 = .ok (.bipush 6, 2) := dk_16 6 (dk_at dksX4_writs_1 22 rfl rfl)
theorem dX4_writs_48 : decode cX4_writs 48 = .ok (.invokestatic 72, 3) := dk_184 0 72 (dk_at dksX4_writs_2 0 rfl rfl)
theorem dX4_writs_51 : decode cX4_writs 51 = .ok (.iaload, 1) := dk_46 (dk_at dksX4_writs_2 3 rfl rfl)
theorem dX4_writs_52 : decode cX4_writs 52 = .ok (.iload_n 1, 1) := dk_27 (dk_at dksX4_writs_2 4 rfl rfl)
theorem dX4_writs_53 : decode cX4_writs 53 = .ok (.iconst 1, 1) := dk_4 (dk_at dksX4_writs_2 5 rfl rfl)
theorem dX4_writs_54 : decode cX4_writs 54 = .ok (.iadd, 1) := dk_96 (dk_at dksX4_writs_2 6 rfl rfl)
theorem dX4_writs_55 : decode cX4_writs 55 = .ok (.if_icmp .ne 7, 3) := dk_160 0 7 (dk_at dksX4_writs_2 7 rfl rfl)
theorem dX4_writs_58 : decode cX4_writs 58 = .ok (.iconst 1, 1) := dk_4 (dk_at dksX4_writs_2 10 rfl rfl)
theorem dX4_writs_59 : decode cX4_writs 59 = .ok (.goto 4, 3) := dk_167 0 4 (dk_at dksX4_writs_2 11 rfl rfl)
theorem dX4_writs_62 : decode cX4_writs 62 = .ok (.iconst 0, 1) := dk_3 (dk_at dksX4_writs_2 14 rfl rfl)
theorem dX4_writs_63 : decode cX4_writs 63 = .ok (.iadd, 1) := dk_96 (dk_at dksX4_writs_2 15 rfl rfl)
theorem dX4_writs_64 : decode cX4_writs 64 = .ok (.istore_n 2, 1) := dk_61 (dk_at dksX4_writs_2 16 rfl rfl)
theorem dX4_writs_65 : decode cX4_writs 65 = .ok (.iinc 3 1, 3) := dk_132 3 1 (dk_at dksX4_writs_2 17 rfl rfl)
theorem dX4_writs_68 : decode cX4_writs 68 = .ok (.goto (-64), 3) := dk_167 255 192 (dk_at dksX4_writs_2 20 rfl rfl)
theorem dX4_writs_71 : decode cX4_writs 71 = .ok (.iload_n 2, 1) := dk_28 (dk_at dksX4_writs_2 23 rfl rfl)
theorem dX4_writs_72 : decode cX4_writs 72 = .ok (.ireturn, 1) := dk_172 (dk_at dksX4_writs_3 0 rfl rfl)
abbrev cX4_stubOf : ByteArray := prog_16_method_29_code
def yX4_stubOf : MethodName := ⟨RX4, "stubOf", "(II)I"⟩
def dkwX4_stubOf_2 : List UInt8 := [159, 0, 7, 29, 167, 0, 16, 29, 154, 0, 9, 17, 252, 9, 167, 0, 6, 29, 4, 100, 172]
abbrev dktX4_stubOf_2 : List UInt8 := dkwX4_stubOf_2 ++ []
def dkwX4_stubOf_1 : List UInt8 := [17, 252, 12, 172, 42, 180, 0, 7, 27, 28, 184, 0, 72, 46, 62, 28, 6, 159, 0, 13, 28, 16, 6]
abbrev dktX4_stubOf_1 : List UInt8 := dkwX4_stubOf_1 ++ dktX4_stubOf_2
def dkwX4_stubOf_0 : List UInt8 := [42, 27, 182, 0, 108, 154, 0, 7, 17, 252, 13, 172, 28, 3, 16, 7, 184, 0, 68, 154, 0, 7]
abbrev dktX4_stubOf_0 : List UInt8 := dkwX4_stubOf_0 ++ dktX4_stubOf_1
theorem dksX4_stubOf_0 : cX4_stubOf.data.toList.drop 0 = dktX4_stubOf_0 := by decide +kernel
theorem dksX4_stubOf_1 : cX4_stubOf.data.toList.drop 22 = dktX4_stubOf_1 := dk_seg dksX4_stubOf_0 22 rfl rfl
theorem dksX4_stubOf_2 : cX4_stubOf.data.toList.drop 45 = dktX4_stubOf_2 := dk_seg dksX4_stubOf_1 23 rfl rfl
theorem dX4_stubOf_0 : decode cX4_stubOf 0 = .ok (.aload_n 0, 1) := dk_42 (dk_at dksX4_stubOf_0 0 rfl rfl)
theorem dX4_stubOf_1 : decode cX4_stubOf 1 = .ok (.iload_n 1, 1) := dk_27 (dk_at dksX4_stubOf_0 1 rfl rfl)
theorem dX4_stubOf_2 : decode cX4_stubOf 2 = .ok (.invokevirtual 108, 3) := dk_182 0 108 (dk_at dksX4_stubOf_0 2 rfl rfl)
theorem dX4_stubOf_5 : decode cX4_stubOf 5 = .ok (.ifCond .ne 7, 3) := dk_154 0 7 (dk_at dksX4_stubOf_0 5 rfl rfl)
theorem dX4_stubOf_8 : decode cX4_stubOf 8 = .ok (.sipush (-1011), 3) := dk_17 252 13 (dk_at dksX4_stubOf_0 8 rfl rfl)
theorem dX4_stubOf_11 : decode cX4_stubOf 11 = .ok (.ireturn, 1) := dk_172 (dk_at dksX4_stubOf_0 11 rfl rfl)
theorem dX4_stubOf_12 : decode cX4_stubOf 12 = .ok (.iload_n 2, 1) := dk_28 (dk_at dksX4_stubOf_0 12 rfl rfl)
theorem dX4_stubOf_13 : decode cX4_stubOf 13 = .ok (.iconst 0, 1) := dk_3 (dk_at dksX4_stubOf_0 13 rfl rfl)
theorem dX4_stubOf_14 : decode cX4_stubOf 14 = .ok (.bipush 7, 2) := dk_16 7 (dk_at dksX4_stubOf_0 14 rfl rfl)
theorem dX4_stubOf_16 : decode cX4_stubOf 16 = .ok (.invokestatic 68, 3) := dk_184 0 68 (dk_at dksX4_stubOf_0 16 rfl rfl)
theorem dX4_stubOf_19 : decode cX4_stubOf 19 = .ok (.ifCond .ne 7, 3) := dk_154 0 7 (dk_at dksX4_stubOf_0 19 rfl rfl)
theorem dX4_stubOf_22 : decode cX4_stubOf 22 = .ok (.sipush (-1012), 3) := dk_17 252 12 (dk_at dksX4_stubOf_1 0 rfl rfl)
theorem dX4_stubOf_25 : decode cX4_stubOf 25 = .ok (.ireturn, 1) := dk_172 (dk_at dksX4_stubOf_1 3 rfl rfl)
theorem dX4_stubOf_26 : decode cX4_stubOf 26 = .ok (.aload_n 0, 1) := dk_42 (dk_at dksX4_stubOf_1 4 rfl rfl)
theorem dX4_stubOf_27 : decode cX4_stubOf 27 = .ok (.getfield 7, 3) := dk_180 0 7 (dk_at dksX4_stubOf_1 5 rfl rfl)
theorem dX4_stubOf_30 : decode cX4_stubOf 30 = .ok (.iload_n 1, 1) := dk_27 (dk_at dksX4_stubOf_1 8 rfl rfl)
theorem dX4_stubOf_31 : decode cX4_stubOf 31 = .ok (.iload_n 2, 1) := dk_28 (dk_at dksX4_stubOf_1 9 rfl rfl)
theorem dX4_stubOf_32 : decode cX4_stubOf 32 = .ok (.invokestatic 72, 3) := dk_184 0 72 (dk_at dksX4_stubOf_1 10 rfl rfl)
theorem dX4_stubOf_35 : decode cX4_stubOf 35 = .ok (.iaload, 1) := dk_46 (dk_at dksX4_stubOf_1 13 rfl rfl)
theorem dX4_stubOf_36 : decode cX4_stubOf 36 = .ok (.istore_n 3, 1) := dk_62 (dk_at dksX4_stubOf_1 14 rfl rfl)
theorem dX4_stubOf_37 : decode cX4_stubOf 37 = .ok (.iload_n 2, 1) := dk_28 (dk_at dksX4_stubOf_1 15 rfl rfl)
theorem dX4_stubOf_38 : decode cX4_stubOf 38 = .ok (.iconst 3, 1) := dk_6 (dk_at dksX4_stubOf_1 16 rfl rfl)
theorem dX4_stubOf_39 : decode cX4_stubOf 39 = .ok (.if_icmp .eq 13, 3) := dk_159 0 13 (dk_at dksX4_stubOf_1 17 rfl rfl)
theorem dX4_stubOf_42 : decode cX4_stubOf 42 = .ok (.iload_n 2, 1) := dk_28 (dk_at dksX4_stubOf_1 20 rfl rfl)
theorem dX4_stubOf_43 : decode cX4_stubOf 43 = .ok (.bipush 6, 2) := dk_16 6 (dk_at dksX4_stubOf_1 21 rfl rfl)
theorem dX4_stubOf_45 : decode cX4_stubOf 45 = .ok (.if_icmp .eq 7, 3) := dk_159 0 7 (dk_at dksX4_stubOf_2 0 rfl rfl)
theorem dX4_stubOf_48 : decode cX4_stubOf 48 = .ok (.iload_n 3, 1) := dk_29 (dk_at dksX4_stubOf_2 3 rfl rfl)
theorem dX4_stubOf_49 : decode cX4_stubOf 49 = .ok (.goto 16, 3) := dk_167 0 16 (dk_at dksX4_stubOf_2 4 rfl rfl)
theorem dX4_stubOf_52 : decode cX4_stubOf 52 = .ok (.iload_n 3, 1) := dk_29 (dk_at dksX4_stubOf_2 7 rfl rfl)
theorem dX4_stubOf_53 : decode cX4_stubOf 53 = .ok (.ifCond .ne 9, 3) := dk_154 0 9 (dk_at dksX4_stubOf_2 8 rfl rfl)
theorem dX4_stubOf_56 : decode cX4_stubOf 56 = .ok (.sipush (-1015), 3) := dk_17 252 9 (dk_at dksX4_stubOf_2 11 rfl rfl)
theorem dX4_stubOf_59 : decode cX4_stubOf 59 = .ok (.goto 6, 3) := dk_167 0 6 (dk_at dksX4_stubOf_2 14 rfl rfl)
theorem dX4_stubOf_62 : decode cX4_stubOf 62 = .ok (.iload_n 3, 1) := dk_29 (dk_at dksX4_stubOf_2 17 rfl rfl)
theorem dX4_stubOf_63 : decode cX4_stubOf 63 = .ok (.iconst 1, 1) := dk_4 (dk_at dksX4_stubOf_2 18 rfl rfl)
theorem dX4_stubOf_64 : decode cX4_stubOf 64 = .ok (.isub, 1) := dk_100 (dk_at dksX4_stubOf_2 19 rfl rfl)
theorem dX4_stubOf_65 : decode cX4_stubOf 65 = .ok (.ireturn, 1) := dk_172 (dk_at dksX4_stubOf_2 20 rfl rfl)
abbrev cX4_pool : ByteArray := prog_16_method_32_code
def yX4_pool : MethodName := ⟨RX4, "pool", "(II)I"⟩
def dkwX4_pool_0 : List UInt8 := [42, 182, 0, 96, 42, 42, 27, 28, 182, 0, 137, 182, 0, 102, 172]
abbrev dktX4_pool_0 : List UInt8 := dkwX4_pool_0 ++ []
theorem dksX4_pool_0 : cX4_pool.data.toList.drop 0 = dktX4_pool_0 := by decide +kernel
theorem dX4_pool_0 : decode cX4_pool 0 = .ok (.aload_n 0, 1) := dk_42 (dk_at dksX4_pool_0 0 rfl rfl)
theorem dX4_pool_1 : decode cX4_pool 1 = .ok (.invokevirtual 96, 3) := dk_182 0 96 (dk_at dksX4_pool_0 1 rfl rfl)
theorem dX4_pool_4 : decode cX4_pool 4 = .ok (.aload_n 0, 1) := dk_42 (dk_at dksX4_pool_0 4 rfl rfl)
theorem dX4_pool_5 : decode cX4_pool 5 = .ok (.aload_n 0, 1) := dk_42 (dk_at dksX4_pool_0 5 rfl rfl)
theorem dX4_pool_6 : decode cX4_pool 6 = .ok (.iload_n 1, 1) := dk_27 (dk_at dksX4_pool_0 6 rfl rfl)
theorem dX4_pool_7 : decode cX4_pool 7 = .ok (.iload_n 2, 1) := dk_28 (dk_at dksX4_pool_0 7 rfl rfl)
theorem dX4_pool_8 : decode cX4_pool 8 = .ok (.invokevirtual 137, 3) := dk_182 0 137 (dk_at dksX4_pool_0 8 rfl rfl)
theorem dX4_pool_11 : decode cX4_pool 11 = .ok (.invokevirtual 102, 3) := dk_182 0 102 (dk_at dksX4_pool_0 11 rfl rfl)
theorem dX4_pool_14 : decode cX4_pool 14 = .ok (.ireturn, 1) := dk_172 (dk_at dksX4_pool_0 14 rfl rfl)
abbrev cX4_pools : ByteArray := prog_16_method_31_code
def yX4_pools : MethodName := ⟨RX4, "pools", "(II)I"⟩
def dkwX4_pools_4 : List UInt8 := [29, 28, 160, 0, 8, 42, 27, 182, 0, 114, 42, 182, 0, 133, 172]
abbrev dktX4_pools_4 : List UInt8 := dkwX4_pools_4 ++ []
def dkwX4_pools_3 : List UInt8 := [46, 6, 184, 0, 37, 92, 46, 28, 96, 79, 42, 180, 0, 7, 27, 4, 184, 0, 72, 92, 46, 28, 100, 79]
abbrev dktX4_pools_3 : List UInt8 := dkwX4_pools_3 ++ dktX4_pools_4
def dkwX4_pools_2 : List UInt8 := [162, 0, 11, 42, 16, 10, 29, 182, 0, 78, 172, 42, 180, 0, 7, 42, 180, 0, 7, 27, 3, 184, 0, 72]
abbrev dktX4_pools_2 : List UInt8 := dkwX4_pools_2 ++ dktX4_pools_3
def dkwX4_pools_1 : List UInt8 := [154, 0, 11, 42, 17, 252, 12, 182, 0, 57, 172, 42, 180, 0, 7, 27, 4, 184, 0, 72, 46, 62, 29, 28]
abbrev dktX4_pools_1 : List UInt8 := dkwX4_pools_1 ++ dktX4_pools_2
def dkwX4_pools_0 : List UInt8 := [42, 27, 182, 0, 108, 154, 0, 11, 42, 17, 252, 13, 182, 0, 57, 172, 28, 4, 16, 30, 184, 0, 68]
abbrev dktX4_pools_0 : List UInt8 := dkwX4_pools_0 ++ dktX4_pools_1
theorem dksX4_pools_0 : cX4_pools.data.toList.drop 0 = dktX4_pools_0 := by decide +kernel
theorem dksX4_pools_1 : cX4_pools.data.toList.drop 23 = dktX4_pools_1 := dk_seg dksX4_pools_0 23 rfl rfl
theorem dksX4_pools_2 : cX4_pools.data.toList.drop 47 = dktX4_pools_2 := dk_seg dksX4_pools_1 24 rfl rfl
theorem dksX4_pools_3 : cX4_pools.data.toList.drop 71 = dktX4_pools_3 := dk_seg dksX4_pools_2 24 rfl rfl
theorem dksX4_pools_4 : cX4_pools.data.toList.drop 95 = dktX4_pools_4 := dk_seg dksX4_pools_3 24 rfl rfl
theorem dX4_pools_0 : decode cX4_pools 0 = .ok (.aload_n 0, 1) := dk_42 (dk_at dksX4_pools_0 0 rfl rfl)
theorem dX4_pools_1 : decode cX4_pools 1 = .ok (.iload_n 1, 1) := dk_27 (dk_at dksX4_pools_0 1 rfl rfl)
theorem dX4_pools_2 : decode cX4_pools 2 = .ok (.invokevirtual 108, 3) := dk_182 0 108 (dk_at dksX4_pools_0 2 rfl rfl)
theorem dX4_pools_5 : decode cX4_pools 5 = .ok (.ifCond .ne 11, 3) := dk_154 0 11 (dk_at dksX4_pools_0 5 rfl rfl)
theorem dX4_pools_8 : decode cX4_pools 8 = .ok (.aload_n 0, 1) := dk_42 (dk_at dksX4_pools_0 8 rfl rfl)
theorem dX4_pools_9 : decode cX4_pools 9 = .ok (.sipush (-1011), 3) := dk_17 252 13 (dk_at dksX4_pools_0 9 rfl rfl)
theorem dX4_pools_12 : decode cX4_pools 12 = .ok (.invokevirtual 57, 3) := dk_182 0 57 (dk_at dksX4_pools_0 12 rfl rfl)
theorem dX4_pools_15 : decode cX4_pools 15 = .ok (.ireturn, 1) := dk_172 (dk_at dksX4_pools_0 15 rfl rfl)
theorem dX4_pools_16 : decode cX4_pools 16 = .ok (.iload_n 2, 1) := dk_28 (dk_at dksX4_pools_0 16 rfl rfl)
theorem dX4_pools_17 : decode cX4_pools 17 = .ok (.iconst 1, 1) := dk_4 (dk_at dksX4_pools_0 17 rfl rfl)
theorem dX4_pools_18 : decode cX4_pools 18 = .ok (.bipush 30, 2) := dk_16 30 (dk_at dksX4_pools_0 18 rfl rfl)
theorem dX4_pools_20 : decode cX4_pools 20 = .ok (.invokestatic 68, 3) := dk_184 0 68 (dk_at dksX4_pools_0 20 rfl rfl)
theorem dX4_pools_23 : decode cX4_pools 23 = .ok (.ifCond .ne 11, 3) := dk_154 0 11 (dk_at dksX4_pools_1 0 rfl rfl)
theorem dX4_pools_26 : decode cX4_pools 26 = .ok (.aload_n 0, 1) := dk_42 (dk_at dksX4_pools_1 3 rfl rfl)
theorem dX4_pools_27 : decode cX4_pools 27 = .ok (.sipush (-1012), 3) := dk_17 252 12 (dk_at dksX4_pools_1 4 rfl rfl)
theorem dX4_pools_30 : decode cX4_pools 30 = .ok (.invokevirtual 57, 3) := dk_182 0 57 (dk_at dksX4_pools_1 7 rfl rfl)
theorem dX4_pools_33 : decode cX4_pools 33 = .ok (.ireturn, 1) := dk_172 (dk_at dksX4_pools_1 10 rfl rfl)
theorem dX4_pools_34 : decode cX4_pools 34 = .ok (.aload_n 0, 1) := dk_42 (dk_at dksX4_pools_1 11 rfl rfl)
theorem dX4_pools_35 : decode cX4_pools 35 = .ok (.getfield 7, 3) := dk_180 0 7 (dk_at dksX4_pools_1 12 rfl rfl)
theorem dX4_pools_38 : decode cX4_pools 38 = .ok (.iload_n 1, 1) := dk_27 (dk_at dksX4_pools_1 15 rfl rfl)
theorem dX4_pools_39 : decode cX4_pools 39 = .ok (.iconst 1, 1) := dk_4 (dk_at dksX4_pools_1 16 rfl rfl)
theorem dX4_pools_40 : decode cX4_pools 40 = .ok (.invokestatic 72, 3) := dk_184 0 72 (dk_at dksX4_pools_1 17 rfl rfl)
theorem dX4_pools_43 : decode cX4_pools 43 = .ok (.iaload, 1) := dk_46 (dk_at dksX4_pools_1 20 rfl rfl)
theorem dX4_pools_44 : decode cX4_pools 44 = .ok (.istore_n 3, 1) := dk_62 (dk_at dksX4_pools_1 21 rfl rfl)
theorem dX4_pools_45 : decode cX4_pools 45 = .ok (.iload_n 3, 1) := dk_29 (dk_at dksX4_pools_1 22 rfl rfl)
theorem dX4_pools_46 : decode cX4_pools 46 = .ok (.iload_n 2, 1) := dk_28 (dk_at dksX4_pools_1 23 rfl rfl)
theorem dX4_pools_47 : decode cX4_pools 47 = .ok (.if_icmp .ge 11, 3) := dk_162 0 11 (dk_at dksX4_pools_2 0 rfl rfl)
theorem dX4_pools_50 : decode cX4_pools 50 = .ok (.aload_n 0, 1) := dk_42 (dk_at dksX4_pools_2 3 rfl rfl)
theorem dX4_pools_51 : decode cX4_pools 51 = .ok (.bipush 10, 2) := dk_16 10 (dk_at dksX4_pools_2 4 rfl rfl)
theorem dX4_pools_53 : decode cX4_pools 53 = .ok (.iload_n 3, 1) := dk_29 (dk_at dksX4_pools_2 6 rfl rfl)
theorem dX4_pools_54 : decode cX4_pools 54 = .ok (.invokevirtual 78, 3) := dk_182 0 78 (dk_at dksX4_pools_2 7 rfl rfl)
theorem dX4_pools_57 : decode cX4_pools 57 = .ok (.ireturn, 1) := dk_172 (dk_at dksX4_pools_2 10 rfl rfl)
theorem dX4_pools_58 : decode cX4_pools 58 = .ok (.aload_n 0, 1) := dk_42 (dk_at dksX4_pools_2 11 rfl rfl)
theorem dX4_pools_59 : decode cX4_pools 59 = .ok (.getfield 7, 3) := dk_180 0 7 (dk_at dksX4_pools_2 12 rfl rfl)
theorem dX4_pools_62 : decode cX4_pools 62 = .ok (.aload_n 0, 1) := dk_42 (dk_at dksX4_pools_2 15 rfl rfl)
theorem dX4_pools_63 : decode cX4_pools 63 = .ok (.getfield 7, 3) := dk_180 0 7 (dk_at dksX4_pools_2 16 rfl rfl)
theorem dX4_pools_66 : decode cX4_pools 66 = .ok (.iload_n 1, 1) := dk_27 (dk_at dksX4_pools_2 19 rfl rfl)
theorem dX4_pools_67 : decode cX4_pools 67 = .ok (.iconst 0, 1) := dk_3 (dk_at dksX4_pools_2 20 rfl rfl)
theorem dX4_pools_68 : decode cX4_pools 68 = .ok (.invokestatic 72, 3) := dk_184 0 72 (dk_at dksX4_pools_2 21 rfl rfl)
theorem dX4_pools_71 : decode cX4_pools 71 = .ok (.iaload, 1) := dk_46 (dk_at dksX4_pools_3 0 rfl rfl)
theorem dX4_pools_72 : decode cX4_pools 72 = .ok (.iconst 3, 1) := dk_6 (dk_at dksX4_pools_3 1 rfl rfl)
theorem dX4_pools_73 : decode cX4_pools 73 = .ok (.invokestatic 37, 3) := dk_184 0 37 (dk_at dksX4_pools_3 2 rfl rfl)
theorem dX4_pools_76 : decode cX4_pools 76 = .ok (.dup2, 1) := dk_92 (dk_at dksX4_pools_3 5 rfl rfl)
theorem dX4_pools_77 : decode cX4_pools 77 = .ok (.iaload, 1) := dk_46 (dk_at dksX4_pools_3 6 rfl rfl)
theorem dX4_pools_78 : decode cX4_pools 78 = .ok (.iload_n 2, 1) := dk_28 (dk_at dksX4_pools_3 7 rfl rfl)
theorem dX4_pools_79 : decode cX4_pools 79 = .ok (.iadd, 1) := dk_96 (dk_at dksX4_pools_3 8 rfl rfl)
theorem dX4_pools_80 : decode cX4_pools 80 = .ok (.iastore, 1) := dk_79 (dk_at dksX4_pools_3 9 rfl rfl)
theorem dX4_pools_81 : decode cX4_pools 81 = .ok (.aload_n 0, 1) := dk_42 (dk_at dksX4_pools_3 10 rfl rfl)
theorem dX4_pools_82 : decode cX4_pools 82 = .ok (.getfield 7, 3) := dk_180 0 7 (dk_at dksX4_pools_3 11 rfl rfl)
theorem dX4_pools_85 : decode cX4_pools 85 = .ok (.iload_n 1, 1) := dk_27 (dk_at dksX4_pools_3 14 rfl rfl)
theorem dX4_pools_86 : decode cX4_pools 86 = .ok (.iconst 1, 1) := dk_4 (dk_at dksX4_pools_3 15 rfl rfl)
theorem dX4_pools_87 : decode cX4_pools 87 = .ok (.invokestatic 72, 3) := dk_184 0 72 (dk_at dksX4_pools_3 16 rfl rfl)
theorem dX4_pools_90 : decode cX4_pools 90 = .ok (.dup2, 1) := dk_92 (dk_at dksX4_pools_3 19 rfl rfl)
theorem dX4_pools_91 : decode cX4_pools 91 = .ok (.iaload, 1) := dk_46 (dk_at dksX4_pools_3 20 rfl rfl)
theorem dX4_pools_92 : decode cX4_pools 92 = .ok (.iload_n 2, 1) := dk_28 (dk_at dksX4_pools_3 21 rfl rfl)
theorem dX4_pools_93 : decode cX4_pools 93 = .ok (.isub, 1) := dk_100 (dk_at dksX4_pools_3 22 rfl rfl)
theorem dX4_pools_94 : decode cX4_pools 94 = .ok (.iastore, 1) := dk_79 (dk_at dksX4_pools_3 23 rfl rfl)
theorem dX4_pools_95 : decode cX4_pools 95 = .ok (.iload_n 3, 1) := dk_29 (dk_at dksX4_pools_4 0 rfl rfl)
theorem dX4_pools_96 : decode cX4_pools 96 = .ok (.iload_n 2, 1) := dk_28 (dk_at dksX4_pools_4 1 rfl rfl)
theorem dX4_pools_97 : decode cX4_pools 97 = .ok (.if_icmp .ne 8, 3) := dk_160 0 8 (dk_at dksX4_pools_4 2 rfl rfl)
theorem dX4_pools_100 : decode cX4_pools 100 = .ok (.aload_n 0, 1) := dk_42 (dk_at dksX4_pools_4 5 rfl rfl)
theorem dX4_pools_101 : decode cX4_pools 101 = .ok (.iload_n 1, 1) := dk_27 (dk_at dksX4_pools_4 6 rfl rfl)
theorem dX4_pools_102 : decode cX4_pools 102 = .ok (.invokevirtual 114, 3) := dk_182 0 114 (dk_at dksX4_pools_4 7 rfl rfl)
theorem dX4_pools_105 : decode cX4_pools 105 = .ok (.aload_n 0, 1) := dk_42 (dk_at dksX4_pools_4 10 rfl rfl)
theorem dX4_pools_106 : decode cX4_pools 106 = .ok (.invokevirtual 133, 3) := dk_182 0 133 (dk_at dksX4_pools_4 11 rfl rfl)
theorem dX4_pools_109 : decode cX4_pools 109 = .ok (.ireturn, 1) := dk_172 (dk_at dksX4_pools_4 14 rfl rfl)
abbrev cX4_pooled : ByteArray := prog_16_method_30_code
def yX4_pooled : MethodName := ⟨RX4, "pooled", "()I"⟩
def dkwX4_pooled_1 : List UInt8 := [132, 2, 1, 167, 255, 234, 27, 172]
abbrev dktX4_pooled_1 : List UInt8 := dkwX4_pooled_1 ++ []
def dkwX4_pooled_0 : List UInt8 := [3, 60, 3, 61, 28, 16, 6, 162, 0, 22, 27, 42, 180, 0, 7, 28, 6, 184, 0, 37, 46, 96, 60]
abbrev dktX4_pooled_0 : List UInt8 := dkwX4_pooled_0 ++ dktX4_pooled_1
theorem dksX4_pooled_0 : cX4_pooled.data.toList.drop 0 = dktX4_pooled_0 := by decide +kernel
theorem dksX4_pooled_1 : cX4_pooled.data.toList.drop 23 = dktX4_pooled_1 := dk_seg dksX4_pooled_0 23 rfl rfl
theorem dX4_pooled_0 : decode cX4_pooled 0 = .ok (.iconst 0, 1) := dk_3 (dk_at dksX4_pooled_0 0 rfl rfl)
theorem dX4_pooled_1 : decode cX4_pooled 1 = .ok (.istore_n 1, 1) := dk_60 (dk_at dksX4_pooled_0 1 rfl rfl)
theorem dX4_pooled_2 : decode cX4_pooled 2 = .ok (.iconst 0, 1) := dk_3 (dk_at dksX4_pooled_0 2 rfl rfl)
theorem dX4_pooled_3 : decode cX4_pooled 3 = .ok (.istore_n 2, 1) := dk_61 (dk_at dksX4_pooled_0 3 rfl rfl)
theorem dX4_pooled_4 : decode cX4_pooled 4 = .ok (.iload_n 2, 1) := dk_28 (dk_at dksX4_pooled_0 4 rfl rfl)
theorem dX4_pooled_5 : decode cX4_pooled 5 = .ok (.bipush 6, 2) := dk_16 6 (dk_at dksX4_pooled_0 5 rfl rfl)
theorem dX4_pooled_7 : decode cX4_pooled 7 = .ok (.if_icmp .ge 22, 3) := dk_162 0 22 (dk_at dksX4_pooled_0 7 rfl rfl)
theorem dX4_pooled_10 : decode cX4_pooled 10 = .ok (.iload_n 1, 1) := dk_27 (dk_at dksX4_pooled_0 10 rfl rfl)
theorem dX4_pooled_11 : decode cX4_pooled 11 = .ok (.aload_n 0, 1) := dk_42 (dk_at dksX4_pooled_0 11 rfl rfl)
theorem dX4_pooled_12 : decode cX4_pooled 12 = .ok (.getfield 7, 3) := dk_180 0 7 (dk_at dksX4_pooled_0 12 rfl rfl)
theorem dX4_pooled_15 : decode cX4_pooled 15 = .ok (.iload_n 2, 1) := dk_28 (dk_at dksX4_pooled_0 15 rfl rfl)
theorem dX4_pooled_16 : decode cX4_pooled 16 = .ok (.iconst 3, 1) := dk_6 (dk_at dksX4_pooled_0 16 rfl rfl)
theorem dX4_pooled_17 : decode cX4_pooled 17 = .ok (.invokestatic 37, 3) := dk_184 0 37 (dk_at dksX4_pooled_0 17 rfl rfl)
theorem dX4_pooled_20 : decode cX4_pooled 20 = .ok (.iaload, 1) := dk_46 (dk_at dksX4_pooled_0 20 rfl rfl)
theorem dX4_pooled_21 : decode cX4_pooled 21 = .ok (.iadd, 1) := dk_96 (dk_at dksX4_pooled_0 21 rfl rfl)
theorem dX4_pooled_22 : decode cX4_pooled 22 = .ok (.istore_n 1, 1) := dk_60 (dk_at dksX4_pooled_0 22 rfl rfl)
theorem dX4_pooled_23 : decode cX4_pooled 23 = .ok (.iinc 2 1, 3) := dk_132 2 1 (dk_at dksX4_pooled_1 0 rfl rfl)
theorem dX4_pooled_26 : decode cX4_pooled 26 = .ok (.goto (-22), 3) := dk_167 255 234 (dk_at dksX4_pooled_1 3 rfl rfl)
theorem dX4_pooled_29 : decode cX4_pooled 29 = .ok (.iload_n 1, 1) := dk_27 (dk_at dksX4_pooled_1 6 rfl rfl)
theorem dX4_pooled_30 : decode cX4_pooled 30 = .ok (.ireturn, 1) := dk_172 (dk_at dksX4_pooled_1 7 rfl rfl)
abbrev cX4_share : ByteArray := prog_16_method_37_code
def yX4_share : MethodName := ⟨RX4, "share", "()I"⟩
def dkwX4_share_0 : List UInt8 := [42, 182, 0, 96, 42, 42, 182, 0, 149, 182, 0, 102, 172]
abbrev dktX4_share_0 : List UInt8 := dkwX4_share_0 ++ []
theorem dksX4_share_0 : cX4_share.data.toList.drop 0 = dktX4_share_0 := by decide +kernel
theorem dX4_share_0 : decode cX4_share 0 = .ok (.aload_n 0, 1) := dk_42 (dk_at dksX4_share_0 0 rfl rfl)
theorem dX4_share_1 : decode cX4_share 1 = .ok (.invokevirtual 96, 3) := dk_182 0 96 (dk_at dksX4_share_0 1 rfl rfl)
theorem dX4_share_4 : decode cX4_share 4 = .ok (.aload_n 0, 1) := dk_42 (dk_at dksX4_share_0 4 rfl rfl)
theorem dX4_share_5 : decode cX4_share 5 = .ok (.aload_n 0, 1) := dk_42 (dk_at dksX4_share_0 5 rfl rfl)
theorem dX4_share_6 : decode cX4_share 6 = .ok (.invokevirtual 149, 3) := dk_182 0 149 (dk_at dksX4_share_0 6 rfl rfl)
theorem dX4_share_9 : decode cX4_share 9 = .ok (.invokevirtual 102, 3) := dk_182 0 102 (dk_at dksX4_share_0 9 rfl rfl)
theorem dX4_share_12 : decode cX4_share 12 = .ok (.ireturn, 1) := dk_172 (dk_at dksX4_share_0 12 rfl rfl)
abbrev cX4_shares : ByteArray := prog_16_method_36_code
def yX4_shares : MethodName := ⟨RX4, "shares", "()I"⟩
def dkwX4_shares_4 : List UInt8 := [184, 0, 37, 3, 79, 132, 2, 1, 167, 255, 200, 27, 172]
abbrev dktX4_shares_4 : List UInt8 := dkwX4_shares_4 ++ []
def dkwX4_shares_3 : List UInt8 := [180, 0, 7, 28, 5, 184, 0, 37, 92, 46, 42, 180, 0, 25, 28, 46, 96, 79, 42, 180, 0, 7, 28, 6]
abbrev dktX4_shares_3 : List UInt8 := dkwX4_shares_3 ++ dktX4_shares_4
def dkwX4_shares_2 : List UInt8 := [16, 6, 162, 0, 56, 27, 42, 180, 0, 25, 28, 46, 158, 0, 7, 4, 167, 0, 4, 3, 96, 60, 42]
abbrev dktX4_shares_2 : List UInt8 := dkwX4_shares_2 ++ dktX4_shares_3
def dkwX4_shares_1 : List UInt8 := [154, 0, 14, 42, 16, 12, 42, 182, 0, 133, 182, 0, 78, 172, 3, 60, 42, 182, 0, 146, 3, 61, 28]
abbrev dktX4_shares_1 : List UInt8 := dkwX4_shares_1 ++ dktX4_shares_2
def dkwX4_shares_0 : List UInt8 := [42, 182, 0, 133, 154, 0, 16, 42, 16, 11, 42, 180, 0, 7, 3, 46, 182, 0, 78, 172, 42, 182, 0, 143]
abbrev dktX4_shares_0 : List UInt8 := dkwX4_shares_0 ++ dktX4_shares_1
theorem dksX4_shares_0 : cX4_shares.data.toList.drop 0 = dktX4_shares_0 := by decide +kernel
theorem dksX4_shares_1 : cX4_shares.data.toList.drop 24 = dktX4_shares_1 := dk_seg dksX4_shares_0 24 rfl rfl
theorem dksX4_shares_2 : cX4_shares.data.toList.drop 47 = dktX4_shares_2 := dk_seg dksX4_shares_1 23 rfl rfl
theorem dksX4_shares_3 : cX4_shares.data.toList.drop 70 = dktX4_shares_3 := dk_seg dksX4_shares_2 23 rfl rfl
theorem dksX4_shares_4 : cX4_shares.data.toList.drop 94 = dktX4_shares_4 := dk_seg dksX4_shares_3 24 rfl rfl
theorem dX4_shares_0 : decode cX4_shares 0 = .ok (.aload_n 0, 1) := dk_42 (dk_at dksX4_shares_0 0 rfl rfl)
theorem dX4_shares_1 : decode cX4_shares 1 = .ok (.invokevirtual 133, 3) := dk_182 0 133 (dk_at dksX4_shares_0 1 rfl rfl)
theorem dX4_shares_4 : decode cX4_shares 4 = .ok (.ifCond .ne 16, 3) := dk_154 0 16 (dk_at dksX4_shares_0 4 rfl rfl)
theorem dX4_shares_7 : decode cX4_shares 7 = .ok (.aload_n 0, 1) := dk_42 (dk_at dksX4_shares_0 7 rfl rfl)
theorem dX4_shares_8 : decode cX4_shares 8 = .ok (.bipush 11, 2) := dk_16 11 (dk_at dksX4_shares_0 8 rfl rfl)
theorem dX4_shares_10 : decode cX4_shares 10 = .ok (.aload_n 0, 1) := dk_42 (dk_at dksX4_shares_0 10 rfl rfl)
theorem dX4_shares_11 : decode cX4_shares 11 = .ok (.getfield 7, 3) := dk_180 0 7 (dk_at dksX4_shares_0 11 rfl rfl)
theorem dX4_shares_14 : decode cX4_shares 14 = .ok (.iconst 0, 1) := dk_3 (dk_at dksX4_shares_0 14 rfl rfl)
theorem dX4_shares_15 : decode cX4_shares 15 = .ok (.iaload, 1) := dk_46 (dk_at dksX4_shares_0 15 rfl rfl)
theorem dX4_shares_16 : decode cX4_shares 16 = .ok (.invokevirtual 78, 3) := dk_182 0 78 (dk_at dksX4_shares_0 16 rfl rfl)
theorem dX4_shares_19 : decode cX4_shares 19 = .ok (.ireturn, 1) := dk_172 (dk_at dksX4_shares_0 19 rfl rfl)
theorem dX4_shares_20 : decode cX4_shares 20 = .ok (.aload_n 0, 1) := dk_42 (dk_at dksX4_shares_0 20 rfl rfl)
theorem dX4_shares_21 : decode cX4_shares 21 = .ok (.invokevirtual 143, 3) := dk_182 0 143 (dk_at dksX4_shares_0 21 rfl rfl)
theorem dX4_shares_24 : decode cX4_shares 24 = .ok (.ifCond .ne 14, 3) := dk_154 0 14 (dk_at dksX4_shares_1 0 rfl rfl)
theorem dX4_shares_27 : decode cX4_shares 27 = .ok (.aload_n 0, 1) := dk_42 (dk_at dksX4_shares_1 3 rfl rfl)
theorem dX4_shares_28 : decode cX4_shares 28 = .ok (.bipush 12, 2) := dk_16 12 (dk_at dksX4_shares_1 4 rfl rfl)
theorem dX4_shares_30 : decode cX4_shares 30 = .ok (.aload_n 0, 1) := dk_42 (dk_at dksX4_shares_1 6 rfl rfl)
theorem dX4_shares_31 : decode cX4_shares 31 = .ok (.invokevirtual 133, 3) := dk_182 0 133 (dk_at dksX4_shares_1 7 rfl rfl)
theorem dX4_shares_34 : decode cX4_shares 34 = .ok (.invokevirtual 78, 3) := dk_182 0 78 (dk_at dksX4_shares_1 10 rfl rfl)
theorem dX4_shares_37 : decode cX4_shares 37 = .ok (.ireturn, 1) := dk_172 (dk_at dksX4_shares_1 13 rfl rfl)
theorem dX4_shares_38 : decode cX4_shares 38 = .ok (.iconst 0, 1) := dk_3 (dk_at dksX4_shares_1 14 rfl rfl)
theorem dX4_shares_39 : decode cX4_shares 39 = .ok (.istore_n 1, 1) := dk_60 (dk_at dksX4_shares_1 15 rfl rfl)
theorem dX4_shares_40 : decode cX4_shares 40 = .ok (.aload_n 0, 1) := dk_42 (dk_at dksX4_shares_1 16 rfl rfl)
theorem dX4_shares_41 : decode cX4_shares 41 = .ok (.invokevirtual 146, 3) := dk_182 0 146 (dk_at dksX4_shares_1 17 rfl rfl)
theorem dX4_shares_44 : decode cX4_shares 44 = .ok (.iconst 0, 1) := dk_3 (dk_at dksX4_shares_1 20 rfl rfl)
theorem dX4_shares_45 : decode cX4_shares 45 = .ok (.istore_n 2, 1) := dk_61 (dk_at dksX4_shares_1 21 rfl rfl)
theorem dX4_shares_46 : decode cX4_shares 46 = .ok (.iload_n 2, 1) := dk_28 (dk_at dksX4_shares_1 22 rfl rfl)
theorem dX4_shares_47 : decode cX4_shares 47 = .ok (.bipush 6, 2) := dk_16 6 (dk_at dksX4_shares_2 0 rfl rfl)
theorem dX4_shares_49 : decode cX4_shares 49 = .ok (.if_icmp .ge 56, 3) := dk_162 0 56 (dk_at dksX4_shares_2 2 rfl rfl)
theorem dX4_shares_52 : decode cX4_shares 52 = .ok (.iload_n 1, 1) := dk_27 (dk_at dksX4_shares_2 5 rfl rfl)
theorem dX4_shares_53 : decode cX4_shares 53 = .ok (.aload_n 0, 1) := dk_42 (dk_at dksX4_shares_2 6 rfl rfl)
theorem dX4_shares_54 : decode cX4_shares 54 = .ok (.getfield 25, 3) := dk_180 0 25 (dk_at dksX4_shares_2 7 rfl rfl)
theorem dX4_shares_57 : decode cX4_shares 57 = .ok (.iload_n 2, 1) := dk_28 (dk_at dksX4_shares_2 10 rfl rfl)
theorem dX4_shares_58 : decode cX4_shares 58 = .ok (.iaload, 1) := dk_46 (dk_at dksX4_shares_2 11 rfl rfl)
theorem dX4_shares_59 : decode cX4_shares 59 = .ok (.ifCond .le 7, 3) := dk_158 0 7 (dk_at dksX4_shares_2 12 rfl rfl)
theorem dX4_shares_62 : decode cX4_shares 62 = .ok (.iconst 1, 1) := dk_4 (dk_at dksX4_shares_2 15 rfl rfl)
theorem dX4_shares_63 : decode cX4_shares 63 = .ok (.goto 4, 3) := dk_167 0 4 (dk_at dksX4_shares_2 16 rfl rfl)
theorem dX4_shares_66 : decode cX4_shares 66 = .ok (.iconst 0, 1) := dk_3 (dk_at dksX4_shares_2 19 rfl rfl)
theorem dX4_shares_67 : decode cX4_shares 67 = .ok (.iadd, 1) := dk_96 (dk_at dksX4_shares_2 20 rfl rfl)
theorem dX4_shares_68 : decode cX4_shares 68 = .ok (.istore_n 1, 1) := dk_60 (dk_at dksX4_shares_2 21 rfl rfl)
theorem dX4_shares_69 : decode cX4_shares 69 = .ok (.aload_n 0, 1) := dk_42 (dk_at dksX4_shares_2 22 rfl rfl)
theorem dX4_shares_70 : decode cX4_shares 70 = .ok (.getfield 7, 3) := dk_180 0 7 (dk_at dksX4_shares_3 0 rfl rfl)
theorem dX4_shares_73 : decode cX4_shares 73 = .ok (.iload_n 2, 1) := dk_28 (dk_at dksX4_shares_3 3 rfl rfl)
theorem dX4_shares_74 : decode cX4_shares 74 = .ok (.iconst 2, 1) := dk_5 (dk_at dksX4_shares_3 4 rfl rfl)
theorem dX4_shares_75 : decode cX4_shares 75 = .ok (.invokestatic 37, 3) := dk_184 0 37 (dk_at dksX4_shares_3 5 rfl rfl)
theorem dX4_shares_78 : decode cX4_shares 78 = .ok (.dup2, 1) := dk_92 (dk_at dksX4_shares_3 8 rfl rfl)
theorem dX4_shares_79 : decode cX4_shares 79 = .ok (.iaload, 1) := dk_46 (dk_at dksX4_shares_3 9 rfl rfl)
theorem dX4_shares_80 : decode cX4_shares 80 = .ok (.aload_n 0, 1) := dk_42 (dk_at dksX4_shares_3 10 rfl rfl)
theorem dX4_shares_81 : decode cX4_shares 81 = .ok (.getfield 25, 3) := dk_180 0 25 (dk_at dksX4_shares_3 11 rfl rfl)
theorem dX4_shares_84 : decode cX4_shares 84 = .ok (.iload_n 2, 1) := dk_28 (dk_at dksX4_shares_3 14 rfl rfl)
theorem dX4_shares_85 : decode cX4_shares 85 = .ok (.iaload, 1) := dk_46 (dk_at dksX4_shares_3 15 rfl rfl)
theorem dX4_shares_86 : decode cX4_shares 86 = .ok (.iadd, 1) := dk_96 (dk_at dksX4_shares_3 16 rfl rfl)
theorem dX4_shares_87 : decode cX4_shares 87 = .ok (.iastore, 1) := dk_79 (dk_at dksX4_shares_3 17 rfl rfl)
theorem dX4_shares_88 : decode cX4_shares 88 = .ok (.aload_n 0, 1) := dk_42 (dk_at dksX4_shares_3 18 rfl rfl)
theorem dX4_shares_89 : decode cX4_shares 89 = .ok (.getfield 7, 3) := dk_180 0 7 (dk_at dksX4_shares_3 19 rfl rfl)
theorem dX4_shares_92 : decode cX4_shares 92 = .ok (.iload_n 2, 1) := dk_28 (dk_at dksX4_shares_3 22 rfl rfl)
theorem dX4_shares_93 : decode cX4_shares 93 = .ok (.iconst 3, 1) := dk_6 (dk_at dksX4_shares_3 23 rfl rfl)
theorem dX4_shares_94 : decode cX4_shares 94 = .ok (.invokestatic 37, 3) := dk_184 0 37 (dk_at dksX4_shares_4 0 rfl rfl)
theorem dX4_shares_97 : decode cX4_shares 97 = .ok (.iconst 0, 1) := dk_3 (dk_at dksX4_shares_4 3 rfl rfl)
theorem dX4_shares_98 : decode cX4_shares 98 = .ok (.iastore, 1) := dk_79 (dk_at dksX4_shares_4 4 rfl rfl)
theorem dX4_shares_99 : decode cX4_shares 99 = .ok (.iinc 2 1, 3) := dk_132 2 1 (dk_at dksX4_shares_4 5 rfl rfl)
theorem dX4_shares_102 : decode cX4_shares 102 = .ok (.goto (-56), 3) := dk_167 255 200 (dk_at dksX4_shares_4 8 rfl rfl)
theorem dX4_shares_105 : decode cX4_shares 105 = .ok (.iload_n 1, 1) := dk_27 (dk_at dksX4_shares_4 11 rfl rfl)
theorem dX4_shares_106 : decode cX4_shares 106 = .ok (.ireturn, 1) := dk_172 (dk_at dksX4_shares_4 12 rfl rfl)
abbrev cX4_claims : ByteArray := prog_16_method_34_code
def yX4_claims : MethodName := ⟨RX4, "claims", "()I"⟩
def dkwX4_claims_1 : List UInt8 := [27, 172]
abbrev dktX4_claims_1 : List UInt8 := dkwX4_claims_1 ++ []
def dkwX4_claims_0 : List UInt8 := [3, 60, 3, 61, 28, 16, 6, 162, 0, 17, 27, 42, 28, 182, 0, 140, 96, 60, 132, 2, 1, 167, 255, 239]
abbrev dktX4_claims_0 : List UInt8 := dkwX4_claims_0 ++ dktX4_claims_1
theorem dksX4_claims_0 : cX4_claims.data.toList.drop 0 = dktX4_claims_0 := by decide +kernel
theorem dksX4_claims_1 : cX4_claims.data.toList.drop 24 = dktX4_claims_1 := dk_seg dksX4_claims_0 24 rfl rfl
theorem dX4_claims_0 : decode cX4_claims 0 = .ok (.iconst 0, 1) := dk_3 (dk_at dksX4_claims_0 0 rfl rfl)
theorem dX4_claims_1 : decode cX4_claims 1 = .ok (.istore_n 1, 1) := dk_60 (dk_at dksX4_claims_0 1 rfl rfl)
theorem dX4_claims_2 : decode cX4_claims 2 = .ok (.iconst 0, 1) := dk_3 (dk_at dksX4_claims_0 2 rfl rfl)
theorem dX4_claims_3 : decode cX4_claims 3 = .ok (.istore_n 2, 1) := dk_61 (dk_at dksX4_claims_0 3 rfl rfl)
theorem dX4_claims_4 : decode cX4_claims 4 = .ok (.iload_n 2, 1) := dk_28 (dk_at dksX4_claims_0 4 rfl rfl)
theorem dX4_claims_5 : decode cX4_claims 5 = .ok (.bipush 6, 2) := dk_16 6 (dk_at dksX4_claims_0 5 rfl rfl)
theorem dX4_claims_7 : decode cX4_claims 7 = .ok (.if_icmp .ge 17, 3) := dk_162 0 17 (dk_at dksX4_claims_0 7 rfl rfl)
theorem dX4_claims_10 : decode cX4_claims 10 = .ok (.iload_n 1, 1) := dk_27 (dk_at dksX4_claims_0 10 rfl rfl)
theorem dX4_claims_11 : decode cX4_claims 11 = .ok (.aload_n 0, 1) := dk_42 (dk_at dksX4_claims_0 11 rfl rfl)
theorem dX4_claims_12 : decode cX4_claims 12 = .ok (.iload_n 2, 1) := dk_28 (dk_at dksX4_claims_0 12 rfl rfl)
theorem dX4_claims_13 : decode cX4_claims 13 = .ok (.invokevirtual 140, 3) := dk_182 0 140 (dk_at dksX4_claims_0 13 rfl rfl)
theorem dX4_claims_16 : decode cX4_claims 16 = .ok (.iadd, 1) := dk_96 (dk_at dksX4_claims_0 16 rfl rfl)
theorem dX4_claims_17 : decode cX4_claims 17 = .ok (.istore_n 1, 1) := dk_60 (dk_at dksX4_claims_0 17 rfl rfl)
theorem dX4_claims_18 : decode cX4_claims 18 = .ok (.iinc 2 1, 3) := dk_132 2 1 (dk_at dksX4_claims_0 18 rfl rfl)
theorem dX4_claims_21 : decode cX4_claims 21 = .ok (.goto (-17), 3) := dk_167 255 239 (dk_at dksX4_claims_0 21 rfl rfl)
theorem dX4_claims_24 : decode cX4_claims 24 = .ok (.iload_n 1, 1) := dk_27 (dk_at dksX4_claims_1 0 rfl rfl)
theorem dX4_claims_25 : decode cX4_claims 25 = .ok (.ireturn, 1) := dk_172 (dk_at dksX4_claims_1 1 rfl rfl)
abbrev cX4_claim : ByteArray := prog_16_method_33_code
def yX4_claim : MethodName := ⟨RX4, "claim", "(I)I"⟩
def dkwX4_claim_1 : List UInt8 := [167, 0, 4, 3, 172]
abbrev dktX4_claim_1 : List UInt8 := dkwX4_claim_1 ++ []
def dkwX4_claim_0 : List UInt8 := [42, 27, 182, 0, 89, 153, 0, 22, 42, 180, 0, 7, 27, 6, 184, 0, 37, 46, 42, 27, 182, 0, 121, 96]
abbrev dktX4_claim_0 : List UInt8 := dkwX4_claim_0 ++ dktX4_claim_1
theorem dksX4_claim_0 : cX4_claim.data.toList.drop 0 = dktX4_claim_0 := by decide +kernel
theorem dksX4_claim_1 : cX4_claim.data.toList.drop 24 = dktX4_claim_1 := dk_seg dksX4_claim_0 24 rfl rfl
theorem dX4_claim_0 : decode cX4_claim 0 = .ok (.aload_n 0, 1) := dk_42 (dk_at dksX4_claim_0 0 rfl rfl)
theorem dX4_claim_1 : decode cX4_claim 1 = .ok (.iload_n 1, 1) := dk_27 (dk_at dksX4_claim_0 1 rfl rfl)
theorem dX4_claim_2 : decode cX4_claim 2 = .ok (.invokevirtual 89, 3) := dk_182 0 89 (dk_at dksX4_claim_0 2 rfl rfl)
theorem dX4_claim_5 : decode cX4_claim 5 = .ok (.ifCond .eq 22, 3) := dk_153 0 22 (dk_at dksX4_claim_0 5 rfl rfl)
theorem dX4_claim_8 : decode cX4_claim 8 = .ok (.aload_n 0, 1) := dk_42 (dk_at dksX4_claim_0 8 rfl rfl)
theorem dX4_claim_9 : decode cX4_claim 9 = .ok (.getfield 7, 3) := dk_180 0 7 (dk_at dksX4_claim_0 9 rfl rfl)
theorem dX4_claim_12 : decode cX4_claim 12 = .ok (.iload_n 1, 1) := dk_27 (dk_at dksX4_claim_0 12 rfl rfl)
theorem dX4_claim_13 : decode cX4_claim 13 = .ok (.iconst 3, 1) := dk_6 (dk_at dksX4_claim_0 13 rfl rfl)
theorem dX4_claim_14 : decode cX4_claim 14 = .ok (.invokestatic 37, 3) := dk_184 0 37 (dk_at dksX4_claim_0 14 rfl rfl)
theorem dX4_claim_17 : decode cX4_claim 17 = .ok (.iaload, 1) := dk_46 (dk_at dksX4_claim_0 17 rfl rfl)
theorem dX4_claim_18 : decode cX4_claim 18 = .ok (.aload_n 0, 1) := dk_42 (dk_at dksX4_claim_0 18 rfl rfl)
theorem dX4_claim_19 : decode cX4_claim 19 = .ok (.iload_n 1, 1) := dk_27 (dk_at dksX4_claim_0 19 rfl rfl)
theorem dX4_claim_20 : decode cX4_claim 20 = .ok (.invokevirtual 121, 3) := dk_182 0 121 (dk_at dksX4_claim_0 20 rfl rfl)
theorem dX4_claim_23 : decode cX4_claim 23 = .ok (.iadd, 1) := dk_96 (dk_at dksX4_claim_0 23 rfl rfl)
theorem dX4_claim_24 : decode cX4_claim 24 = .ok (.goto 4, 3) := dk_167 0 4 (dk_at dksX4_claim_1 0 rfl rfl)
theorem dX4_claim_27 : decode cX4_claim 27 = .ok (.iconst 0, 1) := dk_3 (dk_at dksX4_claim_1 3 rfl rfl)
theorem dX4_claim_28 : decode cX4_claim 28 = .ok (.ireturn, 1) := dk_172 (dk_at dksX4_claim_1 4 rfl rfl)
abbrev cX4_finds : ByteArray := prog_16_method_35_code
def yX4_finds : MethodName := ⟨RX4, "finds", "()V"⟩
def dkwX4_finds_6 : List UInt8 := [21, 4, 92, 46, 4, 96, 79, 42, 180, 0, 28, 21, 4, 2, 79, 132, 3, 255, 167, 255, 186, 177]
abbrev dktX4_finds_6 : List UInt8 := dkwX4_finds_6 ++ []
def dkwX4_finds_5 : List UInt8 := [180, 0, 28, 21, 4, 46, 164, 0, 7, 21, 5, 54, 4, 132, 5, 1, 167, 255, 225, 42, 180, 0, 25]
abbrev dktX4_finds_5 : List UInt8 := dkwX4_finds_5 ++ dktX4_finds_6
def dkwX4_finds_4 : List UInt8 := [158, 0, 68, 3, 54, 4, 4, 54, 5, 21, 5, 16, 6, 162, 0, 30, 42, 180, 0, 28, 21, 5, 46, 42]
abbrev dktX4_finds_4 : List UInt8 := dkwX4_finds_4 ++ dktX4_finds_5
def dkwX4_finds_3 : List UInt8 := [79, 29, 42, 180, 0, 25, 21, 4, 46, 100, 62, 132, 4, 1, 167, 255, 186, 29, 158, 0, 72, 28]
abbrev dktX4_finds_3 : List UInt8 := dkwX4_finds_3 ++ dktX4_finds_4
def dkwX4_finds_2 : List UInt8 := [42, 180, 0, 28, 21, 4, 28, 154, 0, 7, 3, 167, 0, 13, 27, 42, 21, 4, 182, 0, 140, 104, 28, 112]
abbrev dktX4_finds_2 : List UInt8 := dkwX4_finds_2 ++ dktX4_finds_3
def dkwX4_finds_1 : List UInt8 := [180, 0, 25, 21, 4, 28, 154, 0, 7, 3, 167, 0, 13, 27, 42, 21, 4, 182, 0, 140, 104, 28, 108, 79]
abbrev dktX4_finds_1 : List UInt8 := dkwX4_finds_1 ++ dktX4_finds_2
def dkwX4_finds_0 : List UInt8 := [42, 182, 0, 133, 60, 42, 182, 0, 143, 61, 27, 62, 3, 54, 4, 21, 4, 16, 6, 162, 0, 69, 42]
abbrev dktX4_finds_0 : List UInt8 := dkwX4_finds_0 ++ dktX4_finds_1
theorem dksX4_finds_0 : cX4_finds.data.toList.drop 0 = dktX4_finds_0 := by decide +kernel
theorem dksX4_finds_1 : cX4_finds.data.toList.drop 23 = dktX4_finds_1 := dk_seg dksX4_finds_0 23 rfl rfl
theorem dksX4_finds_2 : cX4_finds.data.toList.drop 47 = dktX4_finds_2 := dk_seg dksX4_finds_1 24 rfl rfl
theorem dksX4_finds_3 : cX4_finds.data.toList.drop 71 = dktX4_finds_3 := dk_seg dksX4_finds_2 24 rfl rfl
theorem dksX4_finds_4 : cX4_finds.data.toList.drop 93 = dktX4_finds_4 := dk_seg dksX4_finds_3 22 rfl rfl
theorem dksX4_finds_5 : cX4_finds.data.toList.drop 117 = dktX4_finds_5 := dk_seg dksX4_finds_4 24 rfl rfl
theorem dksX4_finds_6 : cX4_finds.data.toList.drop 140 = dktX4_finds_6 := dk_seg dksX4_finds_5 23 rfl rfl
theorem dX4_finds_0 : decode cX4_finds 0 = .ok (.aload_n 0, 1) := dk_42 (dk_at dksX4_finds_0 0 rfl rfl)
theorem dX4_finds_1 : decode cX4_finds 1 = .ok (.invokevirtual 133, 3) := dk_182 0 133 (dk_at dksX4_finds_0 1 rfl rfl)
theorem dX4_finds_4 : decode cX4_finds 4 = .ok (.istore_n 1, 1) := dk_60 (dk_at dksX4_finds_0 4 rfl rfl)
theorem dX4_finds_5 : decode cX4_finds 5 = .ok (.aload_n 0, 1) := dk_42 (dk_at dksX4_finds_0 5 rfl rfl)
theorem dX4_finds_6 : decode cX4_finds 6 = .ok (.invokevirtual 143, 3) := dk_182 0 143 (dk_at dksX4_finds_0 6 rfl rfl)
theorem dX4_finds_9 : decode cX4_finds 9 = .ok (.istore_n 2, 1) := dk_61 (dk_at dksX4_finds_0 9 rfl rfl)
theorem dX4_finds_10 : decode cX4_finds 10 = .ok (.iload_n 1, 1) := dk_27 (dk_at dksX4_finds_0 10 rfl rfl)
theorem dX4_finds_11 : decode cX4_finds 11 = .ok (.istore_n 3, 1) := dk_62 (dk_at dksX4_finds_0 11 rfl rfl)
theorem dX4_finds_12 : decode cX4_finds 12 = .ok (.iconst 0, 1) := dk_3 (dk_at dksX4_finds_0 12 rfl rfl)
theorem dX4_finds_13 : decode cX4_finds 13 = .ok (.istore 4, 2) := dk_54 4 (dk_at dksX4_finds_0 13 rfl rfl)
theorem dX4_finds_15 : decode cX4_finds 15 = .ok (.iload 4, 2) := dk_21 4 (dk_at dksX4_finds_0 15 rfl rfl)
theorem dX4_finds_17 : decode cX4_finds 17 = .ok (.bipush 6, 2) := dk_16 6 (dk_at dksX4_finds_0 17 rfl rfl)
theorem dX4_finds_19 : decode cX4_finds 19 = .ok (.if_icmp .ge 69, 3) := dk_162 0 69 (dk_at dksX4_finds_0 19 rfl rfl)
theorem dX4_finds_22 : decode cX4_finds 22 = .ok (.aload_n 0, 1) := dk_42 (dk_at dksX4_finds_0 22 rfl rfl)
theorem dX4_finds_23 : decode cX4_finds 23 = .ok (.getfield 25, 3) := dk_180 0 25 (dk_at dksX4_finds_1 0 rfl rfl)
theorem dX4_finds_26 : decode cX4_finds 26 = .ok (.iload 4, 2) := dk_21 4 (dk_at dksX4_finds_1 3 rfl rfl)
theorem dX4_finds_28 : decode cX4_finds 28 = .ok (.iload_n 2, 1) := dk_28 (dk_at dksX4_finds_1 5 rfl rfl)
theorem dX4_finds_29 : decode cX4_finds 29 = .ok (.ifCond .ne 7, 3) := dk_154 0 7 (dk_at dksX4_finds_1 6 rfl rfl)
theorem dX4_finds_32 : decode cX4_finds 32 = .ok (.iconst 0, 1) := dk_3 (dk_at dksX4_finds_1 9 rfl rfl)
theorem dX4_finds_33 : decode cX4_finds 33 = .ok (.goto 13, 3) := dk_167 0 13 (dk_at dksX4_finds_1 10 rfl rfl)
theorem dX4_finds_36 : decode cX4_finds 36 = .ok (.iload_n 1, 1) := dk_27 (dk_at dksX4_finds_1 13 rfl rfl)
theorem dX4_finds_37 : decode cX4_finds 37 = .ok (.aload_n 0, 1) := dk_42 (dk_at dksX4_finds_1 14 rfl rfl)
theorem dX4_finds_38 : decode cX4_finds 38 = .ok (.iload 4, 2) := dk_21 4 (dk_at dksX4_finds_1 15 rfl rfl)
theorem dX4_finds_40 : decode cX4_finds 40 = .ok (.invokevirtual 140, 3) := dk_182 0 140 (dk_at dksX4_finds_1 17 rfl rfl)
theorem dX4_finds_43 : decode cX4_finds 43 = .ok (.imul, 1) := dk_104 (dk_at dksX4_finds_1 20 rfl rfl)
theorem dX4_finds_44 : decode cX4_finds 44 = .ok (.iload_n 2, 1) := dk_28 (dk_at dksX4_finds_1 21 rfl rfl)
theorem dX4_finds_45 : decode cX4_finds 45 = .ok (.idiv, 1) := dk_108 (dk_at dksX4_finds_1 22 rfl rfl)
theorem dX4_finds_46 : decode cX4_finds 46 = .ok (.iastore, 1) := dk_79 (dk_at dksX4_finds_1 23 rfl rfl)
theorem dX4_finds_47 : decode cX4_finds 47 = .ok (.aload_n 0, 1) := dk_42 (dk_at dksX4_finds_2 0 rfl rfl)
theorem dX4_finds_48 : decode cX4_finds 48 = .ok (.getfield 28, 3) := dk_180 0 28 (dk_at dksX4_finds_2 1 rfl rfl)
theorem dX4_finds_51 : decode cX4_finds 51 = .ok (.iload 4, 2) := dk_21 4 (dk_at dksX4_finds_2 4 rfl rfl)
theorem dX4_finds_53 : decode cX4_finds 53 = .ok (.iload_n 2, 1) := dk_28 (dk_at dksX4_finds_2 6 rfl rfl)
theorem dX4_finds_54 : decode cX4_finds 54 = .ok (.ifCond .ne 7, 3) := dk_154 0 7 (dk_at dksX4_finds_2 7 rfl rfl)
theorem dX4_finds_57 : decode cX4_finds 57 = .ok (.iconst 0, 1) := dk_3 (dk_at dksX4_finds_2 10 rfl rfl)
theorem dX4_finds_58 : decode cX4_finds 58 = .ok (.goto 13, 3) := dk_167 0 13 (dk_at dksX4_finds_2 11 rfl rfl)
theorem dX4_finds_61 : decode cX4_finds 61 = .ok (.iload_n 1, 1) := dk_27 (dk_at dksX4_finds_2 14 rfl rfl)
theorem dX4_finds_62 : decode cX4_finds 62 = .ok (.aload_n 0, 1) := dk_42 (dk_at dksX4_finds_2 15 rfl rfl)
theorem dX4_finds_63 : decode cX4_finds 63 = .ok (.iload 4, 2) := dk_21 4 (dk_at dksX4_finds_2 16 rfl rfl)
theorem dX4_finds_65 : decode cX4_finds 65 = .ok (.invokevirtual 140, 3) := dk_182 0 140 (dk_at dksX4_finds_2 18 rfl rfl)
theorem dX4_finds_68 : decode cX4_finds 68 = .ok (.imul, 1) := dk_104 (dk_at dksX4_finds_2 21 rfl rfl)
theorem dX4_finds_69 : decode cX4_finds 69 = .ok (.iload_n 2, 1) := dk_28 (dk_at dksX4_finds_2 22 rfl rfl)
theorem dX4_finds_70 : decode cX4_finds 70 = .ok (.irem, 1) := dk_112 (dk_at dksX4_finds_2 23 rfl rfl)
theorem dX4_finds_71 : decode cX4_finds 71 = .ok (.iastore, 1) := dk_79 (dk_at dksX4_finds_3 0 rfl rfl)
theorem dX4_finds_72 : decode cX4_finds 72 = .ok (.iload_n 3, 1) := dk_29 (dk_at dksX4_finds_3 1 rfl rfl)
theorem dX4_finds_73 : decode cX4_finds 73 = .ok (.aload_n 0, 1) := dk_42 (dk_at dksX4_finds_3 2 rfl rfl)
theorem dX4_finds_74 : decode cX4_finds 74 = .ok (.getfield 25, 3) := dk_180 0 25 (dk_at dksX4_finds_3 3 rfl rfl)
theorem dX4_finds_77 : decode cX4_finds 77 = .ok (.iload 4, 2) := dk_21 4 (dk_at dksX4_finds_3 6 rfl rfl)
theorem dX4_finds_79 : decode cX4_finds 79 = .ok (.iaload, 1) := dk_46 (dk_at dksX4_finds_3 8 rfl rfl)
theorem dX4_finds_80 : decode cX4_finds 80 = .ok (.isub, 1) := dk_100 (dk_at dksX4_finds_3 9 rfl rfl)
theorem dX4_finds_81 : decode cX4_finds 81 = .ok (.istore_n 3, 1) := dk_62 (dk_at dksX4_finds_3 10 rfl rfl)
theorem dX4_finds_82 : decode cX4_finds 82 = .ok (.iinc 4 1, 3) := dk_132 4 1 (dk_at dksX4_finds_3 11 rfl rfl)
theorem dX4_finds_85 : decode cX4_finds 85 = .ok (.goto (-70), 3) := dk_167 255 186 (dk_at dksX4_finds_3 14 rfl rfl)
theorem dX4_finds_88 : decode cX4_finds 88 = .ok (.iload_n 3, 1) := dk_29 (dk_at dksX4_finds_3 17 rfl rfl)
theorem dX4_finds_89 : decode cX4_finds 89 = .ok (.ifCond .le 72, 3) := dk_158 0 72 (dk_at dksX4_finds_3 18 rfl rfl)
theorem dX4_finds_92 : decode cX4_finds 92 = .ok (.iload_n 2, 1) := dk_28 (dk_at dksX4_finds_3 21 rfl rfl)
theorem dX4_finds_93 : decode cX4_finds 93 = .ok (.ifCond .le 68, 3) := dk_158 0 68 (dk_at dksX4_finds_4 0 rfl rfl)
theorem dX4_finds_96 : decode cX4_finds 96 = .ok (.iconst 0, 1) := dk_3 (dk_at dksX4_finds_4 3 rfl rfl)
theorem dX4_finds_97 : decode cX4_finds 97 = .ok (.istore 4, 2) := dk_54 4 (dk_at dksX4_finds_4 4 rfl rfl)
theorem dX4_finds_99 : decode cX4_finds 99 = .ok (.iconst 1, 1) := dk_4 (dk_at dksX4_finds_4 6 rfl rfl)
theorem dX4_finds_100 : decode cX4_finds 100 = .ok (.istore 5, 2) := dk_54 5 (dk_at dksX4_finds_4 7 rfl rfl)
theorem dX4_finds_102 : decode cX4_finds 102 = .ok (.iload 5, 2) := dk_21 5 (dk_at dksX4_finds_4 9 rfl rfl)
theorem dX4_finds_104 : decode cX4_finds 104 = .ok (.bipush 6, 2) := dk_16 6 (dk_at dksX4_finds_4 11 rfl rfl)
theorem dX4_finds_106 : decode cX4_finds 106 = .ok (.if_icmp .ge 30, 3) := dk_162 0 30 (dk_at dksX4_finds_4 13 rfl rfl)
theorem dX4_finds_109 : decode cX4_finds 109 = .ok (.aload_n 0, 1) := dk_42 (dk_at dksX4_finds_4 16 rfl rfl)
theorem dX4_finds_110 : decode cX4_finds 110 = .ok (.getfield 28, 3) := dk_180 0 28 (dk_at dksX4_finds_4 17 rfl rfl)
theorem dX4_finds_113 : decode cX4_finds 113 = .ok (.iload 5, 2) := dk_21 5 (dk_at dksX4_finds_4 20 rfl rfl)
theorem dX4_finds_115 : decode cX4_finds 115 = .ok (.iaload, 1) := dk_46 (dk_at dksX4_finds_4 22 rfl rfl)
theorem dX4_finds_116 : decode cX4_finds 116 = .ok (.aload_n 0, 1) := dk_42 (dk_at dksX4_finds_4 23 rfl rfl)
theorem dX4_finds_117 : decode cX4_finds 117 = .ok (.getfield 28, 3) := dk_180 0 28 (dk_at dksX4_finds_5 0 rfl rfl)
theorem dX4_finds_120 : decode cX4_finds 120 = .ok (.iload 4, 2) := dk_21 4 (dk_at dksX4_finds_5 3 rfl rfl)
theorem dX4_finds_122 : decode cX4_finds 122 = .ok (.iaload, 1) := dk_46 (dk_at dksX4_finds_5 5 rfl rfl)
theorem dX4_finds_123 : decode cX4_finds 123 = .ok (.if_icmp .le 7, 3) := dk_164 0 7 (dk_at dksX4_finds_5 6 rfl rfl)
theorem dX4_finds_126 : decode cX4_finds 126 = .ok (.iload 5, 2) := dk_21 5 (dk_at dksX4_finds_5 9 rfl rfl)
theorem dX4_finds_128 : decode cX4_finds 128 = .ok (.istore 4, 2) := dk_54 4 (dk_at dksX4_finds_5 11 rfl rfl)
theorem dX4_finds_130 : decode cX4_finds 130 = .ok (.iinc 5 1, 3) := dk_132 5 1 (dk_at dksX4_finds_5 13 rfl rfl)
theorem dX4_finds_133 : decode cX4_finds 133 = .ok (.goto (-31), 3) := dk_167 255 225 (dk_at dksX4_finds_5 16 rfl rfl)
theorem dX4_finds_136 : decode cX4_finds 136 = .ok (.aload_n 0, 1) := dk_42 (dk_at dksX4_finds_5 19 rfl rfl)
theorem dX4_finds_137 : decode cX4_finds 137 = .ok (.getfield 25, 3) := dk_180 0 25 (dk_at dksX4_finds_5 20 rfl rfl)
theorem dX4_finds_140 : decode cX4_finds 140 = .ok (.iload 4, 2) := dk_21 4 (dk_at dksX4_finds_6 0 rfl rfl)
theorem dX4_finds_142 : decode cX4_finds 142 = .ok (.dup2, 1) := dk_92 (dk_at dksX4_finds_6 2 rfl rfl)
theorem dX4_finds_143 : decode cX4_finds 143 = .ok (.iaload, 1) := dk_46 (dk_at dksX4_finds_6 3 rfl rfl)
theorem dX4_finds_144 : decode cX4_finds 144 = .ok (.iconst 1, 1) := dk_4 (dk_at dksX4_finds_6 4 rfl rfl)
theorem dX4_finds_145 : decode cX4_finds 145 = .ok (.iadd, 1) := dk_96 (dk_at dksX4_finds_6 5 rfl rfl)
theorem dX4_finds_146 : decode cX4_finds 146 = .ok (.iastore, 1) := dk_79 (dk_at dksX4_finds_6 6 rfl rfl)
theorem dX4_finds_147 : decode cX4_finds 147 = .ok (.aload_n 0, 1) := dk_42 (dk_at dksX4_finds_6 7 rfl rfl)
theorem dX4_finds_148 : decode cX4_finds 148 = .ok (.getfield 28, 3) := dk_180 0 28 (dk_at dksX4_finds_6 8 rfl rfl)
theorem dX4_finds_151 : decode cX4_finds 151 = .ok (.iload 4, 2) := dk_21 4 (dk_at dksX4_finds_6 11 rfl rfl)
theorem dX4_finds_153 : decode cX4_finds 153 = .ok (.iconst (-1), 1) := dk_2 (dk_at dksX4_finds_6 13 rfl rfl)
theorem dX4_finds_154 : decode cX4_finds 154 = .ok (.iastore, 1) := dk_79 (dk_at dksX4_finds_6 14 rfl rfl)
theorem dX4_finds_155 : decode cX4_finds 155 = .ok (.iinc 3 (-1), 3) := dk_132 3 255 (dk_at dksX4_finds_6 15 rfl rfl)
theorem dX4_finds_158 : decode cX4_finds 158 = .ok (.goto (-70), 3) := dk_167 255 186 (dk_at dksX4_finds_6 18 rfl rfl)
theorem dX4_finds_161 : decode cX4_finds 161 = .ok (.return_, 1) := dk_177 (dk_at dksX4_finds_6 21 rfl rfl)
abbrev cX4_part : ByteArray := prog_16_method_38_code
def yX4_part : MethodName := ⟨RX4, "part", "(I)I"⟩
def dkwX4_part_0 : List UInt8 := [27, 184, 0, 81, 154, 0, 7, 17, 252, 13, 172, 42, 182, 0, 146, 42, 180, 0, 25, 27, 46, 172]
abbrev dktX4_part_0 : List UInt8 := dkwX4_part_0 ++ []
theorem dksX4_part_0 : cX4_part.data.toList.drop 0 = dktX4_part_0 := by decide +kernel
theorem dX4_part_0 : decode cX4_part 0 = .ok (.iload_n 1, 1) := dk_27 (dk_at dksX4_part_0 0 rfl rfl)
theorem dX4_part_1 : decode cX4_part 1 = .ok (.invokestatic 81, 3) := dk_184 0 81 (dk_at dksX4_part_0 1 rfl rfl)
theorem dX4_part_4 : decode cX4_part 4 = .ok (.ifCond .ne 7, 3) := dk_154 0 7 (dk_at dksX4_part_0 4 rfl rfl)
theorem dX4_part_7 : decode cX4_part 7 = .ok (.sipush (-1011), 3) := dk_17 252 13 (dk_at dksX4_part_0 7 rfl rfl)
theorem dX4_part_10 : decode cX4_part 10 = .ok (.ireturn, 1) := dk_172 (dk_at dksX4_part_0 10 rfl rfl)
theorem dX4_part_11 : decode cX4_part 11 = .ok (.aload_n 0, 1) := dk_42 (dk_at dksX4_part_0 11 rfl rfl)
theorem dX4_part_12 : decode cX4_part 12 = .ok (.invokevirtual 146, 3) := dk_182 0 146 (dk_at dksX4_part_0 12 rfl rfl)
theorem dX4_part_15 : decode cX4_part 15 = .ok (.aload_n 0, 1) := dk_42 (dk_at dksX4_part_0 15 rfl rfl)
theorem dX4_part_16 : decode cX4_part 16 = .ok (.getfield 25, 3) := dk_180 0 25 (dk_at dksX4_part_0 16 rfl rfl)
theorem dX4_part_19 : decode cX4_part 19 = .ok (.iload_n 1, 1) := dk_27 (dk_at dksX4_part_0 19 rfl rfl)
theorem dX4_part_20 : decode cX4_part 20 = .ok (.iaload, 1) := dk_46 (dk_at dksX4_part_0 20 rfl rfl)
theorem dX4_part_21 : decode cX4_part 21 = .ok (.ireturn, 1) := dk_172 (dk_at dksX4_part_0 21 rfl rfl)
abbrev cX4_partAgain : ByteArray := prog_16_method_39_code
def yX4_partAgain : MethodName := ⟨RX4, "partAgain", "(I)I"⟩
def dkwX4_partAgain_0 : List UInt8 := [42, 27, 182, 0, 152, 172]
abbrev dktX4_partAgain_0 : List UInt8 := dkwX4_partAgain_0 ++ []
theorem dksX4_partAgain_0 : cX4_partAgain.data.toList.drop 0 = dktX4_partAgain_0 := by decide +kernel
theorem dX4_partAgain_0 : decode cX4_partAgain 0 = .ok (.aload_n 0, 1) := dk_42 (dk_at dksX4_partAgain_0 0 rfl rfl)
theorem dX4_partAgain_1 : decode cX4_partAgain 1 = .ok (.iload_n 1, 1) := dk_27 (dk_at dksX4_partAgain_0 1 rfl rfl)
theorem dX4_partAgain_2 : decode cX4_partAgain 2 = .ok (.invokevirtual 152, 3) := dk_182 0 152 (dk_at dksX4_partAgain_0 2 rfl rfl)
theorem dX4_partAgain_5 : decode cX4_partAgain 5 = .ok (.ireturn, 1) := dk_172 (dk_at dksX4_partAgain_0 5 rfl rfl)
abbrev cX4_mould : ByteArray := prog_16_method_41_code
def yX4_mould : MethodName := ⟨RX4, "mould", "(III)I"⟩
def dkwX4_mould_0 : List UInt8 := [42, 182, 0, 96, 42, 42, 27, 28, 29, 182, 0, 155, 182, 0, 102, 172]
abbrev dktX4_mould_0 : List UInt8 := dkwX4_mould_0 ++ []
theorem dksX4_mould_0 : cX4_mould.data.toList.drop 0 = dktX4_mould_0 := by decide +kernel
theorem dX4_mould_0 : decode cX4_mould 0 = .ok (.aload_n 0, 1) := dk_42 (dk_at dksX4_mould_0 0 rfl rfl)
theorem dX4_mould_1 : decode cX4_mould 1 = .ok (.invokevirtual 96, 3) := dk_182 0 96 (dk_at dksX4_mould_0 1 rfl rfl)
theorem dX4_mould_4 : decode cX4_mould 4 = .ok (.aload_n 0, 1) := dk_42 (dk_at dksX4_mould_0 4 rfl rfl)
theorem dX4_mould_5 : decode cX4_mould 5 = .ok (.aload_n 0, 1) := dk_42 (dk_at dksX4_mould_0 5 rfl rfl)
theorem dX4_mould_6 : decode cX4_mould 6 = .ok (.iload_n 1, 1) := dk_27 (dk_at dksX4_mould_0 6 rfl rfl)
theorem dX4_mould_7 : decode cX4_mould 7 = .ok (.iload_n 2, 1) := dk_28 (dk_at dksX4_mould_0 7 rfl rfl)
theorem dX4_mould_8 : decode cX4_mould 8 = .ok (.iload_n 3, 1) := dk_29 (dk_at dksX4_mould_0 8 rfl rfl)
theorem dX4_mould_9 : decode cX4_mould 9 = .ok (.invokevirtual 155, 3) := dk_182 0 155 (dk_at dksX4_mould_0 9 rfl rfl)
theorem dX4_mould_12 : decode cX4_mould 12 = .ok (.invokevirtual 102, 3) := dk_182 0 102 (dk_at dksX4_mould_0 12 rfl rfl)
theorem dX4_mould_15 : decode cX4_mould 15 = .ok (.ireturn, 1) := dk_172 (dk_at dksX4_mould_0 15 rfl rfl)
abbrev cX4_moulds : ByteArray := prog_16_method_40_code
def yX4_moulds : MethodName := ⟨RX4, "moulds", "(III)I"⟩
def dkwX4_moulds_4 : List UInt8 := [28, 29, 182, 0, 92, 172]
abbrev dktX4_moulds_4 : List UInt8 := dkwX4_moulds_4 ++ []
def dkwX4_moulds_3 : List UInt8 := [184, 0, 37, 46, 182, 0, 78, 172, 42, 180, 0, 7, 27, 5, 184, 0, 37, 92, 46, 28, 100, 79, 42, 27]
abbrev dktX4_moulds_3 : List UInt8 := dkwX4_moulds_3 ++ dktX4_moulds_4
def dkwX4_moulds_2 : List UInt8 := [180, 0, 7, 27, 5, 184, 0, 37, 46, 28, 162, 0, 20, 42, 16, 13, 42, 180, 0, 7, 27, 5]
abbrev dktX4_moulds_2 : List UInt8 := dkwX4_moulds_2 ++ dktX4_moulds_3
def dkwX4_moulds_1 : List UInt8 := [17, 252, 12, 182, 0, 57, 172, 42, 27, 182, 0, 89, 154, 0, 10, 42, 5, 27, 182, 0, 78, 172, 42]
abbrev dktX4_moulds_1 : List UInt8 := dkwX4_moulds_1 ++ dktX4_moulds_2
def dkwX4_moulds_0 : List UInt8 := [27, 184, 0, 81, 154, 0, 11, 42, 17, 252, 13, 182, 0, 57, 172, 28, 29, 184, 0, 85, 154, 0, 11, 42]
abbrev dktX4_moulds_0 : List UInt8 := dkwX4_moulds_0 ++ dktX4_moulds_1
theorem dksX4_moulds_0 : cX4_moulds.data.toList.drop 0 = dktX4_moulds_0 := by decide +kernel
theorem dksX4_moulds_1 : cX4_moulds.data.toList.drop 24 = dktX4_moulds_1 := dk_seg dksX4_moulds_0 24 rfl rfl
theorem dksX4_moulds_2 : cX4_moulds.data.toList.drop 47 = dktX4_moulds_2 := dk_seg dksX4_moulds_1 23 rfl rfl
theorem dksX4_moulds_3 : cX4_moulds.data.toList.drop 69 = dktX4_moulds_3 := dk_seg dksX4_moulds_2 22 rfl rfl
theorem dksX4_moulds_4 : cX4_moulds.data.toList.drop 93 = dktX4_moulds_4 := dk_seg dksX4_moulds_3 24 rfl rfl
theorem dX4_moulds_0 : decode cX4_moulds 0 = .ok (.iload_n 1, 1) := dk_27 (dk_at dksX4_moulds_0 0 rfl rfl)
theorem dX4_moulds_1 : decode cX4_moulds 1 = .ok (.invokestatic 81, 3) := dk_184 0 81 (dk_at dksX4_moulds_0 1 rfl rfl)
theorem dX4_moulds_4 : decode cX4_moulds 4 = .ok (.ifCond .ne 11, 3) := dk_154 0 11 (dk_at dksX4_moulds_0 4 rfl rfl)
theorem dX4_moulds_7 : decode cX4_moulds 7 = .ok (.aload_n 0, 1) := dk_42 (dk_at dksX4_moulds_0 7 rfl rfl)
theorem dX4_moulds_8 : decode cX4_moulds 8 = .ok (.sipush (-1011), 3) := dk_17 252 13 (dk_at dksX4_moulds_0 8 rfl rfl)
theorem dX4_moulds_11 : decode cX4_moulds 11 = .ok (.invokevirtual 57, 3) := dk_182 0 57 (dk_at dksX4_moulds_0 11 rfl rfl)
theorem dX4_moulds_14 : decode cX4_moulds 14 = .ok (.ireturn, 1) := dk_172 (dk_at dksX4_moulds_0 14 rfl rfl)
theorem dX4_moulds_15 : decode cX4_moulds 15 = .ok (.iload_n 2, 1) := dk_28 (dk_at dksX4_moulds_0 15 rfl rfl)
theorem dX4_moulds_16 : decode cX4_moulds 16 = .ok (.iload_n 3, 1) := dk_29 (dk_at dksX4_moulds_0 16 rfl rfl)
theorem dX4_moulds_17 : decode cX4_moulds 17 = .ok (.invokestatic 85, 3) := dk_184 0 85 (dk_at dksX4_moulds_0 17 rfl rfl)
theorem dX4_moulds_20 : decode cX4_moulds 20 = .ok (.ifCond .ne 11, 3) := dk_154 0 11 (dk_at dksX4_moulds_0 20 rfl rfl)
theorem dX4_moulds_23 : decode cX4_moulds 23 = .ok (.aload_n 0, 1) := dk_42 (dk_at dksX4_moulds_0 23 rfl rfl)
theorem dX4_moulds_24 : decode cX4_moulds 24 = .ok (.sipush (-1012), 3) := dk_17 252 12 (dk_at dksX4_moulds_1 0 rfl rfl)
theorem dX4_moulds_27 : decode cX4_moulds 27 = .ok (.invokevirtual 57, 3) := dk_182 0 57 (dk_at dksX4_moulds_1 3 rfl rfl)
theorem dX4_moulds_30 : decode cX4_moulds 30 = .ok (.ireturn, 1) := dk_172 (dk_at dksX4_moulds_1 6 rfl rfl)
theorem dX4_moulds_31 : decode cX4_moulds 31 = .ok (.aload_n 0, 1) := dk_42 (dk_at dksX4_moulds_1 7 rfl rfl)
theorem dX4_moulds_32 : decode cX4_moulds 32 = .ok (.iload_n 1, 1) := dk_27 (dk_at dksX4_moulds_1 8 rfl rfl)
theorem dX4_moulds_33 : decode cX4_moulds 33 = .ok (.invokevirtual 89, 3) := dk_182 0 89 (dk_at dksX4_moulds_1 9 rfl rfl)
theorem dX4_moulds_36 : decode cX4_moulds 36 = .ok (.ifCond .ne 10, 3) := dk_154 0 10 (dk_at dksX4_moulds_1 12 rfl rfl)
theorem dX4_moulds_39 : decode cX4_moulds 39 = .ok (.aload_n 0, 1) := dk_42 (dk_at dksX4_moulds_1 15 rfl rfl)
theorem dX4_moulds_40 : decode cX4_moulds 40 = .ok (.iconst 2, 1) := dk_5 (dk_at dksX4_moulds_1 16 rfl rfl)
theorem dX4_moulds_41 : decode cX4_moulds 41 = .ok (.iload_n 1, 1) := dk_27 (dk_at dksX4_moulds_1 17 rfl rfl)
theorem dX4_moulds_42 : decode cX4_moulds 42 = .ok (.invokevirtual 78, 3) := dk_182 0 78 (dk_at dksX4_moulds_1 18 rfl rfl)
theorem dX4_moulds_45 : decode cX4_moulds 45 = .ok (.ireturn, 1) := dk_172 (dk_at dksX4_moulds_1 21 rfl rfl)
theorem dX4_moulds_46 : decode cX4_moulds 46 = .ok (.aload_n 0, 1) := dk_42 (dk_at dksX4_moulds_1 22 rfl rfl)
theorem dX4_moulds_47 : decode cX4_moulds 47 = .ok (.getfield 7, 3) := dk_180 0 7 (dk_at dksX4_moulds_2 0 rfl rfl)
theorem dX4_moulds_50 : decode cX4_moulds 50 = .ok (.iload_n 1, 1) := dk_27 (dk_at dksX4_moulds_2 3 rfl rfl)
theorem dX4_moulds_51 : decode cX4_moulds 51 = .ok (.iconst 2, 1) := dk_5 (dk_at dksX4_moulds_2 4 rfl rfl)
theorem dX4_moulds_52 : decode cX4_moulds 52 = .ok (.invokestatic 37, 3) := dk_184 0 37 (dk_at dksX4_moulds_2 5 rfl rfl)
theorem dX4_moulds_55 : decode cX4_moulds 55 = .ok (.iaload, 1) := dk_46 (dk_at dksX4_moulds_2 8 rfl rfl)
theorem dX4_moulds_56 : decode cX4_moulds 56 = .ok (.iload_n 2, 1) := dk_28 (dk_at dksX4_moulds_2 9 rfl rfl)
theorem dX4_moulds_57 : decode cX4_moulds 57 = .ok (.if_icmp .ge 20, 3) := dk_162 0 20 (dk_at dksX4_moulds_2 10 rfl rfl)
theorem dX4_moulds_60 : decode cX4_moulds 60 = .ok (.aload_n 0, 1) := dk_42 (dk_at dksX4_moulds_2 13 rfl rfl)
theorem dX4_moulds_61 : decode cX4_moulds 61 = .ok (.bipush 13, 2) := dk_16 13 (dk_at dksX4_moulds_2 14 rfl rfl)
theorem dX4_moulds_63 : decode cX4_moulds 63 = .ok (.aload_n 0, 1) := dk_42 (dk_at dksX4_moulds_2 16 rfl rfl)
theorem dX4_moulds_64 : decode cX4_moulds 64 = .ok (.getfield 7, 3) := dk_180 0 7 (dk_at dksX4_moulds_2 17 rfl rfl)
theorem dX4_moulds_67 : decode cX4_moulds 67 = .ok (.iload_n 1, 1) := dk_27 (dk_at dksX4_moulds_2 20 rfl rfl)
theorem dX4_moulds_68 : decode cX4_moulds 68 = .ok (.iconst 2, 1) := dk_5 (dk_at dksX4_moulds_2 21 rfl rfl)
theorem dX4_moulds_69 : decode cX4_moulds 69 = .ok (.invokestatic 37, 3) := dk_184 0 37 (dk_at dksX4_moulds_3 0 rfl rfl)
theorem dX4_moulds_72 : decode cX4_moulds 72 = .ok (.iaload, 1) := dk_46 (dk_at dksX4_moulds_3 3 rfl rfl)
theorem dX4_moulds_73 : decode cX4_moulds 73 = .ok (.invokevirtual 78, 3) := dk_182 0 78 (dk_at dksX4_moulds_3 4 rfl rfl)
theorem dX4_moulds_76 : decode cX4_moulds 76 = .ok (.ireturn, 1) := dk_172 (dk_at dksX4_moulds_3 7 rfl rfl)
theorem dX4_moulds_77 : decode cX4_moulds 77 = .ok (.aload_n 0, 1) := dk_42 (dk_at dksX4_moulds_3 8 rfl rfl)
theorem dX4_moulds_78 : decode cX4_moulds 78 = .ok (.getfield 7, 3) := dk_180 0 7 (dk_at dksX4_moulds_3 9 rfl rfl)
theorem dX4_moulds_81 : decode cX4_moulds 81 = .ok (.iload_n 1, 1) := dk_27 (dk_at dksX4_moulds_3 12 rfl rfl)
theorem dX4_moulds_82 : decode cX4_moulds 82 = .ok (.iconst 2, 1) := dk_5 (dk_at dksX4_moulds_3 13 rfl rfl)
theorem dX4_moulds_83 : decode cX4_moulds 83 = .ok (.invokestatic 37, 3) := dk_184 0 37 (dk_at dksX4_moulds_3 14 rfl rfl)
theorem dX4_moulds_86 : decode cX4_moulds 86 = .ok (.dup2, 1) := dk_92 (dk_at dksX4_moulds_3 17 rfl rfl)
theorem dX4_moulds_87 : decode cX4_moulds 87 = .ok (.iaload, 1) := dk_46 (dk_at dksX4_moulds_3 18 rfl rfl)
theorem dX4_moulds_88 : decode cX4_moulds 88 = .ok (.iload_n 2, 1) := dk_28 (dk_at dksX4_moulds_3 19 rfl rfl)
theorem dX4_moulds_89 : decode cX4_moulds 89 = .ok (.isub, 1) := dk_100 (dk_at dksX4_moulds_3 20 rfl rfl)
theorem dX4_moulds_90 : decode cX4_moulds 90 = .ok (.iastore, 1) := dk_79 (dk_at dksX4_moulds_3 21 rfl rfl)
theorem dX4_moulds_91 : decode cX4_moulds 91 = .ok (.aload_n 0, 1) := dk_42 (dk_at dksX4_moulds_3 22 rfl rfl)
theorem dX4_moulds_92 : decode cX4_moulds 92 = .ok (.iload_n 1, 1) := dk_27 (dk_at dksX4_moulds_3 23 rfl rfl)
theorem dX4_moulds_93 : decode cX4_moulds 93 = .ok (.iload_n 2, 1) := dk_28 (dk_at dksX4_moulds_4 0 rfl rfl)
theorem dX4_moulds_94 : decode cX4_moulds 94 = .ok (.iload_n 3, 1) := dk_29 (dk_at dksX4_moulds_4 1 rfl rfl)
theorem dX4_moulds_95 : decode cX4_moulds 95 = .ok (.invokevirtual 92, 3) := dk_182 0 92 (dk_at dksX4_moulds_4 2 rfl rfl)
theorem dX4_moulds_98 : decode cX4_moulds 98 = .ok (.ireturn, 1) := dk_172 (dk_at dksX4_moulds_4 5 rfl rfl)
abbrev cX4_heir : ByteArray := prog_16_method_43_code
def yX4_heir : MethodName := ⟨RX4, "heir", "(II)I"⟩
def dkwX4_heir_0 : List UInt8 := [42, 182, 0, 96, 42, 42, 27, 28, 182, 0, 158, 182, 0, 102, 172]
abbrev dktX4_heir_0 : List UInt8 := dkwX4_heir_0 ++ []
theorem dksX4_heir_0 : cX4_heir.data.toList.drop 0 = dktX4_heir_0 := by decide +kernel
theorem dX4_heir_0 : decode cX4_heir 0 = .ok (.aload_n 0, 1) := dk_42 (dk_at dksX4_heir_0 0 rfl rfl)
theorem dX4_heir_1 : decode cX4_heir 1 = .ok (.invokevirtual 96, 3) := dk_182 0 96 (dk_at dksX4_heir_0 1 rfl rfl)
theorem dX4_heir_4 : decode cX4_heir 4 = .ok (.aload_n 0, 1) := dk_42 (dk_at dksX4_heir_0 4 rfl rfl)
theorem dX4_heir_5 : decode cX4_heir 5 = .ok (.aload_n 0, 1) := dk_42 (dk_at dksX4_heir_0 5 rfl rfl)
theorem dX4_heir_6 : decode cX4_heir 6 = .ok (.iload_n 1, 1) := dk_27 (dk_at dksX4_heir_0 6 rfl rfl)
theorem dX4_heir_7 : decode cX4_heir 7 = .ok (.iload_n 2, 1) := dk_28 (dk_at dksX4_heir_0 7 rfl rfl)
theorem dX4_heir_8 : decode cX4_heir 8 = .ok (.invokevirtual 158, 3) := dk_182 0 158 (dk_at dksX4_heir_0 8 rfl rfl)
theorem dX4_heir_11 : decode cX4_heir 11 = .ok (.invokevirtual 102, 3) := dk_182 0 102 (dk_at dksX4_heir_0 11 rfl rfl)
theorem dX4_heir_14 : decode cX4_heir 14 = .ok (.ireturn, 1) := dk_172 (dk_at dksX4_heir_0 14 rfl rfl)
abbrev cX4_tellsHeir : ByteArray := prog_16_method_42_code
def yX4_tellsHeir : MethodName := ⟨RX4, "tellsHeir", "(II)I"⟩
def dkwX4_tellsHeir_2 : List UInt8 := [180, 0, 7, 27, 4, 184, 0, 37, 28, 79, 29, 172]
abbrev dktX4_tellsHeir_2 : List UInt8 := dkwX4_tellsHeir_2 ++ []
def dkwX4_tellsHeir_1 : List UInt8 := [180, 0, 7, 27, 4, 184, 0, 37, 46, 62, 29, 28, 160, 0, 11, 42, 16, 14, 28, 182, 0, 78, 172, 42]
abbrev dktX4_tellsHeir_1 : List UInt8 := dkwX4_tellsHeir_1 ++ dktX4_tellsHeir_2
def dkwX4_tellsHeir_0 : List UInt8 := [27, 184, 0, 81, 153, 0, 10, 28, 184, 0, 81, 154, 0, 11, 42, 17, 252, 13, 182, 0, 57, 172, 42]
abbrev dktX4_tellsHeir_0 : List UInt8 := dkwX4_tellsHeir_0 ++ dktX4_tellsHeir_1
theorem dksX4_tellsHeir_0 : cX4_tellsHeir.data.toList.drop 0 = dktX4_tellsHeir_0 := by decide +kernel
theorem dksX4_tellsHeir_1 : cX4_tellsHeir.data.toList.drop 23 = dktX4_tellsHeir_1 := dk_seg dksX4_tellsHeir_0 23 rfl rfl
theorem dksX4_tellsHeir_2 : cX4_tellsHeir.data.toList.drop 47 = dktX4_tellsHeir_2 := dk_seg dksX4_tellsHeir_1 24 rfl rfl
theorem dX4_tellsHeir_0 : decode cX4_tellsHeir 0 = .ok (.iload_n 1, 1) := dk_27 (dk_at dksX4_tellsHeir_0 0 rfl rfl)
theorem dX4_tellsHeir_1 : decode cX4_tellsHeir 1 = .ok (.invokestatic 81, 3) := dk_184 0 81 (dk_at dksX4_tellsHeir_0 1 rfl rfl)
theorem dX4_tellsHeir_4 : decode cX4_tellsHeir 4 = .ok (.ifCond .eq 10, 3) := dk_153 0 10 (dk_at dksX4_tellsHeir_0 4 rfl rfl)
theorem dX4_tellsHeir_7 : decode cX4_tellsHeir 7 = .ok (.iload_n 2, 1) := dk_28 (dk_at dksX4_tellsHeir_0 7 rfl rfl)
theorem dX4_tellsHeir_8 : decode cX4_tellsHeir 8 = .ok (.invokestatic 81, 3) := dk_184 0 81 (dk_at dksX4_tellsHeir_0 8 rfl rfl)
theorem dX4_tellsHeir_11 : decode cX4_tellsHeir 11 = .ok (.ifCond .ne 11, 3) := dk_154 0 11 (dk_at dksX4_tellsHeir_0 11 rfl rfl)
theorem dX4_tellsHeir_14 : decode cX4_tellsHeir 14 = .ok (.aload_n 0, 1) := dk_42 (dk_at dksX4_tellsHeir_0 14 rfl rfl)
theorem dX4_tellsHeir_15 : decode cX4_tellsHeir 15 = .ok (.sipush (-1011), 3) := dk_17 252 13 (dk_at dksX4_tellsHeir_0 15 rfl rfl)
theorem dX4_tellsHeir_18 : decode cX4_tellsHeir 18 = .ok (.invokevirtual 57, 3) := dk_182 0 57 (dk_at dksX4_tellsHeir_0 18 rfl rfl)
theorem dX4_tellsHeir_21 : decode cX4_tellsHeir 21 = .ok (.ireturn, 1) := dk_172 (dk_at dksX4_tellsHeir_0 21 rfl rfl)
theorem dX4_tellsHeir_22 : decode cX4_tellsHeir 22 = .ok (.aload_n 0, 1) := dk_42 (dk_at dksX4_tellsHeir_0 22 rfl rfl)
theorem dX4_tellsHeir_23 : decode cX4_tellsHeir 23 = .ok (.getfield 7, 3) := dk_180 0 7 (dk_at dksX4_tellsHeir_1 0 rfl rfl)
theorem dX4_tellsHeir_26 : decode cX4_tellsHeir 26 = .ok (.iload_n 1, 1) := dk_27 (dk_at dksX4_tellsHeir_1 3 rfl rfl)
theorem dX4_tellsHeir_27 : decode cX4_tellsHeir 27 = .ok (.iconst 1, 1) := dk_4 (dk_at dksX4_tellsHeir_1 4 rfl rfl)
theorem dX4_tellsHeir_28 : decode cX4_tellsHeir 28 = .ok (.invokestatic 37, 3) := dk_184 0 37 (dk_at dksX4_tellsHeir_1 5 rfl rfl)
theorem dX4_tellsHeir_31 : decode cX4_tellsHeir 31 = .ok (.iaload, 1) := dk_46 (dk_at dksX4_tellsHeir_1 8 rfl rfl)
theorem dX4_tellsHeir_32 : decode cX4_tellsHeir 32 = .ok (.istore_n 3, 1) := dk_62 (dk_at dksX4_tellsHeir_1 9 rfl rfl)
theorem dX4_tellsHeir_33 : decode cX4_tellsHeir 33 = .ok (.iload_n 3, 1) := dk_29 (dk_at dksX4_tellsHeir_1 10 rfl rfl)
theorem dX4_tellsHeir_34 : decode cX4_tellsHeir 34 = .ok (.iload_n 2, 1) := dk_28 (dk_at dksX4_tellsHeir_1 11 rfl rfl)
theorem dX4_tellsHeir_35 : decode cX4_tellsHeir 35 = .ok (.if_icmp .ne 11, 3) := dk_160 0 11 (dk_at dksX4_tellsHeir_1 12 rfl rfl)
theorem dX4_tellsHeir_38 : decode cX4_tellsHeir 38 = .ok (.aload_n 0, 1) := dk_42 (dk_at dksX4_tellsHeir_1 15 rfl rfl)
theorem dX4_tellsHeir_39 : decode cX4_tellsHeir 39 = .ok (.bipush 14, 2) := dk_16 14 (dk_at dksX4_tellsHeir_1 16 rfl rfl)
theorem dX4_tellsHeir_41 : decode cX4_tellsHeir 41 = .ok (.iload_n 2, 1) := dk_28 (dk_at dksX4_tellsHeir_1 18 rfl rfl)
theorem dX4_tellsHeir_42 : decode cX4_tellsHeir 42 = .ok (.invokevirtual 78, 3) := dk_182 0 78 (dk_at dksX4_tellsHeir_1 19 rfl rfl)
theorem dX4_tellsHeir_45 : decode cX4_tellsHeir 45 = .ok (.ireturn, 1) := dk_172 (dk_at dksX4_tellsHeir_1 22 rfl rfl)
theorem dX4_tellsHeir_46 : decode cX4_tellsHeir 46 = .ok (.aload_n 0, 1) := dk_42 (dk_at dksX4_tellsHeir_1 23 rfl rfl)
theorem dX4_tellsHeir_47 : decode cX4_tellsHeir 47 = .ok (.getfield 7, 3) := dk_180 0 7 (dk_at dksX4_tellsHeir_2 0 rfl rfl)
theorem dX4_tellsHeir_50 : decode cX4_tellsHeir 50 = .ok (.iload_n 1, 1) := dk_27 (dk_at dksX4_tellsHeir_2 3 rfl rfl)
theorem dX4_tellsHeir_51 : decode cX4_tellsHeir 51 = .ok (.iconst 1, 1) := dk_4 (dk_at dksX4_tellsHeir_2 4 rfl rfl)
theorem dX4_tellsHeir_52 : decode cX4_tellsHeir 52 = .ok (.invokestatic 37, 3) := dk_184 0 37 (dk_at dksX4_tellsHeir_2 5 rfl rfl)
theorem dX4_tellsHeir_55 : decode cX4_tellsHeir 55 = .ok (.iload_n 2, 1) := dk_28 (dk_at dksX4_tellsHeir_2 8 rfl rfl)
theorem dX4_tellsHeir_56 : decode cX4_tellsHeir 56 = .ok (.iastore, 1) := dk_79 (dk_at dksX4_tellsHeir_2 9 rfl rfl)
theorem dX4_tellsHeir_57 : decode cX4_tellsHeir 57 = .ok (.iload_n 3, 1) := dk_29 (dk_at dksX4_tellsHeir_2 10 rfl rfl)
theorem dX4_tellsHeir_58 : decode cX4_tellsHeir 58 = .ok (.ireturn, 1) := dk_172 (dk_at dksX4_tellsHeir_2 11 rfl rfl)
abbrev cX4_end : ByteArray := prog_16_method_48_code
def yX4_end : MethodName := ⟨RX4, "end", "(I)I"⟩
def dkwX4_end_0 : List UInt8 := [42, 182, 0, 96, 42, 42, 27, 182, 0, 176, 182, 0, 102, 172]
abbrev dktX4_end_0 : List UInt8 := dkwX4_end_0 ++ []
theorem dksX4_end_0 : cX4_end.data.toList.drop 0 = dktX4_end_0 := by decide +kernel
theorem dX4_end_0 : decode cX4_end 0 = .ok (.aload_n 0, 1) := dk_42 (dk_at dksX4_end_0 0 rfl rfl)
theorem dX4_end_1 : decode cX4_end 1 = .ok (.invokevirtual 96, 3) := dk_182 0 96 (dk_at dksX4_end_0 1 rfl rfl)
theorem dX4_end_4 : decode cX4_end 4 = .ok (.aload_n 0, 1) := dk_42 (dk_at dksX4_end_0 4 rfl rfl)
theorem dX4_end_5 : decode cX4_end 5 = .ok (.aload_n 0, 1) := dk_42 (dk_at dksX4_end_0 5 rfl rfl)
theorem dX4_end_6 : decode cX4_end 6 = .ok (.iload_n 1, 1) := dk_27 (dk_at dksX4_end_0 6 rfl rfl)
theorem dX4_end_7 : decode cX4_end 7 = .ok (.invokevirtual 176, 3) := dk_182 0 176 (dk_at dksX4_end_0 7 rfl rfl)
theorem dX4_end_10 : decode cX4_end 10 = .ok (.invokevirtual 102, 3) := dk_182 0 102 (dk_at dksX4_end_0 10 rfl rfl)
theorem dX4_end_13 : decode cX4_end 13 = .ok (.ireturn, 1) := dk_172 (dk_at dksX4_end_0 13 rfl rfl)
abbrev cX4_closes : ByteArray := prog_16_method_47_code
def yX4_closes : MethodName := ⟨RX4, "closes", "(I)I"⟩
def dkwX4_closes_9 : List UInt8 := [132, 3, 1, 167, 255, 174, 42, 42, 27, 28, 182, 0, 167, 181, 0, 170, 42, 28, 182, 0, 173, 28, 172]
abbrev dktX4_closes_9 : List UInt8 := dkwX4_closes_9 ++ []
def dkwX4_closes_8 : List UInt8 := [180, 0, 7, 29, 16, 6, 184, 0, 72, 3, 79, 42, 180, 0, 7, 29, 8, 184, 0, 72, 3, 79]
abbrev dktX4_closes_8 : List UInt8 := dkwX4_closes_8 ++ dktX4_closes_9
def dkwX4_closes_7 : List UInt8 := [28, 4, 96, 79, 42, 180, 0, 7, 29, 16, 6, 184, 0, 72, 46, 27, 4, 96, 160, 0, 26, 42]
abbrev dktX4_closes_7 : List UInt8 := dkwX4_closes_7 ++ dktX4_closes_8
def dkwX4_closes_6 : List UInt8 := [180, 0, 7, 29, 6, 184, 0, 72, 46, 27, 4, 96, 160, 0, 16, 42, 180, 0, 7, 29, 6, 184, 0, 72]
abbrev dktX4_closes_6 : List UInt8 := dkwX4_closes_6 ++ dktX4_closes_7
def dkwX4_closes_5 : List UInt8 := [42, 180, 0, 7, 27, 6, 184, 0, 37, 3, 79, 3, 62, 29, 42, 180, 0, 7, 3, 46, 162, 0, 78, 42]
abbrev dktX4_closes_5 : List UInt8 := dkwX4_closes_5 ++ dktX4_closes_6
def dkwX4_closes_4 : List UInt8 := [46, 42, 180, 0, 7, 27, 6, 184, 0, 37, 46, 96, 79, 42, 180, 0, 7, 27, 5, 184, 0, 37, 3, 79]
abbrev dktX4_closes_4 : List UInt8 := dkwX4_closes_4 ++ dktX4_closes_5
def dkwX4_closes_3 : List UInt8 := [92, 46, 42, 180, 0, 7, 27, 5, 184, 0, 37, 46, 96, 79, 42, 180, 0, 7, 28, 6, 184, 0, 37, 92]
abbrev dktX4_closes_3 : List UInt8 := dkwX4_closes_3 ++ dktX4_closes_4
def dkwX4_closes_2 : List UInt8 := [182, 0, 164, 61, 42, 180, 0, 7, 27, 3, 184, 0, 37, 3, 79, 42, 180, 0, 7, 28, 5, 184, 0, 37]
abbrev dktX4_closes_2 : List UInt8 := dkwX4_closes_2 ++ dktX4_closes_3
def dkwX4_closes_1 : List UInt8 := [5, 27, 182, 0, 78, 172, 42, 182, 0, 161, 4, 160, 0, 11, 42, 16, 15, 27, 182, 0, 78, 172, 42, 27]
abbrev dktX4_closes_1 : List UInt8 := dkwX4_closes_1 ++ dktX4_closes_2
def dkwX4_closes_0 : List UInt8 := [27, 184, 0, 81, 154, 0, 11, 42, 17, 252, 13, 182, 0, 57, 172, 42, 27, 182, 0, 89, 154, 0, 10, 42]
abbrev dktX4_closes_0 : List UInt8 := dkwX4_closes_0 ++ dktX4_closes_1
theorem dksX4_closes_0 : cX4_closes.data.toList.drop 0 = dktX4_closes_0 := by decide +kernel
theorem dksX4_closes_1 : cX4_closes.data.toList.drop 24 = dktX4_closes_1 := dk_seg dksX4_closes_0 24 rfl rfl
theorem dksX4_closes_2 : cX4_closes.data.toList.drop 48 = dktX4_closes_2 := dk_seg dksX4_closes_1 24 rfl rfl
theorem dksX4_closes_3 : cX4_closes.data.toList.drop 72 = dktX4_closes_3 := dk_seg dksX4_closes_2 24 rfl rfl
theorem dksX4_closes_4 : cX4_closes.data.toList.drop 96 = dktX4_closes_4 := dk_seg dksX4_closes_3 24 rfl rfl
theorem dksX4_closes_5 : cX4_closes.data.toList.drop 120 = dktX4_closes_5 := dk_seg dksX4_closes_4 24 rfl rfl
theorem dksX4_closes_6 : cX4_closes.data.toList.drop 144 = dktX4_closes_6 := dk_seg dksX4_closes_5 24 rfl rfl
theorem dksX4_closes_7 : cX4_closes.data.toList.drop 168 = dktX4_closes_7 := dk_seg dksX4_closes_6 24 rfl rfl
theorem dksX4_closes_8 : cX4_closes.data.toList.drop 190 = dktX4_closes_8 := dk_seg dksX4_closes_7 22 rfl rfl
theorem dksX4_closes_9 : cX4_closes.data.toList.drop 212 = dktX4_closes_9 := dk_seg dksX4_closes_8 22 rfl rfl
theorem dX4_closes_0 : decode cX4_closes 0 = .ok (.iload_n 1, 1) := dk_27 (dk_at dksX4_closes_0 0 rfl rfl)
theorem dX4_closes_1 : decode cX4_closes 1 = .ok (.invokestatic 81, 3) := dk_184 0 81 (dk_at dksX4_closes_0 1 rfl rfl)
theorem dX4_closes_4 : decode cX4_closes 4 = .ok (.ifCond .ne 11, 3) := dk_154 0 11 (dk_at dksX4_closes_0 4 rfl rfl)
theorem dX4_closes_7 : decode cX4_closes 7 = .ok (.aload_n 0, 1) := dk_42 (dk_at dksX4_closes_0 7 rfl rfl)
theorem dX4_closes_8 : decode cX4_closes 8 = .ok (.sipush (-1011), 3) := dk_17 252 13 (dk_at dksX4_closes_0 8 rfl rfl)
theorem dX4_closes_11 : decode cX4_closes 11 = .ok (.invokevirtual 57, 3) := dk_182 0 57 (dk_at dksX4_closes_0 11 rfl rfl)
theorem dX4_closes_14 : decode cX4_closes 14 = .ok (.ireturn, 1) := dk_172 (dk_at dksX4_closes_0 14 rfl rfl)
theorem dX4_closes_15 : decode cX4_closes 15 = .ok (.aload_n 0, 1) := dk_42 (dk_at dksX4_closes_0 15 rfl rfl)
theorem dX4_closes_16 : decode cX4_closes 16 = .ok (.iload_n 1, 1) := dk_27 (dk_at dksX4_closes_0 16 rfl rfl)
theorem dX4_closes_17 : decode cX4_closes 17 = .ok (.invokevirtual 89, 3) := dk_182 0 89 (dk_at dksX4_closes_0 17 rfl rfl)
theorem dX4_closes_20 : decode cX4_closes 20 = .ok (.ifCond .ne 10, 3) := dk_154 0 10 (dk_at dksX4_closes_0 20 rfl rfl)
theorem dX4_closes_23 : decode cX4_closes 23 = .ok (.aload_n 0, 1) := dk_42 (dk_at dksX4_closes_0 23 rfl rfl)
theorem dX4_closes_24 : decode cX4_closes 24 = .ok (.iconst 2, 1) := dk_5 (dk_at dksX4_closes_1 0 rfl rfl)
theorem dX4_closes_25 : decode cX4_closes 25 = .ok (.iload_n 1, 1) := dk_27 (dk_at dksX4_closes_1 1 rfl rfl)
theorem dX4_closes_26 : decode cX4_closes 26 = .ok (.invokevirtual 78, 3) := dk_182 0 78 (dk_at dksX4_closes_1 2 rfl rfl)
theorem dX4_closes_29 : decode cX4_closes 29 = .ok (.ireturn, 1) := dk_172 (dk_at dksX4_closes_1 5 rfl rfl)
theorem dX4_closes_30 : decode cX4_closes 30 = .ok (.aload_n 0, 1) := dk_42 (dk_at dksX4_closes_1 6 rfl rfl)
theorem dX4_closes_31 : decode cX4_closes 31 = .ok (.invokevirtual 161, 3) := dk_182 0 161 (dk_at dksX4_closes_1 7 rfl rfl)
theorem dX4_closes_34 : decode cX4_closes 34 = .ok (.iconst 1, 1) := dk_4 (dk_at dksX4_closes_1 10 rfl rfl)
theorem dX4_closes_35 : decode cX4_closes 35 = .ok (.if_icmp .ne 11, 3) := dk_160 0 11 (dk_at dksX4_closes_1 11 rfl rfl)
theorem dX4_closes_38 : decode cX4_closes 38 = .ok (.aload_n 0, 1) := dk_42 (dk_at dksX4_closes_1 14 rfl rfl)
theorem dX4_closes_39 : decode cX4_closes 39 = .ok (.bipush 15, 2) := dk_16 15 (dk_at dksX4_closes_1 15 rfl rfl)
theorem dX4_closes_41 : decode cX4_closes 41 = .ok (.iload_n 1, 1) := dk_27 (dk_at dksX4_closes_1 17 rfl rfl)
theorem dX4_closes_42 : decode cX4_closes 42 = .ok (.invokevirtual 78, 3) := dk_182 0 78 (dk_at dksX4_closes_1 18 rfl rfl)
theorem dX4_closes_45 : decode cX4_closes 45 = .ok (.ireturn, 1) := dk_172 (dk_at dksX4_closes_1 21 rfl rfl)
theorem dX4_closes_46 : decode cX4_closes 46 = .ok (.aload_n 0, 1) := dk_42 (dk_at dksX4_closes_1 22 rfl rfl)
theorem dX4_closes_47 : decode cX4_closes 47 = .ok (.iload_n 1, 1) := dk_27 (dk_at dksX4_closes_1 23 rfl rfl)
theorem dX4_closes_48 : decode cX4_closes 48 = .ok (.invokevirtual 164, 3) := dk_182 0 164 (dk_at dksX4_closes_2 0 rfl rfl)
theorem dX4_closes_51 : decode cX4_closes 51 = .ok (.istore_n 2, 1) := dk_61 (dk_at dksX4_closes_2 3 rfl rfl)
theorem dX4_closes_52 : decode cX4_closes 52 = .ok (.aload_n 0, 1) := dk_42 (dk_at dksX4_closes_2 4 rfl rfl)
theorem dX4_closes_53 : decode cX4_closes 53 = .ok (.getfield 7, 3) := dk_180 0 7 (dk_at dksX4_closes_2 5 rfl rfl)
theorem dX4_closes_56 : decode cX4_closes 56 = .ok (.iload_n 1, 1) := dk_27 (dk_at dksX4_closes_2 8 rfl rfl)
theorem dX4_closes_57 : decode cX4_closes 57 = .ok (.iconst 0, 1) := dk_3 (dk_at dksX4_closes_2 9 rfl rfl)
theorem dX4_closes_58 : decode cX4_closes 58 = .ok (.invokestatic 37, 3) := dk_184 0 37 (dk_at dksX4_closes_2 10 rfl rfl)
theorem dX4_closes_61 : decode cX4_closes 61 = .ok (.iconst 0, 1) := dk_3 (dk_at dksX4_closes_2 13 rfl rfl)
theorem dX4_closes_62 : decode cX4_closes 62 = .ok (.iastore, 1) := dk_79 (dk_at dksX4_closes_2 14 rfl rfl)
theorem dX4_closes_63 : decode cX4_closes 63 = .ok (.aload_n 0, 1) := dk_42 (dk_at dksX4_closes_2 15 rfl rfl)
theorem dX4_closes_64 : decode cX4_closes 64 = .ok (.getfield 7, 3) := dk_180 0 7 (dk_at dksX4_closes_2 16 rfl rfl)
theorem dX4_closes_67 : decode cX4_closes 67 = .ok (.iload_n 2, 1) := dk_28 (dk_at dksX4_closes_2 19 rfl rfl)
theorem dX4_closes_68 : decode cX4_closes 68 = .ok (.iconst 2, 1) := dk_5 (dk_at dksX4_closes_2 20 rfl rfl)
theorem dX4_closes_69 : decode cX4_closes 69 = .ok (.invokestatic 37, 3) := dk_184 0 37 (dk_at dksX4_closes_2 21 rfl rfl)
theorem dX4_closes_72 : decode cX4_closes 72 = .ok (.dup2, 1) := dk_92 (dk_at dksX4_closes_3 0 rfl rfl)
theorem dX4_closes_73 : decode cX4_closes 73 = .ok (.iaload, 1) := dk_46 (dk_at dksX4_closes_3 1 rfl rfl)
theorem dX4_closes_74 : decode cX4_closes 74 = .ok (.aload_n 0, 1) := dk_42 (dk_at dksX4_closes_3 2 rfl rfl)
theorem dX4_closes_75 : decode cX4_closes 75 = .ok (.getfield 7, 3) := dk_180 0 7 (dk_at dksX4_closes_3 3 rfl rfl)
theorem dX4_closes_78 : decode cX4_closes 78 = .ok (.iload_n 1, 1) := dk_27 (dk_at dksX4_closes_3 6 rfl rfl)
theorem dX4_closes_79 : decode cX4_closes 79 = .ok (.iconst 2, 1) := dk_5 (dk_at dksX4_closes_3 7 rfl rfl)
theorem dX4_closes_80 : decode cX4_closes 80 = .ok (.invokestatic 37, 3) := dk_184 0 37 (dk_at dksX4_closes_3 8 rfl rfl)
theorem dX4_closes_83 : decode cX4_closes 83 = .ok (.iaload, 1) := dk_46 (dk_at dksX4_closes_3 11 rfl rfl)
theorem dX4_closes_84 : decode cX4_closes 84 = .ok (.iadd, 1) := dk_96 (dk_at dksX4_closes_3 12 rfl rfl)
theorem dX4_closes_85 : decode cX4_closes 85 = .ok (.iastore, 1) := dk_79 (dk_at dksX4_closes_3 13 rfl rfl)
theorem dX4_closes_86 : decode cX4_closes 86 = .ok (.aload_n 0, 1) := dk_42 (dk_at dksX4_closes_3 14 rfl rfl)
theorem dX4_closes_87 : decode cX4_closes 87 = .ok (.getfield 7, 3) := dk_180 0 7 (dk_at dksX4_closes_3 15 rfl rfl)
theorem dX4_closes_90 : decode cX4_closes 90 = .ok (.iload_n 2, 1) := dk_28 (dk_at dksX4_closes_3 18 rfl rfl)
theorem dX4_closes_91 : decode cX4_closes 91 = .ok (.iconst 3, 1) := dk_6 (dk_at dksX4_closes_3 19 rfl rfl)
theorem dX4_closes_92 : decode cX4_closes 92 = .ok (.invokestatic 37, 3) := dk_184 0 37 (dk_at dksX4_closes_3 20 rfl rfl)
theorem dX4_closes_95 : decode cX4_closes 95 = .ok (.dup2, 1) := dk_92 (dk_at dksX4_closes_3 23 rfl rfl)
theorem dX4_closes_96 : decode cX4_closes 96 = .ok (.iaload, 1) := dk_46 (dk_at dksX4_closes_4 0 rfl rfl)
theorem dX4_closes_97 : decode cX4_closes 97 = .ok (.aload_n 0, 1) := dk_42 (dk_at dksX4_closes_4 1 rfl rfl)
theorem dX4_closes_98 : decode cX4_closes 98 = .ok (.getfield 7, 3) := dk_180 0 7 (dk_at dksX4_closes_4 2 rfl rfl)
theorem dX4_closes_101 : decode cX4_closes 101 = .ok (.iload_n 1, 1) := dk_27 (dk_at dksX4_closes_4 5 rfl rfl)
theorem dX4_closes_102 : decode cX4_closes 102 = .ok (.iconst 3, 1) := dk_6 (dk_at dksX4_closes_4 6 rfl rfl)
theorem dX4_closes_103 : decode cX4_closes 103 = .ok (.invokestatic 37, 3) := dk_184 0 37 (dk_at dksX4_closes_4 7 rfl rfl)
theorem dX4_closes_106 : decode cX4_closes 106 = .ok (.iaload, 1) := dk_46 (dk_at dksX4_closes_4 10 rfl rfl)
theorem dX4_closes_107 : decode cX4_closes 107 = .ok (.iadd, 1) := dk_96 (dk_at dksX4_closes_4 11 rfl rfl)
theorem dX4_closes_108 : decode cX4_closes 108 = .ok (.iastore, 1) := dk_79 (dk_at dksX4_closes_4 12 rfl rfl)
theorem dX4_closes_109 : decode cX4_closes 109 = .ok (.aload_n 0, 1) := dk_42 (dk_at dksX4_closes_4 13 rfl rfl)
theorem dX4_closes_110 : decode cX4_closes 110 = .ok (.getfield 7, 3) := dk_180 0 7 (dk_at dksX4_closes_4 14 rfl rfl)
theorem dX4_closes_113 : decode cX4_closes 113 = .ok (.iload_n 1, 1) := dk_27 (dk_at dksX4_closes_4 17 rfl rfl)
theorem dX4_closes_114 : decode cX4_closes 114 = .ok (.iconst 2, 1) := dk_5 (dk_at dksX4_closes_4 18 rfl rfl)
theorem dX4_closes_115 : decode cX4_closes 115 = .ok (.invokestatic 37, 3) := dk_184 0 37 (dk_at dksX4_closes_4 19 rfl rfl)
theorem dX4_closes_118 : decode cX4_closes 118 = .ok (.iconst 0, 1) := dk_3 (dk_at dksX4_closes_4 22 rfl rfl)
theorem dX4_closes_119 : decode cX4_closes 119 = .ok (.iastore, 1) := dk_79 (dk_at dksX4_closes_4 23 rfl rfl)
theorem dX4_closes_120 : decode cX4_closes 120 = .ok (.aload_n 0, 1) := dk_42 (dk_at dksX4_closes_5 0 rfl rfl)
theorem dX4_closes_121 : decode cX4_closes 121 = .ok (.getfield 7, 3) := dk_180 0 7 (dk_at dksX4_closes_5 1 rfl rfl)
theorem dX4_closes_124 : decode cX4_closes 124 = .ok (.iload_n 1, 1) := dk_27 (dk_at dksX4_closes_5 4 rfl rfl)
theorem dX4_closes_125 : decode cX4_closes 125 = .ok (.iconst 3, 1) := dk_6 (dk_at dksX4_closes_5 5 rfl rfl)
theorem dX4_closes_126 : decode cX4_closes 126 = .ok (.invokestatic 37, 3) := dk_184 0 37 (dk_at dksX4_closes_5 6 rfl rfl)
theorem dX4_closes_129 : decode cX4_closes 129 = .ok (.iconst 0, 1) := dk_3 (dk_at dksX4_closes_5 9 rfl rfl)
theorem dX4_closes_130 : decode cX4_closes 130 = .ok (.iastore, 1) := dk_79 (dk_at dksX4_closes_5 10 rfl rfl)
theorem dX4_closes_131 : decode cX4_closes 131 = .ok (.iconst 0, 1) := dk_3 (dk_at dksX4_closes_5 11 rfl rfl)
theorem dX4_closes_132 : decode cX4_closes 132 = .ok (.istore_n 3, 1) := dk_62 (dk_at dksX4_closes_5 12 rfl rfl)
theorem dX4_closes_133 : decode cX4_closes 133 = .ok (.iload_n 3, 1) := dk_29 (dk_at dksX4_closes_5 13 rfl rfl)
theorem dX4_closes_134 : decode cX4_closes 134 = .ok (.aload_n 0, 1) := dk_42 (dk_at dksX4_closes_5 14 rfl rfl)
theorem dX4_closes_135 : decode cX4_closes 135 = .ok (.getfield 7, 3) := dk_180 0 7 (dk_at dksX4_closes_5 15 rfl rfl)
theorem dX4_closes_138 : decode cX4_closes 138 = .ok (.iconst 0, 1) := dk_3 (dk_at dksX4_closes_5 18 rfl rfl)
theorem dX4_closes_139 : decode cX4_closes 139 = .ok (.iaload, 1) := dk_46 (dk_at dksX4_closes_5 19 rfl rfl)
theorem dX4_closes_140 : decode cX4_closes 140 = .ok (.if_icmp .ge 78, 3) := dk_162 0 78 (dk_at dksX4_closes_5 20 rfl rfl)
theorem dX4_closes_143 : decode cX4_closes 143 = .ok (.aload_n 0, 1) := dk_42 (dk_at dksX4_closes_5 23 rfl rfl)
theorem dX4_closes_144 : decode cX4_closes 144 = .ok (.getfield 7, 3) := dk_180 0 7 (dk_at dksX4_closes_6 0 rfl rfl)
theorem dX4_closes_147 : decode cX4_closes 147 = .ok (.iload_n 3, 1) := dk_29 (dk_at dksX4_closes_6 3 rfl rfl)
theorem dX4_closes_148 : decode cX4_closes 148 = .ok (.iconst 3, 1) := dk_6 (dk_at dksX4_closes_6 4 rfl rfl)
theorem dX4_closes_149 : decode cX4_closes 149 = .ok (.invokestatic 72, 3) := dk_184 0 72 (dk_at dksX4_closes_6 5 rfl rfl)
theorem dX4_closes_152 : decode cX4_closes 152 = .ok (.iaload, 1) := dk_46 (dk_at dksX4_closes_6 8 rfl rfl)
theorem dX4_closes_153 : decode cX4_closes 153 = .ok (.iload_n 1, 1) := dk_27 (dk_at dksX4_closes_6 9 rfl rfl)
theorem dX4_closes_154 : decode cX4_closes 154 = .ok (.iconst 1, 1) := dk_4 (dk_at dksX4_closes_6 10 rfl rfl)
theorem dX4_closes_155 : decode cX4_closes 155 = .ok (.iadd, 1) := dk_96 (dk_at dksX4_closes_6 11 rfl rfl)
theorem dX4_closes_156 : decode cX4_closes 156 = .ok (.if_icmp .ne 16, 3) := dk_160 0 16 (dk_at dksX4_closes_6 12 rfl rfl)
theorem dX4_closes_159 : decode cX4_closes 159 = .ok (.aload_n 0, 1) := dk_42 (dk_at dksX4_closes_6 15 rfl rfl)
theorem dX4_closes_160 : decode cX4_closes 160 = .ok (.getfield 7, 3) := dk_180 0 7 (dk_at dksX4_closes_6 16 rfl rfl)
theorem dX4_closes_163 : decode cX4_closes 163 = .ok (.iload_n 3, 1) := dk_29 (dk_at dksX4_closes_6 19 rfl rfl)
theorem dX4_closes_164 : decode cX4_closes 164 = .ok (.iconst 3, 1) := dk_6 (dk_at dksX4_closes_6 20 rfl rfl)
theorem dX4_closes_165 : decode cX4_closes 165 = .ok (.invokestatic 72, 3) := dk_184 0 72 (dk_at dksX4_closes_6 21 rfl rfl)
theorem dX4_closes_168 : decode cX4_closes 168 = .ok (.iload_n 2, 1) := dk_28 (dk_at dksX4_closes_7 0 rfl rfl)
theorem dX4_closes_169 : decode cX4_closes 169 = .ok (.iconst 1, 1) := dk_4 (dk_at dksX4_closes_7 1 rfl rfl)
theorem dX4_closes_170 : decode cX4_closes 170 = .ok (.iadd, 1) := dk_96 (dk_at dksX4_closes_7 2 rfl rfl)
theorem dX4_closes_171 : decode cX4_closes 171 = .ok (.iastore, 1) := dk_79 (dk_at dksX4_closes_7 3 rfl rfl)
theorem dX4_closes_172 : decode cX4_closes 172 = .ok (.aload_n 0, 1) := dk_42 (dk_at dksX4_closes_7 4 rfl rfl)
theorem dX4_closes_173 : decode cX4_closes 173 = .ok (.getfield 7, 3) := dk_180 0 7 (dk_at dksX4_closes_7 5 rfl rfl)
theorem dX4_closes_176 : decode cX4_closes 176 = .ok (.iload_n 3, 1) := dk_29 (dk_at dksX4_closes_7 8 rfl rfl)
theorem dX4_closes_177 : decode cX4_closes 177 = .ok (.bipush 6, 2) := dk_16 6 (dk_at dksX4_closes_7 9 rfl rfl)
theorem dX4_closes_179 : decode cX4_closes 179 = .ok (.invokestatic 72, 3) := dk_184 0 72 (dk_at dksX4_closes_7 11 rfl rfl)
theorem dX4_closes_182 : decode cX4_closes 182 = .ok (.iaload, 1) := dk_46 (dk_at dksX4_closes_7 14 rfl rfl)
theorem dX4_closes_183 : decode cX4_closes 183 = .ok (.iload_n 1, 1) := dk_27 (dk_at dksX4_closes_7 15 rfl rfl)
theorem dX4_closes_184 : decode cX4_closes 184 = .ok (.iconst 1, 1) := dk_4 (dk_at dksX4_closes_7 16 rfl rfl)
theorem dX4_closes_185 : decode cX4_closes 185 = .ok (.iadd, 1) := dk_96 (dk_at dksX4_closes_7 17 rfl rfl)
theorem dX4_closes_186 : decode cX4_closes 186 = .ok (.if_icmp .ne 26, 3) := dk_160 0 26 (dk_at dksX4_closes_7 18 rfl rfl)
theorem dX4_closes_189 : decode cX4_closes 189 = .ok (.aload_n 0, 1) := dk_42 (dk_at dksX4_closes_7 21 rfl rfl)
theorem dX4_closes_190 : decode cX4_closes 190 = .ok (.getfield 7, 3) := dk_180 0 7 (dk_at dksX4_closes_8 0 rfl rfl)
theorem dX4_closes_193 : decode cX4_closes 193 = .ok (.iload_n 3, 1) := dk_29 (dk_at dksX4_closes_8 3 rfl rfl)
theorem dX4_closes_194 : decode cX4_closes 194 = .ok (.bipush 6, 2) := dk_16 6 (dk_at dksX4_closes_8 4 rfl rfl)
theorem dX4_closes_196 : decode cX4_closes 196 = .ok (.invokestatic 72, 3) := dk_184 0 72 (dk_at dksX4_closes_8 6 rfl rfl)
theorem dX4_closes_199 : decode cX4_closes 199 = .ok (.iconst 0, 1) := dk_3 (dk_at dksX4_closes_8 9 rfl rfl)
theorem dX4_closes_200 : decode cX4_closes 200 = .ok (.iastore, 1) := dk_79 (dk_at dksX4_closes_8 10 rfl rfl)
theorem dX4_closes_201 : decode cX4_closes 201 = .ok (.aload_n 0, 1) := dk_42 (dk_at dksX4_closes_8 11 rfl rfl)
theorem dX4_closes_202 : decode cX4_closes 202 = .ok (.getfield 7, 3) := dk_180 0 7 (dk_at dksX4_closes_8 12 rfl rfl)
theorem dX4_closes_205 : decode cX4_closes 205 = .ok (.iload_n 3, 1) := dk_29 (dk_at dksX4_closes_8 15 rfl rfl)
theorem dX4_closes_206 : decode cX4_closes 206 = .ok (.iconst 5, 1) := dk_8 (dk_at dksX4_closes_8 16 rfl rfl)
theorem dX4_closes_207 : decode cX4_closes 207 = .ok (.invokestatic 72, 3) := dk_184 0 72 (dk_at dksX4_closes_8 17 rfl rfl)
theorem dX4_closes_210 : decode cX4_closes 210 = .ok (.iconst 0, 1) := dk_3 (dk_at dksX4_closes_8 20 rfl rfl)
theorem dX4_closes_211 : decode cX4_closes 211 = .ok (.iastore, 1) := dk_79 (dk_at dksX4_closes_8 21 rfl rfl)
theorem dX4_closes_212 : decode cX4_closes 212 = .ok (.iinc 3 1, 3) := dk_132 3 1 (dk_at dksX4_closes_9 0 rfl rfl)
theorem dX4_closes_215 : decode cX4_closes 215 = .ok (.goto (-82), 3) := dk_167 255 174 (dk_at dksX4_closes_9 3 rfl rfl)
theorem dX4_closes_218 : decode cX4_closes 218 = .ok (.aload_n 0, 1) := dk_42 (dk_at dksX4_closes_9 6 rfl rfl)
theorem dX4_closes_219 : decode cX4_closes 219 = .ok (.aload_n 0, 1) := dk_42 (dk_at dksX4_closes_9 7 rfl rfl)
theorem dX4_closes_220 : decode cX4_closes 220 = .ok (.iload_n 1, 1) := dk_27 (dk_at dksX4_closes_9 8 rfl rfl)
theorem dX4_closes_221 : decode cX4_closes 221 = .ok (.iload_n 2, 1) := dk_28 (dk_at dksX4_closes_9 9 rfl rfl)
theorem dX4_closes_222 : decode cX4_closes 222 = .ok (.invokevirtual 167, 3) := dk_182 0 167 (dk_at dksX4_closes_9 10 rfl rfl)
theorem dX4_closes_225 : decode cX4_closes 225 = .ok (.putfield 170, 3) := dk_181 0 170 (dk_at dksX4_closes_9 13 rfl rfl)
theorem dX4_closes_228 : decode cX4_closes 228 = .ok (.aload_n 0, 1) := dk_42 (dk_at dksX4_closes_9 16 rfl rfl)
theorem dX4_closes_229 : decode cX4_closes 229 = .ok (.iload_n 2, 1) := dk_28 (dk_at dksX4_closes_9 17 rfl rfl)
theorem dX4_closes_230 : decode cX4_closes 230 = .ok (.invokevirtual 173, 3) := dk_182 0 173 (dk_at dksX4_closes_9 18 rfl rfl)
theorem dX4_closes_233 : decode cX4_closes 233 = .ok (.iload_n 2, 1) := dk_28 (dk_at dksX4_closes_9 21 rfl rfl)
theorem dX4_closes_234 : decode cX4_closes 234 = .ok (.ireturn, 1) := dk_172 (dk_at dksX4_closes_9 22 rfl rfl)
abbrev cX4_opens : ByteArray := prog_16_method_13_code
def yX4_opens : MethodName := ⟨RX4, "opens", "()I"⟩
def dkwX4_opens_1 : List UInt8 := [132, 2, 1, 167, 255, 234, 27, 172]
abbrev dktX4_opens_1 : List UInt8 := dkwX4_opens_1 ++ []
def dkwX4_opens_0 : List UInt8 := [3, 60, 3, 61, 28, 16, 6, 162, 0, 22, 27, 42, 180, 0, 7, 28, 3, 184, 0, 37, 46, 96, 60]
abbrev dktX4_opens_0 : List UInt8 := dkwX4_opens_0 ++ dktX4_opens_1
theorem dksX4_opens_0 : cX4_opens.data.toList.drop 0 = dktX4_opens_0 := by decide +kernel
theorem dksX4_opens_1 : cX4_opens.data.toList.drop 23 = dktX4_opens_1 := dk_seg dksX4_opens_0 23 rfl rfl
theorem dX4_opens_0 : decode cX4_opens 0 = .ok (.iconst 0, 1) := dk_3 (dk_at dksX4_opens_0 0 rfl rfl)
theorem dX4_opens_1 : decode cX4_opens 1 = .ok (.istore_n 1, 1) := dk_60 (dk_at dksX4_opens_0 1 rfl rfl)
theorem dX4_opens_2 : decode cX4_opens 2 = .ok (.iconst 0, 1) := dk_3 (dk_at dksX4_opens_0 2 rfl rfl)
theorem dX4_opens_3 : decode cX4_opens 3 = .ok (.istore_n 2, 1) := dk_61 (dk_at dksX4_opens_0 3 rfl rfl)
theorem dX4_opens_4 : decode cX4_opens 4 = .ok (.iload_n 2, 1) := dk_28 (dk_at dksX4_opens_0 4 rfl rfl)
theorem dX4_opens_5 : decode cX4_opens 5 = .ok (.bipush 6, 2) := dk_16 6 (dk_at dksX4_opens_0 5 rfl rfl)
theorem dX4_opens_7 : decode cX4_opens 7 = .ok (.if_icmp .ge 22, 3) := dk_162 0 22 (dk_at dksX4_opens_0 7 rfl rfl)
theorem dX4_opens_10 : decode cX4_opens 10 = .ok (.iload_n 1, 1) := dk_27 (dk_at dksX4_opens_0 10 rfl rfl)
theorem dX4_opens_11 : decode cX4_opens 11 = .ok (.aload_n 0, 1) := dk_42 (dk_at dksX4_opens_0 11 rfl rfl)
theorem dX4_opens_12 : decode cX4_opens 12 = .ok (.getfield 7, 3) := dk_180 0 7 (dk_at dksX4_opens_0 12 rfl rfl)
theorem dX4_opens_15 : decode cX4_opens 15 = .ok (.iload_n 2, 1) := dk_28 (dk_at dksX4_opens_0 15 rfl rfl)
theorem dX4_opens_16 : decode cX4_opens 16 = .ok (.iconst 0, 1) := dk_3 (dk_at dksX4_opens_0 16 rfl rfl)
theorem dX4_opens_17 : decode cX4_opens 17 = .ok (.invokestatic 37, 3) := dk_184 0 37 (dk_at dksX4_opens_0 17 rfl rfl)
theorem dX4_opens_20 : decode cX4_opens 20 = .ok (.iaload, 1) := dk_46 (dk_at dksX4_opens_0 20 rfl rfl)
theorem dX4_opens_21 : decode cX4_opens 21 = .ok (.iadd, 1) := dk_96 (dk_at dksX4_opens_0 21 rfl rfl)
theorem dX4_opens_22 : decode cX4_opens 22 = .ok (.istore_n 1, 1) := dk_60 (dk_at dksX4_opens_0 22 rfl rfl)
theorem dX4_opens_23 : decode cX4_opens 23 = .ok (.iinc 2 1, 3) := dk_132 2 1 (dk_at dksX4_opens_1 0 rfl rfl)
theorem dX4_opens_26 : decode cX4_opens 26 = .ok (.goto (-22), 3) := dk_167 255 234 (dk_at dksX4_opens_1 3 rfl rfl)
theorem dX4_opens_29 : decode cX4_opens 29 = .ok (.iload_n 1, 1) := dk_27 (dk_at dksX4_opens_1 6 rfl rfl)
theorem dX4_opens_30 : decode cX4_opens 30 = .ok (.ireturn, 1) := dk_172 (dk_at dksX4_opens_1 7 rfl rfl)
abbrev cX4_inForce : ByteArray := prog_16_method_44_code
def yX4_inForce : MethodName := ⟨RX4, "inForce", "(I)I"⟩
def dkwX4_inForce_3 : List UInt8 := [28, 172]
abbrev dktX4_inForce_3 : List UInt8 := dkwX4_inForce_3 ++ []
def dkwX4_inForce_2 : List UInt8 := [167, 255, 221, 3, 61, 28, 27, 159, 0, 11, 42, 28, 182, 0, 89, 154, 0, 9, 132, 2, 1, 167, 255, 240]
abbrev dktX4_inForce_2 : List UInt8 := dkwX4_inForce_2 ++ dktX4_inForce_3
def dkwX4_inForce_1 : List UInt8 := [42, 28, 182, 0, 89, 153, 0, 5, 28, 172, 42, 180, 0, 7, 28, 4, 184, 0, 37, 46, 61, 132, 3, 1]
abbrev dktX4_inForce_1 : List UInt8 := dkwX4_inForce_1 ++ dktX4_inForce_2
def dkwX4_inForce_0 : List UInt8 := [42, 180, 0, 7, 27, 4, 184, 0, 37, 46, 61, 3, 62, 29, 16, 6, 162, 0, 35, 28, 27, 159, 0, 13]
abbrev dktX4_inForce_0 : List UInt8 := dkwX4_inForce_0 ++ dktX4_inForce_1
theorem dksX4_inForce_0 : cX4_inForce.data.toList.drop 0 = dktX4_inForce_0 := by decide +kernel
theorem dksX4_inForce_1 : cX4_inForce.data.toList.drop 24 = dktX4_inForce_1 := dk_seg dksX4_inForce_0 24 rfl rfl
theorem dksX4_inForce_2 : cX4_inForce.data.toList.drop 48 = dktX4_inForce_2 := dk_seg dksX4_inForce_1 24 rfl rfl
theorem dksX4_inForce_3 : cX4_inForce.data.toList.drop 72 = dktX4_inForce_3 := dk_seg dksX4_inForce_2 24 rfl rfl
theorem dX4_inForce_0 : decode cX4_inForce 0 = .ok (.aload_n 0, 1) := dk_42 (dk_at dksX4_inForce_0 0 rfl rfl)
theorem dX4_inForce_1 : decode cX4_inForce 1 = .ok (.getfield 7, 3) := dk_180 0 7 (dk_at dksX4_inForce_0 1 rfl rfl)
theorem dX4_inForce_4 : decode cX4_inForce 4 = .ok (.iload_n 1, 1) := dk_27 (dk_at dksX4_inForce_0 4 rfl rfl)
theorem dX4_inForce_5 : decode cX4_inForce 5 = .ok (.iconst 1, 1) := dk_4 (dk_at dksX4_inForce_0 5 rfl rfl)
theorem dX4_inForce_6 : decode cX4_inForce 6 = .ok (.invokestatic 37, 3) := dk_184 0 37 (dk_at dksX4_inForce_0 6 rfl rfl)
theorem dX4_inForce_9 : decode cX4_inForce 9 = .ok (.iaload, 1) := dk_46 (dk_at dksX4_inForce_0 9 rfl rfl)
theorem dX4_inForce_10 : decode cX4_inForce 10 = .ok (.istore_n 2, 1) := dk_61 (dk_at dksX4_inForce_0 10 rfl rfl)
theorem dX4_inForce_11 : decode cX4_inForce 11 = .ok (.iconst 0, 1) := dk_3 (dk_at dksX4_inForce_0 11 rfl rfl)
theorem dX4_inForce_12 : decode cX4_inForce 12 = .ok (.istore_n 3, 1) := dk_62 (dk_at dksX4_inForce_0 12 rfl rfl)
theorem dX4_inForce_13 : decode cX4_inForce 13 = .ok (.iload_n 3, 1) := dk_29 (dk_at dksX4_inForce_0 13 rfl rfl)
theorem dX4_inForce_14 : decode cX4_inForce 14 = .ok (.bipush 6, 2) := dk_16 6 (dk_at dksX4_inForce_0 14 rfl rfl)
theorem dX4_inForce_16 : decode cX4_inForce 16 = .ok (.if_icmp .ge 35, 3) := dk_162 0 35 (dk_at dksX4_inForce_0 16 rfl rfl)
theorem dX4_inForce_19 : decode cX4_inForce 19 = .ok (.iload_n 2, 1) := dk_28 (dk_at dksX4_inForce_0 19 rfl rfl)
theorem dX4_inForce_20 : decode cX4_inForce 20 = .ok (.iload_n 1, 1) := dk_27 (dk_at dksX4_inForce_0 20 rfl rfl)
theorem dX4_inForce_21 : decode cX4_inForce 21 = .ok (.if_icmp .eq 13, 3) := dk_159 0 13 (dk_at dksX4_inForce_0 21 rfl rfl)
theorem dX4_inForce_24 : decode cX4_inForce 24 = .ok (.aload_n 0, 1) := dk_42 (dk_at dksX4_inForce_1 0 rfl rfl)
theorem dX4_inForce_25 : decode cX4_inForce 25 = .ok (.iload_n 2, 1) := dk_28 (dk_at dksX4_inForce_1 1 rfl rfl)
theorem dX4_inForce_26 : decode cX4_inForce 26 = .ok (.invokevirtual 89, 3) := dk_182 0 89 (dk_at dksX4_inForce_1 2 rfl rfl)
theorem dX4_inForce_29 : decode cX4_inForce 29 = .ok (.ifCond .eq 5, 3) := dk_153 0 5 (dk_at dksX4_inForce_1 5 rfl rfl)
theorem dX4_inForce_32 : decode cX4_inForce 32 = .ok (.iload_n 2, 1) := dk_28 (dk_at dksX4_inForce_1 8 rfl rfl)
theorem dX4_inForce_33 : decode cX4_inForce 33 = .ok (.ireturn, 1) := dk_172 (dk_at dksX4_inForce_1 9 rfl rfl)
theorem dX4_inForce_34 : decode cX4_inForce 34 = .ok (.aload_n 0, 1) := dk_42 (dk_at dksX4_inForce_1 10 rfl rfl)
theorem dX4_inForce_35 : decode cX4_inForce 35 = .ok (.getfield 7, 3) := dk_180 0 7 (dk_at dksX4_inForce_1 11 rfl rfl)
theorem dX4_inForce_38 : decode cX4_inForce 38 = .ok (.iload_n 2, 1) := dk_28 (dk_at dksX4_inForce_1 14 rfl rfl)
theorem dX4_inForce_39 : decode cX4_inForce 39 = .ok (.iconst 1, 1) := dk_4 (dk_at dksX4_inForce_1 15 rfl rfl)
theorem dX4_inForce_40 : decode cX4_inForce 40 = .ok (.invokestatic 37, 3) := dk_184 0 37 (dk_at dksX4_inForce_1 16 rfl rfl)
theorem dX4_inForce_43 : decode cX4_inForce 43 = .ok (.iaload, 1) := dk_46 (dk_at dksX4_inForce_1 19 rfl rfl)
theorem dX4_inForce_44 : decode cX4_inForce 44 = .ok (.istore_n 2, 1) := dk_61 (dk_at dksX4_inForce_1 20 rfl rfl)
theorem dX4_inForce_45 : decode cX4_inForce 45 = .ok (.iinc 3 1, 3) := dk_132 3 1 (dk_at dksX4_inForce_1 21 rfl rfl)
theorem dX4_inForce_48 : decode cX4_inForce 48 = .ok (.goto (-35), 3) := dk_167 255 221 (dk_at dksX4_inForce_2 0 rfl rfl)
theorem dX4_inForce_51 : decode cX4_inForce 51 = .ok (.iconst 0, 1) := dk_3 (dk_at dksX4_inForce_2 3 rfl rfl)
theorem dX4_inForce_52 : decode cX4_inForce 52 = .ok (.istore_n 2, 1) := dk_61 (dk_at dksX4_inForce_2 4 rfl rfl)
theorem dX4_inForce_53 : decode cX4_inForce 53 = .ok (.iload_n 2, 1) := dk_28 (dk_at dksX4_inForce_2 5 rfl rfl)
theorem dX4_inForce_54 : decode cX4_inForce 54 = .ok (.iload_n 1, 1) := dk_27 (dk_at dksX4_inForce_2 6 rfl rfl)
theorem dX4_inForce_55 : decode cX4_inForce 55 = .ok (.if_icmp .eq 11, 3) := dk_159 0 11 (dk_at dksX4_inForce_2 7 rfl rfl)
theorem dX4_inForce_58 : decode cX4_inForce 58 = .ok (.aload_n 0, 1) := dk_42 (dk_at dksX4_inForce_2 10 rfl rfl)
theorem dX4_inForce_59 : decode cX4_inForce 59 = .ok (.iload_n 2, 1) := dk_28 (dk_at dksX4_inForce_2 11 rfl rfl)
theorem dX4_inForce_60 : decode cX4_inForce 60 = .ok (.invokevirtual 89, 3) := dk_182 0 89 (dk_at dksX4_inForce_2 12 rfl rfl)
theorem dX4_inForce_63 : decode cX4_inForce 63 = .ok (.ifCond .ne 9, 3) := dk_154 0 9 (dk_at dksX4_inForce_2 15 rfl rfl)
theorem dX4_inForce_66 : decode cX4_inForce 66 = .ok (.iinc 2 1, 3) := dk_132 2 1 (dk_at dksX4_inForce_2 18 rfl rfl)
theorem dX4_inForce_69 : decode cX4_inForce 69 = .ok (.goto (-16), 3) := dk_167 255 240 (dk_at dksX4_inForce_2 21 rfl rfl)
theorem dX4_inForce_72 : decode cX4_inForce 72 = .ok (.iload_n 2, 1) := dk_28 (dk_at dksX4_inForce_3 0 rfl rfl)
theorem dX4_inForce_73 : decode cX4_inForce 73 = .ok (.ireturn, 1) := dk_172 (dk_at dksX4_inForce_3 1 rfl rfl)
abbrev cX4_inheritsStubs : ByteArray := prog_16_method_45_code
def yX4_inheritsStubs : MethodName := ⟨RX4, "inheritsStubs", "(II)I"⟩
def dkwX4_inheritsStubs_4 : List UInt8 := [21, 5, 96, 79, 42, 21, 4, 182, 0, 114, 132, 3, 1, 167, 255, 154, 29, 172]
abbrev dktX4_inheritsStubs_4 : List UInt8 := dkwX4_inheritsStubs_4 ++ []
def dkwX4_inheritsStubs_3 : List UInt8 := [3, 184, 0, 72, 28, 79, 132, 4, 1, 167, 0, 27, 42, 180, 0, 7, 28, 5, 184, 0, 37, 92, 46]
abbrev dktX4_inheritsStubs_3 : List UInt8 := dkwX4_inheritsStubs_3 ++ dktX4_inheritsStubs_4
def dkwX4_inheritsStubs_2 : List UInt8 := [167, 0, 60, 42, 28, 182, 0, 75, 21, 5, 96, 4, 96, 16, 60, 163, 0, 21, 42, 180, 0, 7, 21, 4]
abbrev dktX4_inheritsStubs_2 : List UInt8 := dkwX4_inheritsStubs_2 ++ dktX4_inheritsStubs_3
def dkwX4_inheritsStubs_1 : List UInt8 := [184, 0, 72, 46, 54, 5, 42, 180, 0, 7, 21, 4, 3, 184, 0, 72, 46, 27, 159, 0, 9, 132, 4, 1]
abbrev dktX4_inheritsStubs_1 : List UInt8 := dkwX4_inheritsStubs_1 ++ dktX4_inheritsStubs_2
def dkwX4_inheritsStubs_0 : List UInt8 := [3, 62, 3, 54, 4, 21, 4, 42, 180, 0, 7, 3, 46, 162, 0, 97, 42, 180, 0, 7, 21, 4, 4]
abbrev dktX4_inheritsStubs_0 : List UInt8 := dkwX4_inheritsStubs_0 ++ dktX4_inheritsStubs_1
theorem dksX4_inheritsStubs_0 : cX4_inheritsStubs.data.toList.drop 0 = dktX4_inheritsStubs_0 := by decide +kernel
theorem dksX4_inheritsStubs_1 : cX4_inheritsStubs.data.toList.drop 23 = dktX4_inheritsStubs_1 := dk_seg dksX4_inheritsStubs_0 23 rfl rfl
theorem dksX4_inheritsStubs_2 : cX4_inheritsStubs.data.toList.drop 47 = dktX4_inheritsStubs_2 := dk_seg dksX4_inheritsStubs_1 24 rfl rfl
theorem dksX4_inheritsStubs_3 : cX4_inheritsStubs.data.toList.drop 71 = dktX4_inheritsStubs_3 := dk_seg dksX4_inheritsStubs_2 24 rfl rfl
theorem dksX4_inheritsStubs_4 : cX4_inheritsStubs.data.toList.drop 94 = dktX4_inheritsStubs_4 := dk_seg dksX4_inheritsStubs_3 23 rfl rfl
theorem dX4_inheritsStubs_0 : decode cX4_inheritsStubs 0 = .ok (.iconst 0, 1) := dk_3 (dk_at dksX4_inheritsStubs_0 0 rfl rfl)
theorem dX4_inheritsStubs_1 : decode cX4_inheritsStubs 1 = .ok (.istore_n 3, 1) := dk_62 (dk_at dksX4_inheritsStubs_0 1 rfl rfl)
theorem dX4_inheritsStubs_2 : decode cX4_inheritsStubs 2 = .ok (.iconst 0, 1) := dk_3 (dk_at dksX4_inheritsStubs_0 2 rfl rfl)
theorem dX4_inheritsStubs_3 : decode cX4_inheritsStubs 3 = .ok (.istore 4, 2) := dk_54 4 (dk_at dksX4_inheritsStubs_0 3 rfl rfl)
theorem dX4_inheritsStubs_5 : decode cX4_inheritsStubs 5 = .ok (.iload 4, 2) := dk_21 4 (dk_at dksX4_inheritsStubs_0 5 rfl rfl)
theorem dX4_inheritsStubs_7 : decode cX4_inheritsStubs 7 = .ok (.aload_n 0, 1) := dk_42 (dk_at dksX4_inheritsStubs_0 7 rfl rfl)
theorem dX4_inheritsStubs_8 : decode cX4_inheritsStubs 8 = .ok (.getfield 7, 3) := dk_180 0 7 (dk_at dksX4_inheritsStubs_0 8 rfl rfl)
theorem dX4_inheritsStubs_11 : decode cX4_inheritsStubs 11 = .ok (.iconst 0, 1) := dk_3 (dk_at dksX4_inheritsStubs_0 11 rfl rfl)
theorem dX4_inheritsStubs_12 : decode cX4_inheritsStubs 12 = .ok (.iaload, 1) := dk_46 (dk_at dksX4_inheritsStubs_0 12 rfl rfl)
theorem dX4_inheritsStubs_13 : decode cX4_inheritsStubs 13 = .ok (.if_icmp .ge 97, 3) := dk_162 0 97 (dk_at dksX4_inheritsStubs_0 13 rfl rfl)
theorem dX4_inheritsStubs_16 : decode cX4_inheritsStubs 16 = .ok (.aload_n 0, 1) := dk_42 (dk_at dksX4_inheritsStubs_0 16 rfl rfl)
theorem dX4_inheritsStubs_17 : decode cX4_inheritsStubs 17 = .ok (.getfield 7, 3) := dk_180 0 7 (dk_at dksX4_inheritsStubs_0 17 rfl rfl)
theorem dX4_inheritsStubs_20 : decode cX4_inheritsStubs 20 = .ok (.iload 4, 2) := dk_21 4 (dk_at dksX4_inheritsStubs_0 20 rfl rfl)
theorem dX4_inheritsStubs_22 : decode cX4_inheritsStubs 22 = .ok (.iconst 1, 1) := dk_4 (dk_at dksX4_inheritsStubs_0 22 rfl rfl)
theorem dX4_inheritsStubs_23 : decode cX4_inheritsStubs 23 = .ok (.invokestatic 72, 3) := dk_184 0 72 (dk_at dksX4_inheritsStubs_1 0 rfl rfl)
theorem dX4_inheritsStubs_26 : decode cX4_inheritsStubs 26 = .ok (.iaload, 1) := dk_46 (dk_at dksX4_inheritsStubs_1 3 rfl rfl)
theorem dX4_inheritsStubs_27 : decode cX4_inheritsStubs 27 = .ok (.istore 5, 2) := dk_54 5 (dk_at dksX4_inheritsStubs_1 4 rfl rfl)
theorem dX4_inheritsStubs_29 : decode cX4_inheritsStubs 29 = .ok (.aload_n 0, 1) := dk_42 (dk_at dksX4_inheritsStubs_1 6 rfl rfl)
theorem dX4_inheritsStubs_30 : decode cX4_inheritsStubs 30 = .ok (.getfield 7, 3) := dk_180 0 7 (dk_at dksX4_inheritsStubs_1 7 rfl rfl)
theorem dX4_inheritsStubs_33 : decode cX4_inheritsStubs 33 = .ok (.iload 4, 2) := dk_21 4 (dk_at dksX4_inheritsStubs_1 10 rfl rfl)
theorem dX4_inheritsStubs_35 : decode cX4_inheritsStubs 35 = .ok (.iconst 0, 1) := dk_3 (dk_at dksX4_inheritsStubs_1 12 rfl rfl)
theorem dX4_inheritsStubs_36 : decode cX4_inheritsStubs 36 = .ok (.invokestatic 72, 3) := dk_184 0 72 (dk_at dksX4_inheritsStubs_1 13 rfl rfl)
theorem dX4_inheritsStubs_39 : decode cX4_inheritsStubs 39 = .ok (.iaload, 1) := dk_46 (dk_at dksX4_inheritsStubs_1 16 rfl rfl)
theorem dX4_inheritsStubs_40 : decode cX4_inheritsStubs 40 = .ok (.iload_n 1, 1) := dk_27 (dk_at dksX4_inheritsStubs_1 17 rfl rfl)
theorem dX4_inheritsStubs_41 : decode cX4_inheritsStubs 41 = .ok (.if_icmp .eq 9, 3) := dk_159 0 9 (dk_at dksX4_inheritsStubs_1 18 rfl rfl)
theorem dX4_inheritsStubs_44 : decode cX4_inheritsStubs 44 = .ok (.iinc 4 1, 3) := dk_132 4 1 (dk_at dksX4_inheritsStubs_1 21 rfl rfl)
theorem dX4_inheritsStubs_47 : decode cX4_inheritsStubs 47 = .ok (.goto 60, 3) := dk_167 0 60 (dk_at dksX4_inheritsStubs_2 0 rfl rfl)
theorem dX4_inheritsStubs_50 : decode cX4_inheritsStubs 50 = .ok (.aload_n 0, 1) := dk_42 (dk_at dksX4_inheritsStubs_2 3 rfl rfl)
theorem dX4_inheritsStubs_51 : decode cX4_inheritsStubs 51 = .ok (.iload_n 2, 1) := dk_28 (dk_at dksX4_inheritsStubs_2 4 rfl rfl)
theorem dX4_inheritsStubs_52 : decode cX4_inheritsStubs 52 = .ok (.invokevirtual 75, 3) := dk_182 0 75 (dk_at dksX4_inheritsStubs_2 5 rfl rfl)
theorem dX4_inheritsStubs_55 : decode cX4_inheritsStubs 55 = .ok (.iload 5, 2) := dk_21 5 (dk_at dksX4_inheritsStubs_2 8 rfl rfl)
theorem dX4_inheritsStubs_57 : decode cX4_inheritsStubs 57 = .ok (.iadd, 1) := dk_96 (dk_at dksX4_inheritsStubs_2 10 rfl rfl)
theorem dX4_inheritsStubs_58 : decode cX4_inheritsStubs 58 = .ok (.iconst 1, 1) := dk_4 (dk_at dksX4_inheritsStubs_2 11 rfl rfl)
theorem dX4_inheritsStubs_59 : decode cX4_inheritsStubs 59 = .ok (.iadd, 1) := dk_96 (dk_at dksX4_inheritsStubs_2 12 rfl rfl)
theorem dX4_inheritsStubs_60 : decode cX4_inheritsStubs 60 = .ok (.bipush 60, 2) := dk_16 60 (dk_at dksX4_inheritsStubs_2 13 rfl rfl)
theorem dX4_inheritsStubs_62 : decode cX4_inheritsStubs 62 = .ok (.if_icmp .gt 21, 3) := dk_163 0 21 (dk_at dksX4_inheritsStubs_2 15 rfl rfl)
theorem dX4_inheritsStubs_65 : decode cX4_inheritsStubs 65 = .ok (.aload_n 0, 1) := dk_42 (dk_at dksX4_inheritsStubs_2 18 rfl rfl)
theorem dX4_inheritsStubs_66 : decode cX4_inheritsStubs 66 = .ok (.getfield 7, 3) := dk_180 0 7 (dk_at dksX4_inheritsStubs_2 19 rfl rfl)
theorem dX4_inheritsStubs_69 : decode cX4_inheritsStubs 69 = .ok (.iload 4, 2) := dk_21 4 (dk_at dksX4_inheritsStubs_2 22 rfl rfl)
theorem dX4_inheritsStubs_71 : decode cX4_inheritsStubs 71 = .ok (.iconst 0, 1) := dk_3 (dk_at dksX4_inheritsStubs_3 0 rfl rfl)
theorem dX4_inheritsStubs_72 : decode cX4_inheritsStubs 72 = .ok (.invokestatic 72, 3) := dk_184 0 72 (dk_at dksX4_inheritsStubs_3 1 rfl rfl)
theorem dX4_inheritsStubs_75 : decode cX4_inheritsStubs 75 = .ok (.iload_n 2, 1) := dk_28 (dk_at dksX4_inheritsStubs_3 4 rfl rfl)
theorem dX4_inheritsStubs_76 : decode cX4_inheritsStubs 76 = .ok (.iastore, 1) := dk_79 (dk_at dksX4_inheritsStubs_3 5 rfl rfl)
theorem dX4_inheritsStubs_77 : decode cX4_inheritsStubs 77 = .ok (.iinc 4 1, 3) := dk_132 4 1 (dk_at dksX4_inheritsStubs_3 6 rfl rfl)
theorem dX4_inheritsStubs_80 : decode cX4_inheritsStubs 80 = .ok (.goto 27, 3) := dk_167 0 27 (dk_at dksX4_inheritsStubs_3 9 rfl rfl)
theorem dX4_inheritsStubs_83 : decode cX4_inheritsStubs 83 = .ok (.aload_n 0, 1) := dk_42 (dk_at dksX4_inheritsStubs_3 12 rfl rfl)
theorem dX4_inheritsStubs_84 : decode cX4_inheritsStubs 84 = .ok (.getfield 7, 3) := dk_180 0 7 (dk_at dksX4_inheritsStubs_3 13 rfl rfl)
theorem dX4_inheritsStubs_87 : decode cX4_inheritsStubs 87 = .ok (.iload_n 2, 1) := dk_28 (dk_at dksX4_inheritsStubs_3 16 rfl rfl)
theorem dX4_inheritsStubs_88 : decode cX4_inheritsStubs 88 = .ok (.iconst 2, 1) := dk_5 (dk_at dksX4_inheritsStubs_3 17 rfl rfl)
theorem dX4_inheritsStubs_89 : decode cX4_inheritsStubs 89 = .ok (.invokestatic 37, 3) := dk_184 0 37 (dk_at dksX4_inheritsStubs_3 18 rfl rfl)
theorem dX4_inheritsStubs_92 : decode cX4_inheritsStubs 92 = .ok (.dup2, 1) := dk_92 (dk_at dksX4_inheritsStubs_3 21 rfl rfl)
theorem dX4_inheritsStubs_93 : decode cX4_inheritsStubs 93 = .ok (.iaload, 1) := dk_46 (dk_at dksX4_inheritsStubs_3 22 rfl rfl)
theorem dX4_inheritsStubs_94 : decode cX4_inheritsStubs 94 = .ok (.iload 5, 2) := dk_21 5 (dk_at dksX4_inheritsStubs_4 0 rfl rfl)
theorem dX4_inheritsStubs_96 : decode cX4_inheritsStubs 96 = .ok (.iadd, 1) := dk_96 (dk_at dksX4_inheritsStubs_4 2 rfl rfl)
theorem dX4_inheritsStubs_97 : decode cX4_inheritsStubs 97 = .ok (.iastore, 1) := dk_79 (dk_at dksX4_inheritsStubs_4 3 rfl rfl)
theorem dX4_inheritsStubs_98 : decode cX4_inheritsStubs 98 = .ok (.aload_n 0, 1) := dk_42 (dk_at dksX4_inheritsStubs_4 4 rfl rfl)
theorem dX4_inheritsStubs_99 : decode cX4_inheritsStubs 99 = .ok (.iload 4, 2) := dk_21 4 (dk_at dksX4_inheritsStubs_4 5 rfl rfl)
theorem dX4_inheritsStubs_101 : decode cX4_inheritsStubs 101 = .ok (.invokevirtual 114, 3) := dk_182 0 114 (dk_at dksX4_inheritsStubs_4 7 rfl rfl)
theorem dX4_inheritsStubs_104 : decode cX4_inheritsStubs 104 = .ok (.iinc 3 1, 3) := dk_132 3 1 (dk_at dksX4_inheritsStubs_4 10 rfl rfl)
theorem dX4_inheritsStubs_107 : decode cX4_inheritsStubs 107 = .ok (.goto (-102), 3) := dk_167 255 154 (dk_at dksX4_inheritsStubs_4 13 rfl rfl)
theorem dX4_inheritsStubs_110 : decode cX4_inheritsStubs 110 = .ok (.iload_n 3, 1) := dk_29 (dk_at dksX4_inheritsStubs_4 16 rfl rfl)
theorem dX4_inheritsStubs_111 : decode cX4_inheritsStubs 111 = .ok (.ireturn, 1) := dk_172 (dk_at dksX4_inheritsStubs_4 17 rfl rfl)
abbrev cX4_frees : ByteArray := prog_16_method_46_code
def yX4_frees : MethodName := ⟨RX4, "frees", "(I)V"⟩
def dkwX4_frees_5 : List UInt8 := [184, 0, 72, 3, 79, 42, 180, 0, 7, 28, 8, 184, 0, 72, 3, 79, 132, 2, 1, 167, 255, 126, 177]
abbrev dktX4_frees_5 : List UInt8 := dkwX4_frees_5 ++ []
def dkwX4_frees_4 : List UInt8 := [180, 0, 7, 28, 7, 184, 0, 72, 3, 79, 21, 4, 153, 0, 26, 42, 180, 0, 7, 28, 16, 6]
abbrev dktX4_frees_4 : List UInt8 := dkwX4_frees_4 ++ dktX4_frees_5
def dkwX4_frees_3 : List UInt8 := [167, 0, 4, 3, 54, 4, 29, 153, 0, 25, 42, 180, 0, 7, 28, 6, 184, 0, 72, 3, 79, 42]
abbrev dktX4_frees_3 : List UInt8 := dkwX4_frees_3 ++ dktX4_frees_4
def dkwX4_frees_2 : List UInt8 := [167, 0, 4, 3, 62, 42, 180, 0, 7, 28, 16, 6, 184, 0, 72, 46, 27, 4, 96, 160, 0, 7, 4]
abbrev dktX4_frees_2 : List UInt8 := dkwX4_frees_2 ++ dktX4_frees_3
def dkwX4_frees_1 : List UInt8 := [159, 0, 6, 167, 0, 103, 42, 180, 0, 7, 28, 6, 184, 0, 72, 46, 27, 4, 96, 160, 0, 7, 4]
abbrev dktX4_frees_1 : List UInt8 := dkwX4_frees_1 ++ dktX4_frees_2
def dkwX4_frees_0 : List UInt8 := [3, 61, 28, 42, 180, 0, 7, 3, 46, 162, 0, 126, 42, 180, 0, 7, 28, 3, 184, 0, 72, 46, 27]
abbrev dktX4_frees_0 : List UInt8 := dkwX4_frees_0 ++ dktX4_frees_1
theorem dksX4_frees_0 : cX4_frees.data.toList.drop 0 = dktX4_frees_0 := by decide +kernel
theorem dksX4_frees_1 : cX4_frees.data.toList.drop 23 = dktX4_frees_1 := dk_seg dksX4_frees_0 23 rfl rfl
theorem dksX4_frees_2 : cX4_frees.data.toList.drop 46 = dktX4_frees_2 := dk_seg dksX4_frees_1 23 rfl rfl
theorem dksX4_frees_3 : cX4_frees.data.toList.drop 69 = dktX4_frees_3 := dk_seg dksX4_frees_2 23 rfl rfl
theorem dksX4_frees_4 : cX4_frees.data.toList.drop 91 = dktX4_frees_4 := dk_seg dksX4_frees_3 22 rfl rfl
theorem dksX4_frees_5 : cX4_frees.data.toList.drop 113 = dktX4_frees_5 := dk_seg dksX4_frees_4 22 rfl rfl
theorem dX4_frees_0 : decode cX4_frees 0 = .ok (.iconst 0, 1) := dk_3 (dk_at dksX4_frees_0 0 rfl rfl)
theorem dX4_frees_1 : decode cX4_frees 1 = .ok (.istore_n 2, 1) := dk_61 (dk_at dksX4_frees_0 1 rfl rfl)
theorem dX4_frees_2 : decode cX4_frees 2 = .ok (.iload_n 2, 1) := dk_28 (dk_at dksX4_frees_0 2 rfl rfl)
theorem dX4_frees_3 : decode cX4_frees 3 = .ok (.aload_n 0, 1) := dk_42 (dk_at dksX4_frees_0 3 rfl rfl)
theorem dX4_frees_4 : decode cX4_frees 4 = .ok (.getfield 7, 3) := dk_180 0 7 (dk_at dksX4_frees_0 4 rfl rfl)
theorem dX4_frees_7 : decode cX4_frees 7 = .ok (.iconst 0, 1) := dk_3 (dk_at dksX4_frees_0 7 rfl rfl)
theorem dX4_frees_8 : decode cX4_frees 8 = .ok (.iaload, 1) := dk_46 (dk_at dksX4_frees_0 8 rfl rfl)
theorem dX4_frees_9 : decode cX4_frees 9 = .ok (.if_icmp .ge 126, 3) := dk_162 0 126 (dk_at dksX4_frees_0 9 rfl rfl)
theorem dX4_frees_12 : decode cX4_frees 12 = .ok (.aload_n 0, 1) := dk_42 (dk_at dksX4_frees_0 12 rfl rfl)
theorem dX4_frees_13 : decode cX4_frees 13 = .ok (.getfield 7, 3) := dk_180 0 7 (dk_at dksX4_frees_0 13 rfl rfl)
theorem dX4_frees_16 : decode cX4_frees 16 = .ok (.iload_n 2, 1) := dk_28 (dk_at dksX4_frees_0 16 rfl rfl)
theorem dX4_frees_17 : decode cX4_frees 17 = .ok (.iconst 0, 1) := dk_3 (dk_at dksX4_frees_0 17 rfl rfl)
theorem dX4_frees_18 : decode cX4_frees 18 = .ok (.invokestatic 72, 3) := dk_184 0 72 (dk_at dksX4_frees_0 18 rfl rfl)
theorem dX4_frees_21 : decode cX4_frees 21 = .ok (.iaload, 1) := dk_46 (dk_at dksX4_frees_0 21 rfl rfl)
theorem dX4_frees_22 : decode cX4_frees 22 = .ok (.iload_n 1, 1) := dk_27 (dk_at dksX4_frees_0 22 rfl rfl)
theorem dX4_frees_23 : decode cX4_frees 23 = .ok (.if_icmp .eq 6, 3) := dk_159 0 6 (dk_at dksX4_frees_1 0 rfl rfl)
theorem dX4_frees_26 : decode cX4_frees 26 = .ok (.goto 103, 3) := dk_167 0 103 (dk_at dksX4_frees_1 3 rfl rfl)
theorem dX4_frees_29 : decode cX4_frees 29 = .ok (.aload_n 0, 1) := dk_42 (dk_at dksX4_frees_1 6 rfl rfl)
theorem dX4_frees_30 : decode cX4_frees 30 = .ok (.getfield 7, 3) := dk_180 0 7 (dk_at dksX4_frees_1 7 rfl rfl)
theorem dX4_frees_33 : decode cX4_frees 33 = .ok (.iload_n 2, 1) := dk_28 (dk_at dksX4_frees_1 10 rfl rfl)
theorem dX4_frees_34 : decode cX4_frees 34 = .ok (.iconst 3, 1) := dk_6 (dk_at dksX4_frees_1 11 rfl rfl)
theorem dX4_frees_35 : decode cX4_frees 35 = .ok (.invokestatic 72, 3) := dk_184 0 72 (dk_at dksX4_frees_1 12 rfl rfl)
theorem dX4_frees_38 : decode cX4_frees 38 = .ok (.iaload, 1) := dk_46 (dk_at dksX4_frees_1 15 rfl rfl)
theorem dX4_frees_39 : decode cX4_frees 39 = .ok (.iload_n 1, 1) := dk_27 (dk_at dksX4_frees_1 16 rfl rfl)
theorem dX4_frees_40 : decode cX4_frees 40 = .ok (.iconst 1, 1) := dk_4 (dk_at dksX4_frees_1 17 rfl rfl)
theorem dX4_frees_41 : decode cX4_frees 41 = .ok (.iadd, 1) := dk_96 (dk_at dksX4_frees_1 18 rfl rfl)
theorem dX4_frees_42 : decode cX4_frees 42 = .ok (.if_icmp .ne 7, 3) := dk_160 0 7 (dk_at dksX4_frees_1 19 rfl rfl)
theorem dX4_frees_45 : decode cX4_frees 45 = .ok (.iconst 1, 1) := dk_4 (dk_at dksX4_frees_1 22 rfl rfl)
theorem dX4_frees_46 : decode cX4_frees 46 = .ok (.goto 4, 3) := dk_167 0 4 (dk_at dksX4_frees_2 0 rfl rfl)
theorem dX4_frees_49 : decode cX4_frees 49 = .ok (.iconst 0, 1) := dk_3 (dk_at dksX4_frees_2 3 rfl rfl)
theorem dX4_frees_50 : decode cX4_frees 50 = .ok (.istore_n 3, 1) := dk_62 (dk_at dksX4_frees_2 4 rfl rfl)
theorem dX4_frees_51 : decode cX4_frees 51 = .ok (.aload_n 0, 1) := dk_42 (dk_at dksX4_frees_2 5 rfl rfl)
theorem dX4_frees_52 : decode cX4_frees 52 = .ok (.getfield 7, 3) := dk_180 0 7 (dk_at dksX4_frees_2 6 rfl rfl)
theorem dX4_frees_55 : decode cX4_frees 55 = .ok (.iload_n 2, 1) := dk_28 (dk_at dksX4_frees_2 9 rfl rfl)
theorem dX4_frees_56 : decode cX4_frees 56 = .ok (.bipush 6, 2) := dk_16 6 (dk_at dksX4_frees_2 10 rfl rfl)
theorem dX4_frees_58 : decode cX4_frees 58 = .ok (.invokestatic 72, 3) := dk_184 0 72 (dk_at dksX4_frees_2 12 rfl rfl)
theorem dX4_frees_61 : decode cX4_frees 61 = .ok (.iaload, 1) := dk_46 (dk_at dksX4_frees_2 15 rfl rfl)
theorem dX4_frees_62 : decode cX4_frees 62 = .ok (.iload_n 1, 1) := dk_27 (dk_at dksX4_frees_2 16 rfl rfl)
theorem dX4_frees_63 : decode cX4_frees 63 = .ok (.iconst 1, 1) := dk_4 (dk_at dksX4_frees_2 17 rfl rfl)
theorem dX4_frees_64 : decode cX4_frees 64 = .ok (.iadd, 1) := dk_96 (dk_at dksX4_frees_2 18 rfl rfl)
theorem dX4_frees_65 : decode cX4_frees 65 = .ok (.if_icmp .ne 7, 3) := dk_160 0 7 (dk_at dksX4_frees_2 19 rfl rfl)
theorem dX4_frees_68 : decode cX4_frees 68 = .ok (.iconst 1, 1) := dk_4 (dk_at dksX4_frees_2 22 rfl rfl)
theorem dX4_frees_69 : decode cX4_frees 69 = .ok (.goto 4, 3) := dk_167 0 4 (dk_at dksX4_frees_3 0 rfl rfl)
theorem dX4_frees_72 : decode cX4_frees 72 = .ok (.iconst 0, 1) := dk_3 (dk_at dksX4_frees_3 3 rfl rfl)
theorem dX4_frees_73 : decode cX4_frees 73 = .ok (.istore 4, 2) := dk_54 4 (dk_at dksX4_frees_3 4 rfl rfl)
theorem dX4_frees_75 : decode cX4_frees 75 = .ok (.iload_n 3, 1) := dk_29 (dk_at dksX4_frees_3 6 rfl rfl)
theorem dX4_frees_76 : decode cX4_frees 76 = .ok (.ifCond .eq 25, 3) := dk_153 0 25 (dk_at dksX4_frees_3 7 rfl rfl)
theorem dX4_frees_79 : decode cX4_frees 79 = .ok (.aload_n 0, 1) := dk_42 (dk_at dksX4_frees_3 10 rfl rfl)
theorem dX4_frees_80 : decode cX4_frees 80 = .ok (.getfield 7, 3) := dk_180 0 7 (dk_at dksX4_frees_3 11 rfl rfl)
theorem dX4_frees_83 : decode cX4_frees 83 = .ok (.iload_n 2, 1) := dk_28 (dk_at dksX4_frees_3 14 rfl rfl)
theorem dX4_frees_84 : decode cX4_frees 84 = .ok (.iconst 3, 1) := dk_6 (dk_at dksX4_frees_3 15 rfl rfl)
theorem dX4_frees_85 : decode cX4_frees 85 = .ok (.invokestatic 72, 3) := dk_184 0 72 (dk_at dksX4_frees_3 16 rfl rfl)
theorem dX4_frees_88 : decode cX4_frees 88 = .ok (.iconst 0, 1) := dk_3 (dk_at dksX4_frees_3 19 rfl rfl)
theorem dX4_frees_89 : decode cX4_frees 89 = .ok (.iastore, 1) := dk_79 (dk_at dksX4_frees_3 20 rfl rfl)
theorem dX4_frees_90 : decode cX4_frees 90 = .ok (.aload_n 0, 1) := dk_42 (dk_at dksX4_frees_3 21 rfl rfl)
theorem dX4_frees_91 : decode cX4_frees 91 = .ok (.getfield 7, 3) := dk_180 0 7 (dk_at dksX4_frees_4 0 rfl rfl)
theorem dX4_frees_94 : decode cX4_frees 94 = .ok (.iload_n 2, 1) := dk_28 (dk_at dksX4_frees_4 3 rfl rfl)
theorem dX4_frees_95 : decode cX4_frees 95 = .ok (.iconst 4, 1) := dk_7 (dk_at dksX4_frees_4 4 rfl rfl)
theorem dX4_frees_96 : decode cX4_frees 96 = .ok (.invokestatic 72, 3) := dk_184 0 72 (dk_at dksX4_frees_4 5 rfl rfl)
theorem dX4_frees_99 : decode cX4_frees 99 = .ok (.iconst 0, 1) := dk_3 (dk_at dksX4_frees_4 8 rfl rfl)
theorem dX4_frees_100 : decode cX4_frees 100 = .ok (.iastore, 1) := dk_79 (dk_at dksX4_frees_4 9 rfl rfl)
theorem dX4_frees_101 : decode cX4_frees 101 = .ok (.iload 4, 2) := dk_21 4 (dk_at dksX4_frees_4 10 rfl rfl)
theorem dX4_frees_103 : decode cX4_frees 103 = .ok (.ifCond .eq 26, 3) := dk_153 0 26 (dk_at dksX4_frees_4 12 rfl rfl)
theorem dX4_frees_106 : decode cX4_frees 106 = .ok (.aload_n 0, 1) := dk_42 (dk_at dksX4_frees_4 15 rfl rfl)
theorem dX4_frees_107 : decode cX4_frees 107 = .ok (.getfield 7, 3) := dk_180 0 7 (dk_at dksX4_frees_4 16 rfl rfl)
theorem dX4_frees_110 : decode cX4_frees 110 = .ok (.iload_n 2, 1) := dk_28 (dk_at dksX4_frees_4 19 rfl rfl)
theorem dX4_frees_111 : decode cX4_frees 111 = .ok (.bipush 6, 2) := dk_16 6 (dk_at dksX4_frees_4 20 rfl rfl)
theorem dX4_frees_113 : decode cX4_frees 113 = .ok (.invokestatic 72, 3) := dk_184 0 72 (dk_at dksX4_frees_5 0 rfl rfl)
theorem dX4_frees_116 : decode cX4_frees 116 = .ok (.iconst 0, 1) := dk_3 (dk_at dksX4_frees_5 3 rfl rfl)
theorem dX4_frees_117 : decode cX4_frees 117 = .ok (.iastore, 1) := dk_79 (dk_at dksX4_frees_5 4 rfl rfl)
theorem dX4_frees_118 : decode cX4_frees 118 = .ok (.aload_n 0, 1) := dk_42 (dk_at dksX4_frees_5 5 rfl rfl)
theorem dX4_frees_119 : decode cX4_frees 119 = .ok (.getfield 7, 3) := dk_180 0 7 (dk_at dksX4_frees_5 6 rfl rfl)
theorem dX4_frees_122 : decode cX4_frees 122 = .ok (.iload_n 2, 1) := dk_28 (dk_at dksX4_frees_5 9 rfl rfl)
theorem dX4_frees_123 : decode cX4_frees 123 = .ok (.iconst 5, 1) := dk_8 (dk_at dksX4_frees_5 10 rfl rfl)
theorem dX4_frees_124 : decode cX4_frees 124 = .ok (.invokestatic 72, 3) := dk_184 0 72 (dk_at dksX4_frees_5 11 rfl rfl)
theorem dX4_frees_127 : decode cX4_frees 127 = .ok (.iconst 0, 1) := dk_3 (dk_at dksX4_frees_5 14 rfl rfl)
theorem dX4_frees_128 : decode cX4_frees 128 = .ok (.iastore, 1) := dk_79 (dk_at dksX4_frees_5 15 rfl rfl)
theorem dX4_frees_129 : decode cX4_frees 129 = .ok (.iinc 2 1, 3) := dk_132 2 1 (dk_at dksX4_frees_5 16 rfl rfl)
theorem dX4_frees_132 : decode cX4_frees 132 = .ok (.goto (-130), 3) := dk_167 255 126 (dk_at dksX4_frees_5 19 rfl rfl)
theorem dX4_frees_135 : decode cX4_frees 135 = .ok (.return_, 1) := dk_177 (dk_at dksX4_frees_5 22 rfl rfl)
abbrev cX4_pass : ByteArray := prog_16_method_50_code
def yX4_pass : MethodName := ⟨RX4, "pass", "(I)I"⟩
def dkwX4_pass_0 : List UInt8 := [42, 182, 0, 96, 42, 42, 27, 182, 0, 179, 182, 0, 102, 172]
abbrev dktX4_pass_0 : List UInt8 := dkwX4_pass_0 ++ []
theorem dksX4_pass_0 : cX4_pass.data.toList.drop 0 = dktX4_pass_0 := by decide +kernel
theorem dX4_pass_0 : decode cX4_pass 0 = .ok (.aload_n 0, 1) := dk_42 (dk_at dksX4_pass_0 0 rfl rfl)
theorem dX4_pass_1 : decode cX4_pass 1 = .ok (.invokevirtual 96, 3) := dk_182 0 96 (dk_at dksX4_pass_0 1 rfl rfl)
theorem dX4_pass_4 : decode cX4_pass 4 = .ok (.aload_n 0, 1) := dk_42 (dk_at dksX4_pass_0 4 rfl rfl)
theorem dX4_pass_5 : decode cX4_pass 5 = .ok (.aload_n 0, 1) := dk_42 (dk_at dksX4_pass_0 5 rfl rfl)
theorem dX4_pass_6 : decode cX4_pass 6 = .ok (.iload_n 1, 1) := dk_27 (dk_at dksX4_pass_0 6 rfl rfl)
theorem dX4_pass_7 : decode cX4_pass 7 = .ok (.invokevirtual 179, 3) := dk_182 0 179 (dk_at dksX4_pass_0 7 rfl rfl)
theorem dX4_pass_10 : decode cX4_pass 10 = .ok (.invokevirtual 102, 3) := dk_182 0 102 (dk_at dksX4_pass_0 10 rfl rfl)
theorem dX4_pass_13 : decode cX4_pass 13 = .ok (.ireturn, 1) := dk_172 (dk_at dksX4_pass_0 13 rfl rfl)
abbrev cX4_passes : ByteArray := prog_16_method_49_code
def yX4_passes : MethodName := ⟨RX4, "passes", "(I)I"⟩
def dkwX4_passes_6 : List UInt8 := [184, 0, 72, 46, 79, 132, 3, 1, 167, 255, 130, 42, 180, 0, 7, 8, 92, 46, 27, 96, 79, 28, 172]
abbrev dktX4_passes_6 : List UInt8 := dkwX4_passes_6 ++ []
def dkwX4_passes_5 : List UInt8 := [29, 16, 6, 184, 0, 72, 21, 4, 153, 0, 7, 3, 167, 0, 14, 42, 180, 0, 7, 29, 16, 6]
abbrev dktX4_passes_5 : List UInt8 := dkwX4_passes_5 ++ dktX4_passes_6
def dkwX4_passes_4 : List UInt8 := [153, 0, 7, 3, 167, 0, 15, 42, 180, 0, 7, 29, 8, 184, 0, 72, 46, 27, 100, 79, 42, 180, 0, 7]
abbrev dktX4_passes_4 : List UInt8 := dkwX4_passes_4 ++ dktX4_passes_5
def dkwX4_passes_3 : List UInt8 := [28, 21, 4, 153, 0, 7, 4, 167, 0, 4, 3, 96, 61, 42, 180, 0, 7, 29, 8, 184, 0, 72, 21, 4]
abbrev dktX4_passes_3 : List UInt8 := dkwX4_passes_3 ++ dktX4_passes_4
def dkwX4_passes_2 : List UInt8 := [167, 0, 99, 42, 180, 0, 7, 29, 8, 184, 0, 72, 46, 27, 163, 0, 7, 4, 167, 0, 4, 3, 54, 4]
abbrev dktX4_passes_2 : List UInt8 := dkwX4_passes_2 ++ dktX4_passes_3
def dkwX4_passes_1 : List UInt8 := [180, 0, 7, 3, 46, 162, 0, 122, 42, 180, 0, 7, 29, 16, 6, 184, 0, 72, 46, 154, 0, 6]
abbrev dktX4_passes_1 : List UInt8 := dkwX4_passes_1 ++ dktX4_passes_2
def dkwX4_passes_0 : List UInt8 := [27, 4, 16, 24, 184, 0, 68, 154, 0, 11, 42, 17, 252, 12, 182, 0, 57, 172, 3, 61, 3, 62, 29, 42]
abbrev dktX4_passes_0 : List UInt8 := dkwX4_passes_0 ++ dktX4_passes_1
theorem dksX4_passes_0 : cX4_passes.data.toList.drop 0 = dktX4_passes_0 := by decide +kernel
theorem dksX4_passes_1 : cX4_passes.data.toList.drop 24 = dktX4_passes_1 := dk_seg dksX4_passes_0 24 rfl rfl
theorem dksX4_passes_2 : cX4_passes.data.toList.drop 46 = dktX4_passes_2 := dk_seg dksX4_passes_1 22 rfl rfl
theorem dksX4_passes_3 : cX4_passes.data.toList.drop 70 = dktX4_passes_3 := dk_seg dksX4_passes_2 24 rfl rfl
theorem dksX4_passes_4 : cX4_passes.data.toList.drop 94 = dktX4_passes_4 := dk_seg dksX4_passes_3 24 rfl rfl
theorem dksX4_passes_5 : cX4_passes.data.toList.drop 118 = dktX4_passes_5 := dk_seg dksX4_passes_4 24 rfl rfl
theorem dksX4_passes_6 : cX4_passes.data.toList.drop 140 = dktX4_passes_6 := dk_seg dksX4_passes_5 22 rfl rfl
theorem dX4_passes_0 : decode cX4_passes 0 = .ok (.iload_n 1, 1) := dk_27 (dk_at dksX4_passes_0 0 rfl rfl)
theorem dX4_passes_1 : decode cX4_passes 1 = .ok (.iconst 1, 1) := dk_4 (dk_at dksX4_passes_0 1 rfl rfl)
theorem dX4_passes_2 : decode cX4_passes 2 = .ok (.bipush 24, 2) := dk_16 24 (dk_at dksX4_passes_0 2 rfl rfl)
theorem dX4_passes_4 : decode cX4_passes 4 = .ok (.invokestatic 68, 3) := dk_184 0 68 (dk_at dksX4_passes_0 4 rfl rfl)
theorem dX4_passes_7 : decode cX4_passes 7 = .ok (.ifCond .ne 11, 3) := dk_154 0 11 (dk_at dksX4_passes_0 7 rfl rfl)
theorem dX4_passes_10 : decode cX4_passes 10 = .ok (.aload_n 0, 1) := dk_42 (dk_at dksX4_passes_0 10 rfl rfl)
theorem dX4_passes_11 : decode cX4_passes 11 = .ok (.sipush (-1012), 3) := dk_17 252 12 (dk_at dksX4_passes_0 11 rfl rfl)
theorem dX4_passes_14 : decode cX4_passes 14 = .ok (.invokevirtual 57, 3) := dk_182 0 57 (dk_at dksX4_passes_0 14 rfl rfl)
theorem dX4_passes_17 : decode cX4_passes 17 = .ok (.ireturn, 1) := dk_172 (dk_at dksX4_passes_0 17 rfl rfl)
theorem dX4_passes_18 : decode cX4_passes 18 = .ok (.iconst 0, 1) := dk_3 (dk_at dksX4_passes_0 18 rfl rfl)
theorem dX4_passes_19 : decode cX4_passes 19 = .ok (.istore_n 2, 1) := dk_61 (dk_at dksX4_passes_0 19 rfl rfl)
theorem dX4_passes_20 : decode cX4_passes 20 = .ok (.iconst 0, 1) := dk_3 (dk_at dksX4_passes_0 20 rfl rfl)
theorem dX4_passes_21 : decode cX4_passes 21 = .ok (.istore_n 3, 1) := dk_62 (dk_at dksX4_passes_0 21 rfl rfl)
theorem dX4_passes_22 : decode cX4_passes 22 = .ok (.iload_n 3, 1) := dk_29 (dk_at dksX4_passes_0 22 rfl rfl)
theorem dX4_passes_23 : decode cX4_passes 23 = .ok (.aload_n 0, 1) := dk_42 (dk_at dksX4_passes_0 23 rfl rfl)
theorem dX4_passes_24 : decode cX4_passes 24 = .ok (.getfield 7, 3) := dk_180 0 7 (dk_at dksX4_passes_1 0 rfl rfl)
theorem dX4_passes_27 : decode cX4_passes 27 = .ok (.iconst 0, 1) := dk_3 (dk_at dksX4_passes_1 3 rfl rfl)
theorem dX4_passes_28 : decode cX4_passes 28 = .ok (.iaload, 1) := dk_46 (dk_at dksX4_passes_1 4 rfl rfl)
theorem dX4_passes_29 : decode cX4_passes 29 = .ok (.if_icmp .ge 122, 3) := dk_162 0 122 (dk_at dksX4_passes_1 5 rfl rfl)
theorem dX4_passes_32 : decode cX4_passes 32 = .ok (.aload_n 0, 1) := dk_42 (dk_at dksX4_passes_1 8 rfl rfl)
theorem dX4_passes_33 : decode cX4_passes 33 = .ok (.getfield 7, 3) := dk_180 0 7 (dk_at dksX4_passes_1 9 rfl rfl)
theorem dX4_passes_36 : decode cX4_passes 36 = .ok (.iload_n 3, 1) := dk_29 (dk_at dksX4_passes_1 12 rfl rfl)
theorem dX4_passes_37 : decode cX4_passes 37 = .ok (.bipush 6, 2) := dk_16 6 (dk_at dksX4_passes_1 13 rfl rfl)
theorem dX4_passes_39 : decode cX4_passes 39 = .ok (.invokestatic 72, 3) := dk_184 0 72 (dk_at dksX4_passes_1 15 rfl rfl)
theorem dX4_passes_42 : decode cX4_passes 42 = .ok (.iaload, 1) := dk_46 (dk_at dksX4_passes_1 18 rfl rfl)
theorem dX4_passes_43 : decode cX4_passes 43 = .ok (.ifCond .ne 6, 3) := dk_154 0 6 (dk_at dksX4_passes_1 19 rfl rfl)
theorem dX4_passes_46 : decode cX4_passes 46 = .ok (.goto 99, 3) := dk_167 0 99 (dk_at dksX4_passes_2 0 rfl rfl)
theorem dX4_passes_49 : decode cX4_passes 49 = .ok (.aload_n 0, 1) := dk_42 (dk_at dksX4_passes_2 3 rfl rfl)
theorem dX4_passes_50 : decode cX4_passes 50 = .ok (.getfield 7, 3) := dk_180 0 7 (dk_at dksX4_passes_2 4 rfl rfl)
theorem dX4_passes_53 : decode cX4_passes 53 = .ok (.iload_n 3, 1) := dk_29 (dk_at dksX4_passes_2 7 rfl rfl)
theorem dX4_passes_54 : decode cX4_passes 54 = .ok (.iconst 5, 1) := dk_8 (dk_at dksX4_passes_2 8 rfl rfl)
theorem dX4_passes_55 : decode cX4_passes 55 = .ok (.invokestatic 72, 3) := dk_184 0 72 (dk_at dksX4_passes_2 9 rfl rfl)
theorem dX4_passes_58 : decode cX4_passes 58 = .ok (.iaload, 1) := dk_46 (dk_at dksX4_passes_2 12 rfl rfl)
theorem dX4_passes_59 : decode cX4_passes 59 = .ok (.iload_n 1, 1) := dk_27 (dk_at dksX4_passes_2 13 rfl rfl)
theorem dX4_passes_60 : decode cX4_passes 60 = .ok (.if_icmp .gt 7, 3) := dk_163 0 7 (dk_at dksX4_passes_2 14 rfl rfl)
theorem dX4_passes_63 : decode cX4_passes 63 = .ok (.iconst 1, 1) := dk_4 (dk_at dksX4_passes_2 17 rfl rfl)
theorem dX4_passes_64 : decode cX4_passes 64 = .ok (.goto 4, 3) := dk_167 0 4 (dk_at dksX4_passes_2 18 rfl rfl)
theorem dX4_passes_67 : decode cX4_passes 67 = .ok (.iconst 0, 1) := dk_3 (dk_at dksX4_passes_2 21 rfl rfl)
theorem dX4_passes_68 : decode cX4_passes 68 = .ok (.istore 4, 2) := dk_54 4 (dk_at dksX4_passes_2 22 rfl rfl)
theorem dX4_passes_70 : decode cX4_passes 70 = .ok (.iload_n 2, 1) := dk_28 (dk_at dksX4_passes_3 0 rfl rfl)
theorem dX4_passes_71 : decode cX4_passes 71 = .ok (.iload 4, 2) := dk_21 4 (dk_at dksX4_passes_3 1 rfl rfl)
theorem dX4_passes_73 : decode cX4_passes 73 = .ok (.ifCond .eq 7, 3) := dk_153 0 7 (dk_at dksX4_passes_3 3 rfl rfl)
theorem dX4_passes_76 : decode cX4_passes 76 = .ok (.iconst 1, 1) := dk_4 (dk_at dksX4_passes_3 6 rfl rfl)
theorem dX4_passes_77 : decode cX4_passes 77 = .ok (.goto 4, 3) := dk_167 0 4 (dk_at dksX4_passes_3 7 rfl rfl)
theorem dX4_passes_80 : decode cX4_passes 80 = .ok (.iconst 0, 1) := dk_3 (dk_at dksX4_passes_3 10 rfl rfl)
theorem dX4_passes_81 : decode cX4_passes 81 = .ok (.iadd, 1) := dk_96 (dk_at dksX4_passes_3 11 rfl rfl)
theorem dX4_passes_82 : decode cX4_passes 82 = .ok (.istore_n 2, 1) := dk_61 (dk_at dksX4_passes_3 12 rfl rfl)
theorem dX4_passes_83 : decode cX4_passes 83 = .ok (.aload_n 0, 1) := dk_42 (dk_at dksX4_passes_3 13 rfl rfl)
theorem dX4_passes_84 : decode cX4_passes 84 = .ok (.getfield 7, 3) := dk_180 0 7 (dk_at dksX4_passes_3 14 rfl rfl)
theorem dX4_passes_87 : decode cX4_passes 87 = .ok (.iload_n 3, 1) := dk_29 (dk_at dksX4_passes_3 17 rfl rfl)
theorem dX4_passes_88 : decode cX4_passes 88 = .ok (.iconst 5, 1) := dk_8 (dk_at dksX4_passes_3 18 rfl rfl)
theorem dX4_passes_89 : decode cX4_passes 89 = .ok (.invokestatic 72, 3) := dk_184 0 72 (dk_at dksX4_passes_3 19 rfl rfl)
theorem dX4_passes_92 : decode cX4_passes 92 = .ok (.iload 4, 2) := dk_21 4 (dk_at dksX4_passes_3 22 rfl rfl)
theorem dX4_passes_94 : decode cX4_passes 94 = .ok (.ifCond .eq 7, 3) := dk_153 0 7 (dk_at dksX4_passes_4 0 rfl rfl)
theorem dX4_passes_97 : decode cX4_passes 97 = .ok (.iconst 0, 1) := dk_3 (dk_at dksX4_passes_4 3 rfl rfl)
theorem dX4_passes_98 : decode cX4_passes 98 = .ok (.goto 15, 3) := dk_167 0 15 (dk_at dksX4_passes_4 4 rfl rfl)
theorem dX4_passes_101 : decode cX4_passes 101 = .ok (.aload_n 0, 1) := dk_42 (dk_at dksX4_passes_4 7 rfl rfl)
theorem dX4_passes_102 : decode cX4_passes 102 = .ok (.getfield 7, 3) := dk_180 0 7 (dk_at dksX4_passes_4 8 rfl rfl)
theorem dX4_passes_105 : decode cX4_passes 105 = .ok (.iload_n 3, 1) := dk_29 (dk_at dksX4_passes_4 11 rfl rfl)
theorem dX4_passes_106 : decode cX4_passes 106 = .ok (.iconst 5, 1) := dk_8 (dk_at dksX4_passes_4 12 rfl rfl)
theorem dX4_passes_107 : decode cX4_passes 107 = .ok (.invokestatic 72, 3) := dk_184 0 72 (dk_at dksX4_passes_4 13 rfl rfl)
theorem dX4_passes_110 : decode cX4_passes 110 = .ok (.iaload, 1) := dk_46 (dk_at dksX4_passes_4 16 rfl rfl)
theorem dX4_passes_111 : decode cX4_passes 111 = .ok (.iload_n 1, 1) := dk_27 (dk_at dksX4_passes_4 17 rfl rfl)
theorem dX4_passes_112 : decode cX4_passes 112 = .ok (.isub, 1) := dk_100 (dk_at dksX4_passes_4 18 rfl rfl)
theorem dX4_passes_113 : decode cX4_passes 113 = .ok (.iastore, 1) := dk_79 (dk_at dksX4_passes_4 19 rfl rfl)
theorem dX4_passes_114 : decode cX4_passes 114 = .ok (.aload_n 0, 1) := dk_42 (dk_at dksX4_passes_4 20 rfl rfl)
theorem dX4_passes_115 : decode cX4_passes 115 = .ok (.getfield 7, 3) := dk_180 0 7 (dk_at dksX4_passes_4 21 rfl rfl)
theorem dX4_passes_118 : decode cX4_passes 118 = .ok (.iload_n 3, 1) := dk_29 (dk_at dksX4_passes_5 0 rfl rfl)
theorem dX4_passes_119 : decode cX4_passes 119 = .ok (.bipush 6, 2) := dk_16 6 (dk_at dksX4_passes_5 1 rfl rfl)
theorem dX4_passes_121 : decode cX4_passes 121 = .ok (.invokestatic 72, 3) := dk_184 0 72 (dk_at dksX4_passes_5 3 rfl rfl)
theorem dX4_passes_124 : decode cX4_passes 124 = .ok (.iload 4, 2) := dk_21 4 (dk_at dksX4_passes_5 6 rfl rfl)
theorem dX4_passes_126 : decode cX4_passes 126 = .ok (.ifCond .eq 7, 3) := dk_153 0 7 (dk_at dksX4_passes_5 8 rfl rfl)
theorem dX4_passes_129 : decode cX4_passes 129 = .ok (.iconst 0, 1) := dk_3 (dk_at dksX4_passes_5 11 rfl rfl)
theorem dX4_passes_130 : decode cX4_passes 130 = .ok (.goto 14, 3) := dk_167 0 14 (dk_at dksX4_passes_5 12 rfl rfl)
theorem dX4_passes_133 : decode cX4_passes 133 = .ok (.aload_n 0, 1) := dk_42 (dk_at dksX4_passes_5 15 rfl rfl)
theorem dX4_passes_134 : decode cX4_passes 134 = .ok (.getfield 7, 3) := dk_180 0 7 (dk_at dksX4_passes_5 16 rfl rfl)
theorem dX4_passes_137 : decode cX4_passes 137 = .ok (.iload_n 3, 1) := dk_29 (dk_at dksX4_passes_5 19 rfl rfl)
theorem dX4_passes_138 : decode cX4_passes 138 = .ok (.bipush 6, 2) := dk_16 6 (dk_at dksX4_passes_5 20 rfl rfl)
theorem dX4_passes_140 : decode cX4_passes 140 = .ok (.invokestatic 72, 3) := dk_184 0 72 (dk_at dksX4_passes_6 0 rfl rfl)
theorem dX4_passes_143 : decode cX4_passes 143 = .ok (.iaload, 1) := dk_46 (dk_at dksX4_passes_6 3 rfl rfl)
theorem dX4_passes_144 : decode cX4_passes 144 = .ok (.iastore, 1) := dk_79 (dk_at dksX4_passes_6 4 rfl rfl)
theorem dX4_passes_145 : decode cX4_passes 145 = .ok (.iinc 3 1, 3) := dk_132 3 1 (dk_at dksX4_passes_6 5 rfl rfl)
theorem dX4_passes_148 : decode cX4_passes 148 = .ok (.goto (-126), 3) := dk_167 255 130 (dk_at dksX4_passes_6 8 rfl rfl)
theorem dX4_passes_151 : decode cX4_passes 151 = .ok (.aload_n 0, 1) := dk_42 (dk_at dksX4_passes_6 11 rfl rfl)
theorem dX4_passes_152 : decode cX4_passes 152 = .ok (.getfield 7, 3) := dk_180 0 7 (dk_at dksX4_passes_6 12 rfl rfl)
theorem dX4_passes_155 : decode cX4_passes 155 = .ok (.iconst 5, 1) := dk_8 (dk_at dksX4_passes_6 15 rfl rfl)
theorem dX4_passes_156 : decode cX4_passes 156 = .ok (.dup2, 1) := dk_92 (dk_at dksX4_passes_6 16 rfl rfl)
theorem dX4_passes_157 : decode cX4_passes 157 = .ok (.iaload, 1) := dk_46 (dk_at dksX4_passes_6 17 rfl rfl)
theorem dX4_passes_158 : decode cX4_passes 158 = .ok (.iload_n 1, 1) := dk_27 (dk_at dksX4_passes_6 18 rfl rfl)
theorem dX4_passes_159 : decode cX4_passes 159 = .ok (.iadd, 1) := dk_96 (dk_at dksX4_passes_6 19 rfl rfl)
theorem dX4_passes_160 : decode cX4_passes 160 = .ok (.iastore, 1) := dk_79 (dk_at dksX4_passes_6 20 rfl rfl)
theorem dX4_passes_161 : decode cX4_passes 161 = .ok (.iload_n 2, 1) := dk_28 (dk_at dksX4_passes_6 21 rfl rfl)
theorem dX4_passes_162 : decode cX4_passes 162 = .ok (.ireturn, 1) := dk_172 (dk_at dksX4_passes_6 22 rfl rfl)
abbrev cX4_houseOf : ByteArray := prog_16_method_52_code
def yX4_houseOf : MethodName := ⟨RX4, "houseOf", "(II)I"⟩
def dkwX4_houseOf_3 : List UInt8 := [42, 27, 182, 0, 127, 172, 17, 252, 12, 172]
abbrev dktX4_houseOf_3 : List UInt8 := dkwX4_houseOf_3 ++ []
def dkwX4_houseOf_2 : List UInt8 := [42, 180, 0, 7, 27, 28, 184, 0, 37, 46, 172, 42, 27, 182, 0, 140, 172, 42, 27, 28, 182, 0, 182, 172]
abbrev dktX4_houseOf_2 : List UInt8 := dkwX4_houseOf_2 ++ dktX4_houseOf_3
def dkwX4_houseOf_1 : List UInt8 := [170, 0, 0, 0, 0, 0, 0, 78, 0, 0, 0, 0, 0, 0, 0, 7, 0, 0, 0, 48, 0, 0, 0, 48, 0, 0, 0, 48, 0, 0, 0, 48, 0, 0, 0, 59, 0, 0, 0, 65, 0, 0, 0, 72, 0, 0, 0, 65]
abbrev dktX4_houseOf_1 : List UInt8 := dkwX4_houseOf_1 ++ dktX4_houseOf_2
def dkwX4_houseOf_0 : List UInt8 := [27, 184, 0, 81, 154, 0, 7, 17, 252, 13, 172, 28]
abbrev dktX4_houseOf_0 : List UInt8 := dkwX4_houseOf_0 ++ dktX4_houseOf_1
theorem dksX4_houseOf_0 : cX4_houseOf.data.toList.drop 0 = dktX4_houseOf_0 := by decide +kernel
theorem dksX4_houseOf_1 : cX4_houseOf.data.toList.drop 12 = dktX4_houseOf_1 := dk_seg dksX4_houseOf_0 12 rfl rfl
theorem dksX4_houseOf_2 : cX4_houseOf.data.toList.drop 60 = dktX4_houseOf_2 := dk_seg dksX4_houseOf_1 48 rfl rfl
theorem dksX4_houseOf_3 : cX4_houseOf.data.toList.drop 84 = dktX4_houseOf_3 := dk_seg dksX4_houseOf_2 24 rfl rfl
theorem dX4_houseOf_0 : decode cX4_houseOf 0 = .ok (.iload_n 1, 1) := dk_27 (dk_at dksX4_houseOf_0 0 rfl rfl)
theorem dX4_houseOf_1 : decode cX4_houseOf 1 = .ok (.invokestatic 81, 3) := dk_184 0 81 (dk_at dksX4_houseOf_0 1 rfl rfl)
theorem dX4_houseOf_4 : decode cX4_houseOf 4 = .ok (.ifCond .ne 7, 3) := dk_154 0 7 (dk_at dksX4_houseOf_0 4 rfl rfl)
theorem dX4_houseOf_7 : decode cX4_houseOf 7 = .ok (.sipush (-1011), 3) := dk_17 252 13 (dk_at dksX4_houseOf_0 7 rfl rfl)
theorem dX4_houseOf_10 : decode cX4_houseOf 10 = .ok (.ireturn, 1) := dk_172 (dk_at dksX4_houseOf_0 10 rfl rfl)
theorem dX4_houseOf_11 : decode cX4_houseOf 11 = .ok (.iload_n 2, 1) := dk_28 (dk_at dksX4_houseOf_0 11 rfl rfl)
theorem dX4_houseOf_12 : decode cX4_houseOf 12 = .ok (.tableswitch 78 0 7 #[48, 48, 48, 48, 59, 65, 72, 65], 48) := by decide +kernel
theorem dX4_houseOf_60 : decode cX4_houseOf 60 = .ok (.aload_n 0, 1) := dk_42 (dk_at dksX4_houseOf_2 0 rfl rfl)
theorem dX4_houseOf_61 : decode cX4_houseOf 61 = .ok (.getfield 7, 3) := dk_180 0 7 (dk_at dksX4_houseOf_2 1 rfl rfl)
theorem dX4_houseOf_64 : decode cX4_houseOf 64 = .ok (.iload_n 1, 1) := dk_27 (dk_at dksX4_houseOf_2 4 rfl rfl)
theorem dX4_houseOf_65 : decode cX4_houseOf 65 = .ok (.iload_n 2, 1) := dk_28 (dk_at dksX4_houseOf_2 5 rfl rfl)
theorem dX4_houseOf_66 : decode cX4_houseOf 66 = .ok (.invokestatic 37, 3) := dk_184 0 37 (dk_at dksX4_houseOf_2 6 rfl rfl)
theorem dX4_houseOf_69 : decode cX4_houseOf 69 = .ok (.iaload, 1) := dk_46 (dk_at dksX4_houseOf_2 9 rfl rfl)
theorem dX4_houseOf_70 : decode cX4_houseOf 70 = .ok (.ireturn, 1) := dk_172 (dk_at dksX4_houseOf_2 10 rfl rfl)
theorem dX4_houseOf_71 : decode cX4_houseOf 71 = .ok (.aload_n 0, 1) := dk_42 (dk_at dksX4_houseOf_2 11 rfl rfl)
theorem dX4_houseOf_72 : decode cX4_houseOf 72 = .ok (.iload_n 1, 1) := dk_27 (dk_at dksX4_houseOf_2 12 rfl rfl)
theorem dX4_houseOf_73 : decode cX4_houseOf 73 = .ok (.invokevirtual 140, 3) := dk_182 0 140 (dk_at dksX4_houseOf_2 13 rfl rfl)
theorem dX4_houseOf_76 : decode cX4_houseOf 76 = .ok (.ireturn, 1) := dk_172 (dk_at dksX4_houseOf_2 16 rfl rfl)
theorem dX4_houseOf_77 : decode cX4_houseOf 77 = .ok (.aload_n 0, 1) := dk_42 (dk_at dksX4_houseOf_2 17 rfl rfl)
theorem dX4_houseOf_78 : decode cX4_houseOf 78 = .ok (.iload_n 1, 1) := dk_27 (dk_at dksX4_houseOf_2 18 rfl rfl)
theorem dX4_houseOf_79 : decode cX4_houseOf 79 = .ok (.iload_n 2, 1) := dk_28 (dk_at dksX4_houseOf_2 19 rfl rfl)
theorem dX4_houseOf_80 : decode cX4_houseOf 80 = .ok (.invokevirtual 182, 3) := dk_182 0 182 (dk_at dksX4_houseOf_2 20 rfl rfl)
theorem dX4_houseOf_83 : decode cX4_houseOf 83 = .ok (.ireturn, 1) := dk_172 (dk_at dksX4_houseOf_2 23 rfl rfl)
theorem dX4_houseOf_84 : decode cX4_houseOf 84 = .ok (.aload_n 0, 1) := dk_42 (dk_at dksX4_houseOf_3 0 rfl rfl)
theorem dX4_houseOf_85 : decode cX4_houseOf 85 = .ok (.iload_n 1, 1) := dk_27 (dk_at dksX4_houseOf_3 1 rfl rfl)
theorem dX4_houseOf_86 : decode cX4_houseOf 86 = .ok (.invokevirtual 127, 3) := dk_182 0 127 (dk_at dksX4_houseOf_3 2 rfl rfl)
theorem dX4_houseOf_89 : decode cX4_houseOf 89 = .ok (.ireturn, 1) := dk_172 (dk_at dksX4_houseOf_3 5 rfl rfl)
theorem dX4_houseOf_90 : decode cX4_houseOf 90 = .ok (.sipush (-1012), 3) := dk_17 252 12 (dk_at dksX4_houseOf_3 6 rfl rfl)
theorem dX4_houseOf_93 : decode cX4_houseOf 93 = .ok (.ireturn, 1) := dk_172 (dk_at dksX4_houseOf_3 9 rfl rfl)
abbrev cX4_ofStubs : ByteArray := prog_16_method_51_code
def yX4_ofStubs : MethodName := ⟨RX4, "ofStubs", "(II)I"⟩
def dkwX4_ofStubs_2 : List UInt8 := [7, 184, 0, 72, 46, 96, 62, 132, 4, 1, 167, 255, 204, 29, 172]
abbrev dktX4_ofStubs_2 : List UInt8 := dkwX4_ofStubs_2 ++ []
def dkwX4_ofStubs_1 : List UInt8 := [184, 0, 72, 46, 27, 160, 0, 26, 29, 28, 8, 160, 0, 7, 4, 167, 0, 14, 42, 180, 0, 7, 21, 4]
abbrev dktX4_ofStubs_1 : List UInt8 := dkwX4_ofStubs_1 ++ dktX4_ofStubs_2
def dkwX4_ofStubs_0 : List UInt8 := [3, 62, 3, 54, 4, 21, 4, 42, 180, 0, 7, 3, 46, 162, 0, 47, 42, 180, 0, 7, 21, 4, 3]
abbrev dktX4_ofStubs_0 : List UInt8 := dkwX4_ofStubs_0 ++ dktX4_ofStubs_1
theorem dksX4_ofStubs_0 : cX4_ofStubs.data.toList.drop 0 = dktX4_ofStubs_0 := by decide +kernel
theorem dksX4_ofStubs_1 : cX4_ofStubs.data.toList.drop 23 = dktX4_ofStubs_1 := dk_seg dksX4_ofStubs_0 23 rfl rfl
theorem dksX4_ofStubs_2 : cX4_ofStubs.data.toList.drop 47 = dktX4_ofStubs_2 := dk_seg dksX4_ofStubs_1 24 rfl rfl
theorem dX4_ofStubs_0 : decode cX4_ofStubs 0 = .ok (.iconst 0, 1) := dk_3 (dk_at dksX4_ofStubs_0 0 rfl rfl)
theorem dX4_ofStubs_1 : decode cX4_ofStubs 1 = .ok (.istore_n 3, 1) := dk_62 (dk_at dksX4_ofStubs_0 1 rfl rfl)
theorem dX4_ofStubs_2 : decode cX4_ofStubs 2 = .ok (.iconst 0, 1) := dk_3 (dk_at dksX4_ofStubs_0 2 rfl rfl)
theorem dX4_ofStubs_3 : decode cX4_ofStubs 3 = .ok (.istore 4, 2) := dk_54 4 (dk_at dksX4_ofStubs_0 3 rfl rfl)
theorem dX4_ofStubs_5 : decode cX4_ofStubs 5 = .ok (.iload 4, 2) := dk_21 4 (dk_at dksX4_ofStubs_0 5 rfl rfl)
theorem dX4_ofStubs_7 : decode cX4_ofStubs 7 = .ok (.aload_n 0, 1) := dk_42 (dk_at dksX4_ofStubs_0 7 rfl rfl)
theorem dX4_ofStubs_8 : decode cX4_ofStubs 8 = .ok (.getfield 7, 3) := dk_180 0 7 (dk_at dksX4_ofStubs_0 8 rfl rfl)
theorem dX4_ofStubs_11 : decode cX4_ofStubs 11 = .ok (.iconst 0, 1) := dk_3 (dk_at dksX4_ofStubs_0 11 rfl rfl)
theorem dX4_ofStubs_12 : decode cX4_ofStubs 12 = .ok (.iaload, 1) := dk_46 (dk_at dksX4_ofStubs_0 12 rfl rfl)
theorem dX4_ofStubs_13 : decode cX4_ofStubs 13 = .ok (.if_icmp .ge 47, 3) := dk_162 0 47 (dk_at dksX4_ofStubs_0 13 rfl rfl)
theorem dX4_ofStubs_16 : decode cX4_ofStubs 16 = .ok (.aload_n 0, 1) := dk_42 (dk_at dksX4_ofStubs_0 16 rfl rfl)
theorem dX4_ofStubs_17 : decode cX4_ofStubs 17 = .ok (.getfield 7, 3) := dk_180 0 7 (dk_at dksX4_ofStubs_0 17 rfl rfl)
theorem dX4_ofStubs_20 : decode cX4_ofStubs 20 = .ok (.iload 4, 2) := dk_21 4 (dk_at dksX4_ofStubs_0 20 rfl rfl)
theorem dX4_ofStubs_22 : decode cX4_ofStubs 22 = .ok (.iconst 0, 1) := dk_3 (dk_at dksX4_ofStubs_0 22 rfl rfl)
theorem dX4_ofStubs_23 : decode cX4_ofStubs 23 = .ok (.invokestatic 72, 3) := dk_184 0 72 (dk_at dksX4_ofStubs_1 0 rfl rfl)
theorem dX4_ofStubs_26 : decode cX4_ofStubs 26 = .ok (.iaload, 1) := dk_46 (dk_at dksX4_ofStubs_1 3 rfl rfl)
theorem dX4_ofStubs_27 : decode cX4_ofStubs 27 = .ok (.iload_n 1, 1) := dk_27 (dk_at dksX4_ofStubs_1 4 rfl rfl)
theorem dX4_ofStubs_28 : decode cX4_ofStubs 28 = .ok (.if_icmp .ne 26, 3) := dk_160 0 26 (dk_at dksX4_ofStubs_1 5 rfl rfl)
theorem dX4_ofStubs_31 : decode cX4_ofStubs 31 = .ok (.iload_n 3, 1) := dk_29 (dk_at dksX4_ofStubs_1 8 rfl rfl)
theorem dX4_ofStubs_32 : decode cX4_ofStubs 32 = .ok (.iload_n 2, 1) := dk_28 (dk_at dksX4_ofStubs_1 9 rfl rfl)
theorem dX4_ofStubs_33 : decode cX4_ofStubs 33 = .ok (.iconst 5, 1) := dk_8 (dk_at dksX4_ofStubs_1 10 rfl rfl)
theorem dX4_ofStubs_34 : decode cX4_ofStubs 34 = .ok (.if_icmp .ne 7, 3) := dk_160 0 7 (dk_at dksX4_ofStubs_1 11 rfl rfl)
theorem dX4_ofStubs_37 : decode cX4_ofStubs 37 = .ok (.iconst 1, 1) := dk_4 (dk_at dksX4_ofStubs_1 14 rfl rfl)
theorem dX4_ofStubs_38 : decode cX4_ofStubs 38 = .ok (.goto 14, 3) := dk_167 0 14 (dk_at dksX4_ofStubs_1 15 rfl rfl)
theorem dX4_ofStubs_41 : decode cX4_ofStubs 41 = .ok (.aload_n 0, 1) := dk_42 (dk_at dksX4_ofStubs_1 18 rfl rfl)
theorem dX4_ofStubs_42 : decode cX4_ofStubs 42 = .ok (.getfield 7, 3) := dk_180 0 7 (dk_at dksX4_ofStubs_1 19 rfl rfl)
theorem dX4_ofStubs_45 : decode cX4_ofStubs 45 = .ok (.iload 4, 2) := dk_21 4 (dk_at dksX4_ofStubs_1 22 rfl rfl)
theorem dX4_ofStubs_47 : decode cX4_ofStubs 47 = .ok (.iconst 4, 1) := dk_7 (dk_at dksX4_ofStubs_2 0 rfl rfl)
theorem dX4_ofStubs_48 : decode cX4_ofStubs 48 = .ok (.invokestatic 72, 3) := dk_184 0 72 (dk_at dksX4_ofStubs_2 1 rfl rfl)
theorem dX4_ofStubs_51 : decode cX4_ofStubs 51 = .ok (.iaload, 1) := dk_46 (dk_at dksX4_ofStubs_2 4 rfl rfl)
theorem dX4_ofStubs_52 : decode cX4_ofStubs 52 = .ok (.iadd, 1) := dk_96 (dk_at dksX4_ofStubs_2 5 rfl rfl)
theorem dX4_ofStubs_53 : decode cX4_ofStubs 53 = .ok (.istore_n 3, 1) := dk_62 (dk_at dksX4_ofStubs_2 6 rfl rfl)
theorem dX4_ofStubs_54 : decode cX4_ofStubs 54 = .ok (.iinc 4 1, 3) := dk_132 4 1 (dk_at dksX4_ofStubs_2 7 rfl rfl)
theorem dX4_ofStubs_57 : decode cX4_ofStubs 57 = .ok (.goto (-52), 3) := dk_167 255 204 (dk_at dksX4_ofStubs_2 10 rfl rfl)
theorem dX4_ofStubs_60 : decode cX4_ofStubs 60 = .ok (.iload_n 3, 1) := dk_29 (dk_at dksX4_ofStubs_2 13 rfl rfl)
theorem dX4_ofStubs_61 : decode cX4_ofStubs 61 = .ok (.ireturn, 1) := dk_172 (dk_at dksX4_ofStubs_2 14 rfl rfl)
abbrev cX4_inherits : ByteArray := prog_16_method_53_code
def yX4_inherits : MethodName := ⟨RX4, "inherits", "(I)I"⟩
def dkwX4_inherits_1 : List UInt8 := [164, 0, 11, 42, 27, 182, 0, 164, 167, 0, 6, 17, 252, 9, 172]
abbrev dktX4_inherits_1 : List UInt8 := dkwX4_inherits_1 ++ []
def dkwX4_inherits_0 : List UInt8 := [27, 184, 0, 81, 154, 0, 7, 17, 252, 13, 172, 42, 27, 182, 0, 89, 153, 0, 19, 42, 182, 0, 161, 4]
abbrev dktX4_inherits_0 : List UInt8 := dkwX4_inherits_0 ++ dktX4_inherits_1
theorem dksX4_inherits_0 : cX4_inherits.data.toList.drop 0 = dktX4_inherits_0 := by decide +kernel
theorem dksX4_inherits_1 : cX4_inherits.data.toList.drop 24 = dktX4_inherits_1 := dk_seg dksX4_inherits_0 24 rfl rfl
theorem dX4_inherits_0 : decode cX4_inherits 0 = .ok (.iload_n 1, 1) := dk_27 (dk_at dksX4_inherits_0 0 rfl rfl)
theorem dX4_inherits_1 : decode cX4_inherits 1 = .ok (.invokestatic 81, 3) := dk_184 0 81 (dk_at dksX4_inherits_0 1 rfl rfl)
theorem dX4_inherits_4 : decode cX4_inherits 4 = .ok (.ifCond .ne 7, 3) := dk_154 0 7 (dk_at dksX4_inherits_0 4 rfl rfl)
theorem dX4_inherits_7 : decode cX4_inherits 7 = .ok (.sipush (-1011), 3) := dk_17 252 13 (dk_at dksX4_inherits_0 7 rfl rfl)
theorem dX4_inherits_10 : decode cX4_inherits 10 = .ok (.ireturn, 1) := dk_172 (dk_at dksX4_inherits_0 10 rfl rfl)
theorem dX4_inherits_11 : decode cX4_inherits 11 = .ok (.aload_n 0, 1) := dk_42 (dk_at dksX4_inherits_0 11 rfl rfl)
theorem dX4_inherits_12 : decode cX4_inherits 12 = .ok (.iload_n 1, 1) := dk_27 (dk_at dksX4_inherits_0 12 rfl rfl)
theorem dX4_inherits_13 : decode cX4_inherits 13 = .ok (.invokevirtual 89, 3) := dk_182 0 89 (dk_at dksX4_inherits_0 13 rfl rfl)
theorem dX4_inherits_16 : decode cX4_inherits 16 = .ok (.ifCond .eq 19, 3) := dk_153 0 19 (dk_at dksX4_inherits_0 16 rfl rfl)
theorem dX4_inherits_19 : decode cX4_inherits 19 = .ok (.aload_n 0, 1) := dk_42 (dk_at dksX4_inherits_0 19 rfl rfl)
theorem dX4_inherits_20 : decode cX4_inherits 20 = .ok (.invokevirtual 161, 3) := dk_182 0 161 (dk_at dksX4_inherits_0 20 rfl rfl)
theorem dX4_inherits_23 : decode cX4_inherits 23 = .ok (.iconst 1, 1) := dk_4 (dk_at dksX4_inherits_0 23 rfl rfl)
theorem dX4_inherits_24 : decode cX4_inherits 24 = .ok (.if_icmp .le 11, 3) := dk_164 0 11 (dk_at dksX4_inherits_1 0 rfl rfl)
theorem dX4_inherits_27 : decode cX4_inherits 27 = .ok (.aload_n 0, 1) := dk_42 (dk_at dksX4_inherits_1 3 rfl rfl)
theorem dX4_inherits_28 : decode cX4_inherits 28 = .ok (.iload_n 1, 1) := dk_27 (dk_at dksX4_inherits_1 4 rfl rfl)
theorem dX4_inherits_29 : decode cX4_inherits 29 = .ok (.invokevirtual 164, 3) := dk_182 0 164 (dk_at dksX4_inherits_1 5 rfl rfl)
theorem dX4_inherits_32 : decode cX4_inherits 32 = .ok (.goto 6, 3) := dk_167 0 6 (dk_at dksX4_inherits_1 8 rfl rfl)
theorem dX4_inherits_35 : decode cX4_inherits 35 = .ok (.sipush (-1015), 3) := dk_17 252 9 (dk_at dksX4_inherits_1 11 rfl rfl)
theorem dX4_inherits_38 : decode cX4_inherits 38 = .ok (.ireturn, 1) := dk_172 (dk_at dksX4_inherits_1 14 rfl rfl)
abbrev cX4_wouldMelt : ByteArray := prog_16_method_54_code
def yX4_wouldMelt : MethodName := ⟨RX4, "wouldMelt", "(I)I"⟩
def dkwX4_wouldMelt_2 : List UInt8 := [42, 180, 0, 7, 42, 180, 0, 19, 184, 0, 61, 42, 180, 0, 170, 172]
abbrev dktX4_wouldMelt_2 : List UInt8 := dkwX4_wouldMelt_2 ++ []
def dkwX4_wouldMelt_1 : List UInt8 := [160, 0, 7, 17, 252, 9, 172, 42, 180, 0, 19, 42, 180, 0, 7, 184, 0, 61, 42, 27, 182, 0, 176, 61]
abbrev dktX4_wouldMelt_1 : List UInt8 := dkwX4_wouldMelt_1 ++ dktX4_wouldMelt_2
def dkwX4_wouldMelt_0 : List UInt8 := [27, 184, 0, 81, 154, 0, 7, 17, 252, 13, 172, 42, 27, 182, 0, 89, 153, 0, 11, 42, 182, 0, 161, 4]
abbrev dktX4_wouldMelt_0 : List UInt8 := dkwX4_wouldMelt_0 ++ dktX4_wouldMelt_1
theorem dksX4_wouldMelt_0 : cX4_wouldMelt.data.toList.drop 0 = dktX4_wouldMelt_0 := by decide +kernel
theorem dksX4_wouldMelt_1 : cX4_wouldMelt.data.toList.drop 24 = dktX4_wouldMelt_1 := dk_seg dksX4_wouldMelt_0 24 rfl rfl
theorem dksX4_wouldMelt_2 : cX4_wouldMelt.data.toList.drop 48 = dktX4_wouldMelt_2 := dk_seg dksX4_wouldMelt_1 24 rfl rfl
theorem dX4_wouldMelt_0 : decode cX4_wouldMelt 0 = .ok (.iload_n 1, 1) := dk_27 (dk_at dksX4_wouldMelt_0 0 rfl rfl)
theorem dX4_wouldMelt_1 : decode cX4_wouldMelt 1 = .ok (.invokestatic 81, 3) := dk_184 0 81 (dk_at dksX4_wouldMelt_0 1 rfl rfl)
theorem dX4_wouldMelt_4 : decode cX4_wouldMelt 4 = .ok (.ifCond .ne 7, 3) := dk_154 0 7 (dk_at dksX4_wouldMelt_0 4 rfl rfl)
theorem dX4_wouldMelt_7 : decode cX4_wouldMelt 7 = .ok (.sipush (-1011), 3) := dk_17 252 13 (dk_at dksX4_wouldMelt_0 7 rfl rfl)
theorem dX4_wouldMelt_10 : decode cX4_wouldMelt 10 = .ok (.ireturn, 1) := dk_172 (dk_at dksX4_wouldMelt_0 10 rfl rfl)
theorem dX4_wouldMelt_11 : decode cX4_wouldMelt 11 = .ok (.aload_n 0, 1) := dk_42 (dk_at dksX4_wouldMelt_0 11 rfl rfl)
theorem dX4_wouldMelt_12 : decode cX4_wouldMelt 12 = .ok (.iload_n 1, 1) := dk_27 (dk_at dksX4_wouldMelt_0 12 rfl rfl)
theorem dX4_wouldMelt_13 : decode cX4_wouldMelt 13 = .ok (.invokevirtual 89, 3) := dk_182 0 89 (dk_at dksX4_wouldMelt_0 13 rfl rfl)
theorem dX4_wouldMelt_16 : decode cX4_wouldMelt 16 = .ok (.ifCond .eq 11, 3) := dk_153 0 11 (dk_at dksX4_wouldMelt_0 16 rfl rfl)
theorem dX4_wouldMelt_19 : decode cX4_wouldMelt 19 = .ok (.aload_n 0, 1) := dk_42 (dk_at dksX4_wouldMelt_0 19 rfl rfl)
theorem dX4_wouldMelt_20 : decode cX4_wouldMelt 20 = .ok (.invokevirtual 161, 3) := dk_182 0 161 (dk_at dksX4_wouldMelt_0 20 rfl rfl)
theorem dX4_wouldMelt_23 : decode cX4_wouldMelt 23 = .ok (.iconst 1, 1) := dk_4 (dk_at dksX4_wouldMelt_0 23 rfl rfl)
theorem dX4_wouldMelt_24 : decode cX4_wouldMelt 24 = .ok (.if_icmp .ne 7, 3) := dk_160 0 7 (dk_at dksX4_wouldMelt_1 0 rfl rfl)
theorem dX4_wouldMelt_27 : decode cX4_wouldMelt 27 = .ok (.sipush (-1015), 3) := dk_17 252 9 (dk_at dksX4_wouldMelt_1 3 rfl rfl)
theorem dX4_wouldMelt_30 : decode cX4_wouldMelt 30 = .ok (.ireturn, 1) := dk_172 (dk_at dksX4_wouldMelt_1 6 rfl rfl)
theorem dX4_wouldMelt_31 : decode cX4_wouldMelt 31 = .ok (.aload_n 0, 1) := dk_42 (dk_at dksX4_wouldMelt_1 7 rfl rfl)
theorem dX4_wouldMelt_32 : decode cX4_wouldMelt 32 = .ok (.getfield 19, 3) := dk_180 0 19 (dk_at dksX4_wouldMelt_1 8 rfl rfl)
theorem dX4_wouldMelt_35 : decode cX4_wouldMelt 35 = .ok (.aload_n 0, 1) := dk_42 (dk_at dksX4_wouldMelt_1 11 rfl rfl)
theorem dX4_wouldMelt_36 : decode cX4_wouldMelt 36 = .ok (.getfield 7, 3) := dk_180 0 7 (dk_at dksX4_wouldMelt_1 12 rfl rfl)
theorem dX4_wouldMelt_39 : decode cX4_wouldMelt 39 = .ok (.invokestatic 61, 3) := dk_184 0 61 (dk_at dksX4_wouldMelt_1 15 rfl rfl)
theorem dX4_wouldMelt_42 : decode cX4_wouldMelt 42 = .ok (.aload_n 0, 1) := dk_42 (dk_at dksX4_wouldMelt_1 18 rfl rfl)
theorem dX4_wouldMelt_43 : decode cX4_wouldMelt 43 = .ok (.iload_n 1, 1) := dk_27 (dk_at dksX4_wouldMelt_1 19 rfl rfl)
theorem dX4_wouldMelt_44 : decode cX4_wouldMelt 44 = .ok (.invokevirtual 176, 3) := dk_182 0 176 (dk_at dksX4_wouldMelt_1 20 rfl rfl)
theorem dX4_wouldMelt_47 : decode cX4_wouldMelt 47 = .ok (.istore_n 2, 1) := dk_61 (dk_at dksX4_wouldMelt_1 23 rfl rfl)
theorem dX4_wouldMelt_48 : decode cX4_wouldMelt 48 = .ok (.aload_n 0, 1) := dk_42 (dk_at dksX4_wouldMelt_2 0 rfl rfl)
theorem dX4_wouldMelt_49 : decode cX4_wouldMelt 49 = .ok (.getfield 7, 3) := dk_180 0 7 (dk_at dksX4_wouldMelt_2 1 rfl rfl)
theorem dX4_wouldMelt_52 : decode cX4_wouldMelt 52 = .ok (.aload_n 0, 1) := dk_42 (dk_at dksX4_wouldMelt_2 4 rfl rfl)
theorem dX4_wouldMelt_53 : decode cX4_wouldMelt 53 = .ok (.getfield 19, 3) := dk_180 0 19 (dk_at dksX4_wouldMelt_2 5 rfl rfl)
theorem dX4_wouldMelt_56 : decode cX4_wouldMelt 56 = .ok (.invokestatic 61, 3) := dk_184 0 61 (dk_at dksX4_wouldMelt_2 8 rfl rfl)
theorem dX4_wouldMelt_59 : decode cX4_wouldMelt 59 = .ok (.aload_n 0, 1) := dk_42 (dk_at dksX4_wouldMelt_2 11 rfl rfl)
theorem dX4_wouldMelt_60 : decode cX4_wouldMelt 60 = .ok (.getfield 170, 3) := dk_180 0 170 (dk_at dksX4_wouldMelt_2 12 rfl rfl)
theorem dX4_wouldMelt_63 : decode cX4_wouldMelt 63 = .ok (.ireturn, 1) := dk_172 (dk_at dksX4_wouldMelt_2 15 rfl rfl)
abbrev cX4_weight : ByteArray := prog_16_method_55_code
def yX4_weight : MethodName := ⟨RX4, "weight", "(I)I"⟩
def dkwX4_weight_0 : List UInt8 := [27, 184, 0, 81, 153, 0, 11, 42, 27, 182, 0, 75, 167, 0, 6, 17, 252, 13, 172]
abbrev dktX4_weight_0 : List UInt8 := dkwX4_weight_0 ++ []
theorem dksX4_weight_0 : cX4_weight.data.toList.drop 0 = dktX4_weight_0 := by decide +kernel
theorem dX4_weight_0 : decode cX4_weight 0 = .ok (.iload_n 1, 1) := dk_27 (dk_at dksX4_weight_0 0 rfl rfl)
theorem dX4_weight_1 : decode cX4_weight 1 = .ok (.invokestatic 81, 3) := dk_184 0 81 (dk_at dksX4_weight_0 1 rfl rfl)
theorem dX4_weight_4 : decode cX4_weight 4 = .ok (.ifCond .eq 11, 3) := dk_153 0 11 (dk_at dksX4_weight_0 4 rfl rfl)
theorem dX4_weight_7 : decode cX4_weight 7 = .ok (.aload_n 0, 1) := dk_42 (dk_at dksX4_weight_0 7 rfl rfl)
theorem dX4_weight_8 : decode cX4_weight 8 = .ok (.iload_n 1, 1) := dk_27 (dk_at dksX4_weight_0 8 rfl rfl)
theorem dX4_weight_9 : decode cX4_weight 9 = .ok (.invokevirtual 75, 3) := dk_182 0 75 (dk_at dksX4_weight_0 9 rfl rfl)
theorem dX4_weight_12 : decode cX4_weight 12 = .ok (.goto 6, 3) := dk_167 0 6 (dk_at dksX4_weight_0 12 rfl rfl)
theorem dX4_weight_15 : decode cX4_weight 15 = .ok (.sipush (-1011), 3) := dk_17 252 13 (dk_at dksX4_weight_0 15 rfl rfl)
theorem dX4_weight_18 : decode cX4_weight 18 = .ok (.ireturn, 1) := dk_172 (dk_at dksX4_weight_0 18 rfl rfl)
abbrev cX4_weightAgain : ByteArray := prog_16_method_56_code
def yX4_weightAgain : MethodName := ⟨RX4, "weightAgain", "(I)I"⟩
def dkwX4_weightAgain_0 : List UInt8 := [42, 27, 182, 0, 185, 172]
abbrev dktX4_weightAgain_0 : List UInt8 := dkwX4_weightAgain_0 ++ []
theorem dksX4_weightAgain_0 : cX4_weightAgain.data.toList.drop 0 = dktX4_weightAgain_0 := by decide +kernel
theorem dX4_weightAgain_0 : decode cX4_weightAgain 0 = .ok (.aload_n 0, 1) := dk_42 (dk_at dksX4_weightAgain_0 0 rfl rfl)
theorem dX4_weightAgain_1 : decode cX4_weightAgain 1 = .ok (.iload_n 1, 1) := dk_27 (dk_at dksX4_weightAgain_0 1 rfl rfl)
theorem dX4_weightAgain_2 : decode cX4_weightAgain 2 = .ok (.invokevirtual 185, 3) := dk_182 0 185 (dk_at dksX4_weightAgain_0 2 rfl rfl)
theorem dX4_weightAgain_5 : decode cX4_weightAgain 5 = .ok (.ireturn, 1) := dk_172 (dk_at dksX4_weightAgain_0 5 rfl rfl)
abbrev cX4_ranked : ByteArray := prog_16_method_57_code
def yX4_ranked : MethodName := ⟨RX4, "ranked", "(I)I"⟩
def dkwX4_ranked_5 : List UInt8 := [167, 255, 144, 17, 252, 13, 172]
abbrev dktX4_ranked_5 : List UInt8 := dkwX4_ranked_5 ++ []
def dkwX4_ranked_4 : List UInt8 := [167, 0, 4, 3, 96, 62, 132, 4, 1, 167, 255, 168, 29, 27, 160, 0, 5, 28, 172, 132, 2, 1]
abbrev dktX4_ranked_4 : List UInt8 := dkwX4_ranked_4 ++ dktX4_ranked_5
def dkwX4_ranked_3 : List UInt8 := [21, 4, 28, 159, 0, 23, 21, 5, 157, 0, 14, 21, 5, 154, 0, 13, 21, 4, 28, 162, 0, 7, 4]
abbrev dktX4_ranked_3 : List UInt8 := dkwX4_ranked_3 ++ dktX4_ranked_4
def dkwX4_ranked_2 : List UInt8 := [180, 0, 7, 21, 4, 5, 184, 0, 37, 46, 42, 180, 0, 7, 28, 5, 184, 0, 37, 46, 100, 54, 5, 29]
abbrev dktX4_ranked_2 : List UInt8 := dkwX4_ranked_2 ++ dktX4_ranked_3
def dkwX4_ranked_1 : List UInt8 := [182, 0, 140, 42, 28, 182, 0, 140, 100, 54, 5, 21, 5, 153, 0, 8, 21, 5, 167, 0, 25, 42]
abbrev dktX4_ranked_1 : List UInt8 := dkwX4_ranked_1 ++ dktX4_ranked_2
def dkwX4_ranked_0 : List UInt8 := [3, 61, 28, 16, 6, 162, 0, 112, 3, 62, 3, 54, 4, 21, 4, 16, 6, 162, 0, 87, 42, 21, 4]
abbrev dktX4_ranked_0 : List UInt8 := dkwX4_ranked_0 ++ dktX4_ranked_1
theorem dksX4_ranked_0 : cX4_ranked.data.toList.drop 0 = dktX4_ranked_0 := by decide +kernel
theorem dksX4_ranked_1 : cX4_ranked.data.toList.drop 23 = dktX4_ranked_1 := dk_seg dksX4_ranked_0 23 rfl rfl
theorem dksX4_ranked_2 : cX4_ranked.data.toList.drop 45 = dktX4_ranked_2 := dk_seg dksX4_ranked_1 22 rfl rfl
theorem dksX4_ranked_3 : cX4_ranked.data.toList.drop 69 = dktX4_ranked_3 := dk_seg dksX4_ranked_2 24 rfl rfl
theorem dksX4_ranked_4 : cX4_ranked.data.toList.drop 92 = dktX4_ranked_4 := dk_seg dksX4_ranked_3 23 rfl rfl
theorem dksX4_ranked_5 : cX4_ranked.data.toList.drop 114 = dktX4_ranked_5 := dk_seg dksX4_ranked_4 22 rfl rfl
theorem dX4_ranked_0 : decode cX4_ranked 0 = .ok (.iconst 0, 1) := dk_3 (dk_at dksX4_ranked_0 0 rfl rfl)
theorem dX4_ranked_1 : decode cX4_ranked 1 = .ok (.istore_n 2, 1) := dk_61 (dk_at dksX4_ranked_0 1 rfl rfl)
theorem dX4_ranked_2 : decode cX4_ranked 2 = .ok (.iload_n 2, 1) := dk_28 (dk_at dksX4_ranked_0 2 rfl rfl)
theorem dX4_ranked_3 : decode cX4_ranked 3 = .ok (.bipush 6, 2) := dk_16 6 (dk_at dksX4_ranked_0 3 rfl rfl)
theorem dX4_ranked_5 : decode cX4_ranked 5 = .ok (.if_icmp .ge 112, 3) := dk_162 0 112 (dk_at dksX4_ranked_0 5 rfl rfl)
theorem dX4_ranked_8 : decode cX4_ranked 8 = .ok (.iconst 0, 1) := dk_3 (dk_at dksX4_ranked_0 8 rfl rfl)
theorem dX4_ranked_9 : decode cX4_ranked 9 = .ok (.istore_n 3, 1) := dk_62 (dk_at dksX4_ranked_0 9 rfl rfl)
theorem dX4_ranked_10 : decode cX4_ranked 10 = .ok (.iconst 0, 1) := dk_3 (dk_at dksX4_ranked_0 10 rfl rfl)
theorem dX4_ranked_11 : decode cX4_ranked 11 = .ok (.istore 4, 2) := dk_54 4 (dk_at dksX4_ranked_0 11 rfl rfl)
theorem dX4_ranked_13 : decode cX4_ranked 13 = .ok (.iload 4, 2) := dk_21 4 (dk_at dksX4_ranked_0 13 rfl rfl)
theorem dX4_ranked_15 : decode cX4_ranked 15 = .ok (.bipush 6, 2) := dk_16 6 (dk_at dksX4_ranked_0 15 rfl rfl)
theorem dX4_ranked_17 : decode cX4_ranked 17 = .ok (.if_icmp .ge 87, 3) := dk_162 0 87 (dk_at dksX4_ranked_0 17 rfl rfl)
theorem dX4_ranked_20 : decode cX4_ranked 20 = .ok (.aload_n 0, 1) := dk_42 (dk_at dksX4_ranked_0 20 rfl rfl)
theorem dX4_ranked_21 : decode cX4_ranked 21 = .ok (.iload 4, 2) := dk_21 4 (dk_at dksX4_ranked_0 21 rfl rfl)
theorem dX4_ranked_23 : decode cX4_ranked 23 = .ok (.invokevirtual 140, 3) := dk_182 0 140 (dk_at dksX4_ranked_1 0 rfl rfl)
theorem dX4_ranked_26 : decode cX4_ranked 26 = .ok (.aload_n 0, 1) := dk_42 (dk_at dksX4_ranked_1 3 rfl rfl)
theorem dX4_ranked_27 : decode cX4_ranked 27 = .ok (.iload_n 2, 1) := dk_28 (dk_at dksX4_ranked_1 4 rfl rfl)
theorem dX4_ranked_28 : decode cX4_ranked 28 = .ok (.invokevirtual 140, 3) := dk_182 0 140 (dk_at dksX4_ranked_1 5 rfl rfl)
theorem dX4_ranked_31 : decode cX4_ranked 31 = .ok (.isub, 1) := dk_100 (dk_at dksX4_ranked_1 8 rfl rfl)
theorem dX4_ranked_32 : decode cX4_ranked 32 = .ok (.istore 5, 2) := dk_54 5 (dk_at dksX4_ranked_1 9 rfl rfl)
theorem dX4_ranked_34 : decode cX4_ranked 34 = .ok (.iload 5, 2) := dk_21 5 (dk_at dksX4_ranked_1 11 rfl rfl)
theorem dX4_ranked_36 : decode cX4_ranked 36 = .ok (.ifCond .eq 8, 3) := dk_153 0 8 (dk_at dksX4_ranked_1 13 rfl rfl)
theorem dX4_ranked_39 : decode cX4_ranked 39 = .ok (.iload 5, 2) := dk_21 5 (dk_at dksX4_ranked_1 16 rfl rfl)
theorem dX4_ranked_41 : decode cX4_ranked 41 = .ok (.goto 25, 3) := dk_167 0 25 (dk_at dksX4_ranked_1 18 rfl rfl)
theorem dX4_ranked_44 : decode cX4_ranked 44 = .ok (.aload_n 0, 1) := dk_42 (dk_at dksX4_ranked_1 21 rfl rfl)
theorem dX4_ranked_45 : decode cX4_ranked 45 = .ok (.getfield 7, 3) := dk_180 0 7 (dk_at dksX4_ranked_2 0 rfl rfl)
theorem dX4_ranked_48 : decode cX4_ranked 48 = .ok (.iload 4, 2) := dk_21 4 (dk_at dksX4_ranked_2 3 rfl rfl)
theorem dX4_ranked_50 : decode cX4_ranked 50 = .ok (.iconst 2, 1) := dk_5 (dk_at dksX4_ranked_2 5 rfl rfl)
theorem dX4_ranked_51 : decode cX4_ranked 51 = .ok (.invokestatic 37, 3) := dk_184 0 37 (dk_at dksX4_ranked_2 6 rfl rfl)
theorem dX4_ranked_54 : decode cX4_ranked 54 = .ok (.iaload, 1) := dk_46 (dk_at dksX4_ranked_2 9 rfl rfl)
theorem dX4_ranked_55 : decode cX4_ranked 55 = .ok (.aload_n 0, 1) := dk_42 (dk_at dksX4_ranked_2 10 rfl rfl)
theorem dX4_ranked_56 : decode cX4_ranked 56 = .ok (.getfield 7, 3) := dk_180 0 7 (dk_at dksX4_ranked_2 11 rfl rfl)
theorem dX4_ranked_59 : decode cX4_ranked 59 = .ok (.iload_n 2, 1) := dk_28 (dk_at dksX4_ranked_2 14 rfl rfl)
theorem dX4_ranked_60 : decode cX4_ranked 60 = .ok (.iconst 2, 1) := dk_5 (dk_at dksX4_ranked_2 15 rfl rfl)
theorem dX4_ranked_61 : decode cX4_ranked 61 = .ok (.invokestatic 37, 3) := dk_184 0 37 (dk_at dksX4_ranked_2 16 rfl rfl)
theorem dX4_ranked_64 : decode cX4_ranked 64 = .ok (.iaload, 1) := dk_46 (dk_at dksX4_ranked_2 19 rfl rfl)
theorem dX4_ranked_65 : decode cX4_ranked 65 = .ok (.isub, 1) := dk_100 (dk_at dksX4_ranked_2 20 rfl rfl)
theorem dX4_ranked_66 : decode cX4_ranked 66 = .ok (.istore 5, 2) := dk_54 5 (dk_at dksX4_ranked_2 21 rfl rfl)
theorem dX4_ranked_68 : decode cX4_ranked 68 = .ok (.iload_n 3, 1) := dk_29 (dk_at dksX4_ranked_2 23 rfl rfl)
theorem dX4_ranked_69 : decode cX4_ranked 69 = .ok (.iload 4, 2) := dk_21 4 (dk_at dksX4_ranked_3 0 rfl rfl)
theorem dX4_ranked_71 : decode cX4_ranked 71 = .ok (.iload_n 2, 1) := dk_28 (dk_at dksX4_ranked_3 2 rfl rfl)
theorem dX4_ranked_72 : decode cX4_ranked 72 = .ok (.if_icmp .eq 23, 3) := dk_159 0 23 (dk_at dksX4_ranked_3 3 rfl rfl)
theorem dX4_ranked_75 : decode cX4_ranked 75 = .ok (.iload 5, 2) := dk_21 5 (dk_at dksX4_ranked_3 6 rfl rfl)
theorem dX4_ranked_77 : decode cX4_ranked 77 = .ok (.ifCond .gt 14, 3) := dk_157 0 14 (dk_at dksX4_ranked_3 8 rfl rfl)
theorem dX4_ranked_80 : decode cX4_ranked 80 = .ok (.iload 5, 2) := dk_21 5 (dk_at dksX4_ranked_3 11 rfl rfl)
theorem dX4_ranked_82 : decode cX4_ranked 82 = .ok (.ifCond .ne 13, 3) := dk_154 0 13 (dk_at dksX4_ranked_3 13 rfl rfl)
theorem dX4_ranked_85 : decode cX4_ranked 85 = .ok (.iload 4, 2) := dk_21 4 (dk_at dksX4_ranked_3 16 rfl rfl)
theorem dX4_ranked_87 : decode cX4_ranked 87 = .ok (.iload_n 2, 1) := dk_28 (dk_at dksX4_ranked_3 18 rfl rfl)
theorem dX4_ranked_88 : decode cX4_ranked 88 = .ok (.if_icmp .ge 7, 3) := dk_162 0 7 (dk_at dksX4_ranked_3 19 rfl rfl)
theorem dX4_ranked_91 : decode cX4_ranked 91 = .ok (.iconst 1, 1) := dk_4 (dk_at dksX4_ranked_3 22 rfl rfl)
theorem dX4_ranked_92 : decode cX4_ranked 92 = .ok (.goto 4, 3) := dk_167 0 4 (dk_at dksX4_ranked_4 0 rfl rfl)
theorem dX4_ranked_95 : decode cX4_ranked 95 = .ok (.iconst 0, 1) := dk_3 (dk_at dksX4_ranked_4 3 rfl rfl)
theorem dX4_ranked_96 : decode cX4_ranked 96 = .ok (.iadd, 1) := dk_96 (dk_at dksX4_ranked_4 4 rfl rfl)
theorem dX4_ranked_97 : decode cX4_ranked 97 = .ok (.istore_n 3, 1) := dk_62 (dk_at dksX4_ranked_4 5 rfl rfl)
theorem dX4_ranked_98 : decode cX4_ranked 98 = .ok (.iinc 4 1, 3) := dk_132 4 1 (dk_at dksX4_ranked_4 6 rfl rfl)
theorem dX4_ranked_101 : decode cX4_ranked 101 = .ok (.goto (-88), 3) := dk_167 255 168 (dk_at dksX4_ranked_4 9 rfl rfl)
theorem dX4_ranked_104 : decode cX4_ranked 104 = .ok (.iload_n 3, 1) := dk_29 (dk_at dksX4_ranked_4 12 rfl rfl)
theorem dX4_ranked_105 : decode cX4_ranked 105 = .ok (.iload_n 1, 1) := dk_27 (dk_at dksX4_ranked_4 13 rfl rfl)
theorem dX4_ranked_106 : decode cX4_ranked 106 = .ok (.if_icmp .ne 5, 3) := dk_160 0 5 (dk_at dksX4_ranked_4 14 rfl rfl)
theorem dX4_ranked_109 : decode cX4_ranked 109 = .ok (.iload_n 2, 1) := dk_28 (dk_at dksX4_ranked_4 17 rfl rfl)
theorem dX4_ranked_110 : decode cX4_ranked 110 = .ok (.ireturn, 1) := dk_172 (dk_at dksX4_ranked_4 18 rfl rfl)
theorem dX4_ranked_111 : decode cX4_ranked 111 = .ok (.iinc 2 1, 3) := dk_132 2 1 (dk_at dksX4_ranked_4 19 rfl rfl)
theorem dX4_ranked_114 : decode cX4_ranked 114 = .ok (.goto (-112), 3) := dk_167 255 144 (dk_at dksX4_ranked_5 0 rfl rfl)
theorem dX4_ranked_117 : decode cX4_ranked 117 = .ok (.sipush (-1011), 3) := dk_17 252 13 (dk_at dksX4_ranked_5 3 rfl rfl)
theorem dX4_ranked_120 : decode cX4_ranked 120 = .ok (.ireturn, 1) := dk_172 (dk_at dksX4_ranked_5 6 rfl rfl)
abbrev cX4_brightest : ByteArray := prog_16_method_58_code
def yX4_brightest : MethodName := ⟨RX4, "brightest", "(I)I"⟩
def dkwX4_brightest_6 : List UInt8 := [167, 255, 131, 29, 27, 160, 0, 5, 28, 172, 132, 2, 1, 167, 255, 103, 17, 252, 13, 172]
abbrev dktX4_brightest_6 : List UInt8 := dkwX4_brightest_6 ++ []
def dkwX4_brightest_5 : List UInt8 := [157, 0, 14, 21, 5, 154, 0, 13, 21, 4, 28, 162, 0, 7, 4, 167, 0, 4, 3, 96, 62, 132, 4, 1]
abbrev dktX4_brightest_5 : List UInt8 := dkwX4_brightest_5 ++ dktX4_brightest_6
def dkwX4_brightest_4 : List UInt8 := [46, 42, 180, 0, 7, 21, 4, 7, 184, 0, 72, 46, 100, 54, 5, 29, 21, 4, 28, 159, 0, 23, 21, 5]
abbrev dktX4_brightest_4 : List UInt8 := dkwX4_brightest_4 ++ dktX4_brightest_5
def dkwX4_brightest_3 : List UInt8 := [46, 104, 100, 54, 5, 21, 5, 153, 0, 8, 21, 5, 167, 0, 25, 42, 180, 0, 7, 28, 7, 184, 0, 72]
abbrev dktX4_brightest_3 : List UInt8 := dkwX4_brightest_3 ++ dktX4_brightest_4
def dkwX4_brightest_2 : List UInt8 := [184, 0, 72, 46, 104, 42, 180, 0, 7, 28, 4, 184, 0, 72, 46, 42, 180, 0, 7, 28, 5, 184, 0, 72]
abbrev dktX4_brightest_2 : List UInt8 := dkwX4_brightest_2 ++ dktX4_brightest_3
def dkwX4_brightest_1 : List UInt8 := [46, 162, 0, 120, 42, 180, 0, 7, 21, 4, 4, 184, 0, 72, 46, 42, 180, 0, 7, 21, 4, 5]
abbrev dktX4_brightest_1 : List UInt8 := dkwX4_brightest_1 ++ dktX4_brightest_2
def dkwX4_brightest_0 : List UInt8 := [3, 61, 28, 42, 180, 0, 7, 3, 46, 162, 0, 149, 3, 62, 3, 54, 4, 21, 4, 42, 180, 0, 7, 3]
abbrev dktX4_brightest_0 : List UInt8 := dkwX4_brightest_0 ++ dktX4_brightest_1
theorem dksX4_brightest_0 : cX4_brightest.data.toList.drop 0 = dktX4_brightest_0 := by decide +kernel
theorem dksX4_brightest_1 : cX4_brightest.data.toList.drop 24 = dktX4_brightest_1 := dk_seg dksX4_brightest_0 24 rfl rfl
theorem dksX4_brightest_2 : cX4_brightest.data.toList.drop 46 = dktX4_brightest_2 := dk_seg dksX4_brightest_1 22 rfl rfl
theorem dksX4_brightest_3 : cX4_brightest.data.toList.drop 70 = dktX4_brightest_3 := dk_seg dksX4_brightest_2 24 rfl rfl
theorem dksX4_brightest_4 : cX4_brightest.data.toList.drop 94 = dktX4_brightest_4 := dk_seg dksX4_brightest_3 24 rfl rfl
theorem dksX4_brightest_5 : cX4_brightest.data.toList.drop 118 = dktX4_brightest_5 := dk_seg dksX4_brightest_4 24 rfl rfl
theorem dksX4_brightest_6 : cX4_brightest.data.toList.drop 142 = dktX4_brightest_6 := dk_seg dksX4_brightest_5 24 rfl rfl
theorem dX4_brightest_0 : decode cX4_brightest 0 = .ok (.iconst 0, 1) := dk_3 (dk_at dksX4_brightest_0 0 rfl rfl)
theorem dX4_brightest_1 : decode cX4_brightest 1 = .ok (.istore_n 2, 1) := dk_61 (dk_at dksX4_brightest_0 1 rfl rfl)
theorem dX4_brightest_2 : decode cX4_brightest 2 = .ok (.iload_n 2, 1) := dk_28 (dk_at dksX4_brightest_0 2 rfl rfl)
theorem dX4_brightest_3 : decode cX4_brightest 3 = .ok (.aload_n 0, 1) := dk_42 (dk_at dksX4_brightest_0 3 rfl rfl)
theorem dX4_brightest_4 : decode cX4_brightest 4 = .ok (.getfield 7, 3) := dk_180 0 7 (dk_at dksX4_brightest_0 4 rfl rfl)
theorem dX4_brightest_7 : decode cX4_brightest 7 = .ok (.iconst 0, 1) := dk_3 (dk_at dksX4_brightest_0 7 rfl rfl)
theorem dX4_brightest_8 : decode cX4_brightest 8 = .ok (.iaload, 1) := dk_46 (dk_at dksX4_brightest_0 8 rfl rfl)
theorem dX4_brightest_9 : decode cX4_brightest 9 = .ok (.if_icmp .ge 149, 3) := dk_162 0 149 (dk_at dksX4_brightest_0 9 rfl rfl)
theorem dX4_brightest_12 : decode cX4_brightest 12 = .ok (.iconst 0, 1) := dk_3 (dk_at dksX4_brightest_0 12 rfl rfl)
theorem dX4_brightest_13 : decode cX4_brightest 13 = .ok (.istore_n 3, 1) := dk_62 (dk_at dksX4_brightest_0 13 rfl rfl)
theorem dX4_brightest_14 : decode cX4_brightest 14 = .ok (.iconst 0, 1) := dk_3 (dk_at dksX4_brightest_0 14 rfl rfl)
theorem dX4_brightest_15 : decode cX4_brightest 15 = .ok (.istore 4, 2) := dk_54 4 (dk_at dksX4_brightest_0 15 rfl rfl)
theorem dX4_brightest_17 : decode cX4_brightest 17 = .ok (.iload 4, 2) := dk_21 4 (dk_at dksX4_brightest_0 17 rfl rfl)
theorem dX4_brightest_19 : decode cX4_brightest 19 = .ok (.aload_n 0, 1) := dk_42 (dk_at dksX4_brightest_0 19 rfl rfl)
theorem dX4_brightest_20 : decode cX4_brightest 20 = .ok (.getfield 7, 3) := dk_180 0 7 (dk_at dksX4_brightest_0 20 rfl rfl)
theorem dX4_brightest_23 : decode cX4_brightest 23 = .ok (.iconst 0, 1) := dk_3 (dk_at dksX4_brightest_0 23 rfl rfl)
theorem dX4_brightest_24 : decode cX4_brightest 24 = .ok (.iaload, 1) := dk_46 (dk_at dksX4_brightest_1 0 rfl rfl)
theorem dX4_brightest_25 : decode cX4_brightest 25 = .ok (.if_icmp .ge 120, 3) := dk_162 0 120 (dk_at dksX4_brightest_1 1 rfl rfl)
theorem dX4_brightest_28 : decode cX4_brightest 28 = .ok (.aload_n 0, 1) := dk_42 (dk_at dksX4_brightest_1 4 rfl rfl)
theorem dX4_brightest_29 : decode cX4_brightest 29 = .ok (.getfield 7, 3) := dk_180 0 7 (dk_at dksX4_brightest_1 5 rfl rfl)
theorem dX4_brightest_32 : decode cX4_brightest 32 = .ok (.iload 4, 2) := dk_21 4 (dk_at dksX4_brightest_1 8 rfl rfl)
theorem dX4_brightest_34 : decode cX4_brightest 34 = .ok (.iconst 1, 1) := dk_4 (dk_at dksX4_brightest_1 10 rfl rfl)
theorem dX4_brightest_35 : decode cX4_brightest 35 = .ok (.invokestatic 72, 3) := dk_184 0 72 (dk_at dksX4_brightest_1 11 rfl rfl)
theorem dX4_brightest_38 : decode cX4_brightest 38 = .ok (.iaload, 1) := dk_46 (dk_at dksX4_brightest_1 14 rfl rfl)
theorem dX4_brightest_39 : decode cX4_brightest 39 = .ok (.aload_n 0, 1) := dk_42 (dk_at dksX4_brightest_1 15 rfl rfl)
theorem dX4_brightest_40 : decode cX4_brightest 40 = .ok (.getfield 7, 3) := dk_180 0 7 (dk_at dksX4_brightest_1 16 rfl rfl)
theorem dX4_brightest_43 : decode cX4_brightest 43 = .ok (.iload 4, 2) := dk_21 4 (dk_at dksX4_brightest_1 19 rfl rfl)
theorem dX4_brightest_45 : decode cX4_brightest 45 = .ok (.iconst 2, 1) := dk_5 (dk_at dksX4_brightest_1 21 rfl rfl)
theorem dX4_brightest_46 : decode cX4_brightest 46 = .ok (.invokestatic 72, 3) := dk_184 0 72 (dk_at dksX4_brightest_2 0 rfl rfl)
theorem dX4_brightest_49 : decode cX4_brightest 49 = .ok (.iaload, 1) := dk_46 (dk_at dksX4_brightest_2 3 rfl rfl)
theorem dX4_brightest_50 : decode cX4_brightest 50 = .ok (.imul, 1) := dk_104 (dk_at dksX4_brightest_2 4 rfl rfl)
theorem dX4_brightest_51 : decode cX4_brightest 51 = .ok (.aload_n 0, 1) := dk_42 (dk_at dksX4_brightest_2 5 rfl rfl)
theorem dX4_brightest_52 : decode cX4_brightest 52 = .ok (.getfield 7, 3) := dk_180 0 7 (dk_at dksX4_brightest_2 6 rfl rfl)
theorem dX4_brightest_55 : decode cX4_brightest 55 = .ok (.iload_n 2, 1) := dk_28 (dk_at dksX4_brightest_2 9 rfl rfl)
theorem dX4_brightest_56 : decode cX4_brightest 56 = .ok (.iconst 1, 1) := dk_4 (dk_at dksX4_brightest_2 10 rfl rfl)
theorem dX4_brightest_57 : decode cX4_brightest 57 = .ok (.invokestatic 72, 3) := dk_184 0 72 (dk_at dksX4_brightest_2 11 rfl rfl)
theorem dX4_brightest_60 : decode cX4_brightest 60 = .ok (.iaload, 1) := dk_46 (dk_at dksX4_brightest_2 14 rfl rfl)
theorem dX4_brightest_61 : decode cX4_brightest 61 = .ok (.aload_n 0, 1) := dk_42 (dk_at dksX4_brightest_2 15 rfl rfl)
theorem dX4_brightest_62 : decode cX4_brightest 62 = .ok (.getfield 7, 3) := dk_180 0 7 (dk_at dksX4_brightest_2 16 rfl rfl)
theorem dX4_brightest_65 : decode cX4_brightest 65 = .ok (.iload_n 2, 1) := dk_28 (dk_at dksX4_brightest_2 19 rfl rfl)
theorem dX4_brightest_66 : decode cX4_brightest 66 = .ok (.iconst 2, 1) := dk_5 (dk_at dksX4_brightest_2 20 rfl rfl)
theorem dX4_brightest_67 : decode cX4_brightest 67 = .ok (.invokestatic 72, 3) := dk_184 0 72 (dk_at dksX4_brightest_2 21 rfl rfl)
theorem dX4_brightest_70 : decode cX4_brightest 70 = .ok (.iaload, 1) := dk_46 (dk_at dksX4_brightest_3 0 rfl rfl)
theorem dX4_brightest_71 : decode cX4_brightest 71 = .ok (.imul, 1) := dk_104 (dk_at dksX4_brightest_3 1 rfl rfl)
theorem dX4_brightest_72 : decode cX4_brightest 72 = .ok (.isub, 1) := dk_100 (dk_at dksX4_brightest_3 2 rfl rfl)
theorem dX4_brightest_73 : decode cX4_brightest 73 = .ok (.istore 5, 2) := dk_54 5 (dk_at dksX4_brightest_3 3 rfl rfl)
theorem dX4_brightest_75 : decode cX4_brightest 75 = .ok (.iload 5, 2) := dk_21 5 (dk_at dksX4_brightest_3 5 rfl rfl)
theorem dX4_brightest_77 : decode cX4_brightest 77 = .ok (.ifCond .eq 8, 3) := dk_153 0 8 (dk_at dksX4_brightest_3 7 rfl rfl)
theorem dX4_brightest_80 : decode cX4_brightest 80 = .ok (.iload 5, 2) := dk_21 5 (dk_at dksX4_brightest_3 10 rfl rfl)
theorem dX4_brightest_82 : decode cX4_brightest 82 = .ok (.goto 25, 3) := dk_167 0 25 (dk_at dksX4_brightest_3 12 rfl rfl)
theorem dX4_brightest_85 : decode cX4_brightest 85 = .ok (.aload_n 0, 1) := dk_42 (dk_at dksX4_brightest_3 15 rfl rfl)
theorem dX4_brightest_86 : decode cX4_brightest 86 = .ok (.getfield 7, 3) := dk_180 0 7 (dk_at dksX4_brightest_3 16 rfl rfl)
theorem dX4_brightest_89 : decode cX4_brightest 89 = .ok (.iload_n 2, 1) := dk_28 (dk_at dksX4_brightest_3 19 rfl rfl)
theorem dX4_brightest_90 : decode cX4_brightest 90 = .ok (.iconst 4, 1) := dk_7 (dk_at dksX4_brightest_3 20 rfl rfl)
theorem dX4_brightest_91 : decode cX4_brightest 91 = .ok (.invokestatic 72, 3) := dk_184 0 72 (dk_at dksX4_brightest_3 21 rfl rfl)
theorem dX4_brightest_94 : decode cX4_brightest 94 = .ok (.iaload, 1) := dk_46 (dk_at dksX4_brightest_4 0 rfl rfl)
theorem dX4_brightest_95 : decode cX4_brightest 95 = .ok (.aload_n 0, 1) := dk_42 (dk_at dksX4_brightest_4 1 rfl rfl)
theorem dX4_brightest_96 : decode cX4_brightest 96 = .ok (.getfield 7, 3) := dk_180 0 7 (dk_at dksX4_brightest_4 2 rfl rfl)
theorem dX4_brightest_99 : decode cX4_brightest 99 = .ok (.iload 4, 2) := dk_21 4 (dk_at dksX4_brightest_4 5 rfl rfl)
theorem dX4_brightest_101 : decode cX4_brightest 101 = .ok (.iconst 4, 1) := dk_7 (dk_at dksX4_brightest_4 7 rfl rfl)
theorem dX4_brightest_102 : decode cX4_brightest 102 = .ok (.invokestatic 72, 3) := dk_184 0 72 (dk_at dksX4_brightest_4 8 rfl rfl)
theorem dX4_brightest_105 : decode cX4_brightest 105 = .ok (.iaload, 1) := dk_46 (dk_at dksX4_brightest_4 11 rfl rfl)
theorem dX4_brightest_106 : decode cX4_brightest 106 = .ok (.isub, 1) := dk_100 (dk_at dksX4_brightest_4 12 rfl rfl)
theorem dX4_brightest_107 : decode cX4_brightest 107 = .ok (.istore 5, 2) := dk_54 5 (dk_at dksX4_brightest_4 13 rfl rfl)
theorem dX4_brightest_109 : decode cX4_brightest 109 = .ok (.iload_n 3, 1) := dk_29 (dk_at dksX4_brightest_4 15 rfl rfl)
theorem dX4_brightest_110 : decode cX4_brightest 110 = .ok (.iload 4, 2) := dk_21 4 (dk_at dksX4_brightest_4 16 rfl rfl)
theorem dX4_brightest_112 : decode cX4_brightest 112 = .ok (.iload_n 2, 1) := dk_28 (dk_at dksX4_brightest_4 18 rfl rfl)
theorem dX4_brightest_113 : decode cX4_brightest 113 = .ok (.if_icmp .eq 23, 3) := dk_159 0 23 (dk_at dksX4_brightest_4 19 rfl rfl)
theorem dX4_brightest_116 : decode cX4_brightest 116 = .ok (.iload 5, 2) := dk_21 5 (dk_at dksX4_brightest_4 22 rfl rfl)
theorem dX4_brightest_118 : decode cX4_brightest 118 = .ok (.ifCond .gt 14, 3) := dk_157 0 14 (dk_at dksX4_brightest_5 0 rfl rfl)
theorem dX4_brightest_121 : decode cX4_brightest 121 = .ok (.iload 5, 2) := dk_21 5 (dk_at dksX4_brightest_5 3 rfl rfl)
theorem dX4_brightest_123 : decode cX4_brightest 123 = .ok (.ifCond .ne 13, 3) := dk_154 0 13 (dk_at dksX4_brightest_5 5 rfl rfl)
theorem dX4_brightest_126 : decode cX4_brightest 126 = .ok (.iload 4, 2) := dk_21 4 (dk_at dksX4_brightest_5 8 rfl rfl)
theorem dX4_brightest_128 : decode cX4_brightest 128 = .ok (.iload_n 2, 1) := dk_28 (dk_at dksX4_brightest_5 10 rfl rfl)
theorem dX4_brightest_129 : decode cX4_brightest 129 = .ok (.if_icmp .ge 7, 3) := dk_162 0 7 (dk_at dksX4_brightest_5 11 rfl rfl)
theorem dX4_brightest_132 : decode cX4_brightest 132 = .ok (.iconst 1, 1) := dk_4 (dk_at dksX4_brightest_5 14 rfl rfl)
theorem dX4_brightest_133 : decode cX4_brightest 133 = .ok (.goto 4, 3) := dk_167 0 4 (dk_at dksX4_brightest_5 15 rfl rfl)
theorem dX4_brightest_136 : decode cX4_brightest 136 = .ok (.iconst 0, 1) := dk_3 (dk_at dksX4_brightest_5 18 rfl rfl)
theorem dX4_brightest_137 : decode cX4_brightest 137 = .ok (.iadd, 1) := dk_96 (dk_at dksX4_brightest_5 19 rfl rfl)
theorem dX4_brightest_138 : decode cX4_brightest 138 = .ok (.istore_n 3, 1) := dk_62 (dk_at dksX4_brightest_5 20 rfl rfl)
theorem dX4_brightest_139 : decode cX4_brightest 139 = .ok (.iinc 4 1, 3) := dk_132 4 1 (dk_at dksX4_brightest_5 21 rfl rfl)
theorem dX4_brightest_142 : decode cX4_brightest 142 = .ok (.goto (-125), 3) := dk_167 255 131 (dk_at dksX4_brightest_6 0 rfl rfl)
theorem dX4_brightest_145 : decode cX4_brightest 145 = .ok (.iload_n 3, 1) := dk_29 (dk_at dksX4_brightest_6 3 rfl rfl)
theorem dX4_brightest_146 : decode cX4_brightest 146 = .ok (.iload_n 1, 1) := dk_27 (dk_at dksX4_brightest_6 4 rfl rfl)
theorem dX4_brightest_147 : decode cX4_brightest 147 = .ok (.if_icmp .ne 5, 3) := dk_160 0 5 (dk_at dksX4_brightest_6 5 rfl rfl)
theorem dX4_brightest_150 : decode cX4_brightest 150 = .ok (.iload_n 2, 1) := dk_28 (dk_at dksX4_brightest_6 8 rfl rfl)
theorem dX4_brightest_151 : decode cX4_brightest 151 = .ok (.ireturn, 1) := dk_172 (dk_at dksX4_brightest_6 9 rfl rfl)
theorem dX4_brightest_152 : decode cX4_brightest 152 = .ok (.iinc 2 1, 3) := dk_132 2 1 (dk_at dksX4_brightest_6 10 rfl rfl)
theorem dX4_brightest_155 : decode cX4_brightest 155 = .ok (.goto (-153), 3) := dk_167 255 103 (dk_at dksX4_brightest_6 13 rfl rfl)
theorem dX4_brightest_158 : decode cX4_brightest 158 = .ok (.sipush (-1011), 3) := dk_17 252 13 (dk_at dksX4_brightest_6 16 rfl rfl)
theorem dX4_brightest_161 : decode cX4_brightest 161 = .ok (.ireturn, 1) := dk_172 (dk_at dksX4_brightest_6 19 rfl rfl)
abbrev cX4_append : ByteArray := prog_16_method_61_code
def yX4_append : MethodName := ⟨RX4, "append", "(I)I"⟩
def dkwX4_append_2 : List UInt8 := [42, 180, 0, 194, 172]
abbrev dktX4_append_2 : List UInt8 := dkwX4_append_2 ++ []
def dkwX4_append_1 : List UInt8 := [17, 252, 11, 172, 42, 180, 0, 31, 42, 180, 0, 194, 27, 79, 42, 89, 180, 0, 194, 4, 96, 181, 0, 194]
abbrev dktX4_append_1 : List UInt8 := dkwX4_append_1 ++ dktX4_append_2
def dkwX4_append_0 : List UInt8 := [27, 16, 32, 16, 126, 184, 0, 68, 154, 0, 7, 17, 252, 12, 172, 42, 180, 0, 194, 16, 60, 160, 0, 7]
abbrev dktX4_append_0 : List UInt8 := dkwX4_append_0 ++ dktX4_append_1
theorem dksX4_append_0 : cX4_append.data.toList.drop 0 = dktX4_append_0 := by decide +kernel
theorem dksX4_append_1 : cX4_append.data.toList.drop 24 = dktX4_append_1 := dk_seg dksX4_append_0 24 rfl rfl
theorem dksX4_append_2 : cX4_append.data.toList.drop 48 = dktX4_append_2 := dk_seg dksX4_append_1 24 rfl rfl
theorem dX4_append_0 : decode cX4_append 0 = .ok (.iload_n 1, 1) := dk_27 (dk_at dksX4_append_0 0 rfl rfl)
theorem dX4_append_1 : decode cX4_append 1 = .ok (.bipush 32, 2) := dk_16 32 (dk_at dksX4_append_0 1 rfl rfl)
theorem dX4_append_3 : decode cX4_append 3 = .ok (.bipush 126, 2) := dk_16 126 (dk_at dksX4_append_0 3 rfl rfl)
theorem dX4_append_5 : decode cX4_append 5 = .ok (.invokestatic 68, 3) := dk_184 0 68 (dk_at dksX4_append_0 5 rfl rfl)
theorem dX4_append_8 : decode cX4_append 8 = .ok (.ifCond .ne 7, 3) := dk_154 0 7 (dk_at dksX4_append_0 8 rfl rfl)
theorem dX4_append_11 : decode cX4_append 11 = .ok (.sipush (-1012), 3) := dk_17 252 12 (dk_at dksX4_append_0 11 rfl rfl)
theorem dX4_append_14 : decode cX4_append 14 = .ok (.ireturn, 1) := dk_172 (dk_at dksX4_append_0 14 rfl rfl)
theorem dX4_append_15 : decode cX4_append 15 = .ok (.aload_n 0, 1) := dk_42 (dk_at dksX4_append_0 15 rfl rfl)
theorem dX4_append_16 : decode cX4_append 16 = .ok (.getfield 194, 3) := dk_180 0 194 (dk_at dksX4_append_0 16 rfl rfl)
theorem dX4_append_19 : decode cX4_append 19 = .ok (.bipush 60, 2) := dk_16 60 (dk_at dksX4_append_0 19 rfl rfl)
theorem dX4_append_21 : decode cX4_append 21 = .ok (.if_icmp .ne 7, 3) := dk_160 0 7 (dk_at dksX4_append_0 21 rfl rfl)
theorem dX4_append_24 : decode cX4_append 24 = .ok (.sipush (-1013), 3) := dk_17 252 11 (dk_at dksX4_append_1 0 rfl rfl)
theorem dX4_append_27 : decode cX4_append 27 = .ok (.ireturn, 1) := dk_172 (dk_at dksX4_append_1 3 rfl rfl)
theorem dX4_append_28 : decode cX4_append 28 = .ok (.aload_n 0, 1) := dk_42 (dk_at dksX4_append_1 4 rfl rfl)
theorem dX4_append_29 : decode cX4_append 29 = .ok (.getfield 31, 3) := dk_180 0 31 (dk_at dksX4_append_1 5 rfl rfl)
theorem dX4_append_32 : decode cX4_append 32 = .ok (.aload_n 0, 1) := dk_42 (dk_at dksX4_append_1 8 rfl rfl)
theorem dX4_append_33 : decode cX4_append 33 = .ok (.getfield 194, 3) := dk_180 0 194 (dk_at dksX4_append_1 9 rfl rfl)
theorem dX4_append_36 : decode cX4_append 36 = .ok (.iload_n 1, 1) := dk_27 (dk_at dksX4_append_1 12 rfl rfl)
theorem dX4_append_37 : decode cX4_append 37 = .ok (.iastore, 1) := dk_79 (dk_at dksX4_append_1 13 rfl rfl)
theorem dX4_append_38 : decode cX4_append 38 = .ok (.aload_n 0, 1) := dk_42 (dk_at dksX4_append_1 14 rfl rfl)
theorem dX4_append_39 : decode cX4_append 39 = .ok (.dup, 1) := dk_89 (dk_at dksX4_append_1 15 rfl rfl)
theorem dX4_append_40 : decode cX4_append 40 = .ok (.getfield 194, 3) := dk_180 0 194 (dk_at dksX4_append_1 16 rfl rfl)
theorem dX4_append_43 : decode cX4_append 43 = .ok (.iconst 1, 1) := dk_4 (dk_at dksX4_append_1 19 rfl rfl)
theorem dX4_append_44 : decode cX4_append 44 = .ok (.iadd, 1) := dk_96 (dk_at dksX4_append_1 20 rfl rfl)
theorem dX4_append_45 : decode cX4_append 45 = .ok (.putfield 194, 3) := dk_181 0 194 (dk_at dksX4_append_1 21 rfl rfl)
theorem dX4_append_48 : decode cX4_append 48 = .ok (.aload_n 0, 1) := dk_42 (dk_at dksX4_append_2 0 rfl rfl)
theorem dX4_append_49 : decode cX4_append 49 = .ok (.getfield 194, 3) := dk_180 0 194 (dk_at dksX4_append_2 1 rfl rfl)
theorem dX4_append_52 : decode cX4_append 52 = .ok (.ireturn, 1) := dk_172 (dk_at dksX4_append_2 4 rfl rfl)
abbrev cX4_run : ByteArray := prog_16_method_71_code
def yX4_run : MethodName := ⟨RX4, "run", "()I"⟩
def dkwX4_run_3 : List UInt8 := [182, 0, 238, 182, 0, 102, 172]
abbrev dktX4_run_3 : List UInt8 := dkwX4_run_3 ++ []
def dkwX4_run_2 : List UInt8 := [181, 0, 222, 42, 182, 0, 235, 60, 42, 42, 180, 0, 41, 154, 0, 7, 27, 167, 0, 10, 42, 27, 4, 100]
abbrev dktX4_run_2 : List UInt8 := dkwX4_run_2 ++ dktX4_run_3
def dkwX4_run_1 : List UInt8 := [182, 0, 235, 60, 42, 180, 0, 203, 153, 0, 12, 17, 248, 48, 42, 180, 0, 197, 100, 172, 42, 4]
abbrev dktX4_run_1 : List UInt8 := dkwX4_run_1 ++ dktX4_run_2
def dkwX4_run_0 : List UInt8 := [42, 182, 0, 96, 42, 42, 180, 0, 194, 181, 0, 200, 42, 3, 181, 0, 194, 42, 3, 181, 0, 222, 42]
abbrev dktX4_run_0 : List UInt8 := dkwX4_run_0 ++ dktX4_run_1
theorem dksX4_run_0 : cX4_run.data.toList.drop 0 = dktX4_run_0 := by decide +kernel
theorem dksX4_run_1 : cX4_run.data.toList.drop 23 = dktX4_run_1 := dk_seg dksX4_run_0 23 rfl rfl
theorem dksX4_run_2 : cX4_run.data.toList.drop 45 = dktX4_run_2 := dk_seg dksX4_run_1 22 rfl rfl
theorem dksX4_run_3 : cX4_run.data.toList.drop 69 = dktX4_run_3 := dk_seg dksX4_run_2 24 rfl rfl
theorem dX4_run_0 : decode cX4_run 0 = .ok (.aload_n 0, 1) := dk_42 (dk_at dksX4_run_0 0 rfl rfl)
theorem dX4_run_1 : decode cX4_run 1 = .ok (.invokevirtual 96, 3) := dk_182 0 96 (dk_at dksX4_run_0 1 rfl rfl)
theorem dX4_run_4 : decode cX4_run 4 = .ok (.aload_n 0, 1) := dk_42 (dk_at dksX4_run_0 4 rfl rfl)
theorem dX4_run_5 : decode cX4_run 5 = .ok (.aload_n 0, 1) := dk_42 (dk_at dksX4_run_0 5 rfl rfl)
theorem dX4_run_6 : decode cX4_run 6 = .ok (.getfield 194, 3) := dk_180 0 194 (dk_at dksX4_run_0 6 rfl rfl)
theorem dX4_run_9 : decode cX4_run 9 = .ok (.putfield 200, 3) := dk_181 0 200 (dk_at dksX4_run_0 9 rfl rfl)
theorem dX4_run_12 : decode cX4_run 12 = .ok (.aload_n 0, 1) := dk_42 (dk_at dksX4_run_0 12 rfl rfl)
theorem dX4_run_13 : decode cX4_run 13 = .ok (.iconst 0, 1) := dk_3 (dk_at dksX4_run_0 13 rfl rfl)
theorem dX4_run_14 : decode cX4_run 14 = .ok (.putfield 194, 3) := dk_181 0 194 (dk_at dksX4_run_0 14 rfl rfl)
theorem dX4_run_17 : decode cX4_run 17 = .ok (.aload_n 0, 1) := dk_42 (dk_at dksX4_run_0 17 rfl rfl)
theorem dX4_run_18 : decode cX4_run 18 = .ok (.iconst 0, 1) := dk_3 (dk_at dksX4_run_0 18 rfl rfl)
theorem dX4_run_19 : decode cX4_run 19 = .ok (.putfield 222, 3) := dk_181 0 222 (dk_at dksX4_run_0 19 rfl rfl)
theorem dX4_run_22 : decode cX4_run 22 = .ok (.aload_n 0, 1) := dk_42 (dk_at dksX4_run_0 22 rfl rfl)
theorem dX4_run_23 : decode cX4_run 23 = .ok (.invokevirtual 235, 3) := dk_182 0 235 (dk_at dksX4_run_1 0 rfl rfl)
theorem dX4_run_26 : decode cX4_run 26 = .ok (.istore_n 1, 1) := dk_60 (dk_at dksX4_run_1 3 rfl rfl)
theorem dX4_run_27 : decode cX4_run 27 = .ok (.aload_n 0, 1) := dk_42 (dk_at dksX4_run_1 4 rfl rfl)
theorem dX4_run_28 : decode cX4_run 28 = .ok (.getfield 203, 3) := dk_180 0 203 (dk_at dksX4_run_1 5 rfl rfl)
theorem dX4_run_31 : decode cX4_run 31 = .ok (.ifCond .eq 12, 3) := dk_153 0 12 (dk_at dksX4_run_1 8 rfl rfl)
theorem dX4_run_34 : decode cX4_run 34 = .ok (.sipush (-2000), 3) := dk_17 248 48 (dk_at dksX4_run_1 11 rfl rfl)
theorem dX4_run_37 : decode cX4_run 37 = .ok (.aload_n 0, 1) := dk_42 (dk_at dksX4_run_1 14 rfl rfl)
theorem dX4_run_38 : decode cX4_run 38 = .ok (.getfield 197, 3) := dk_180 0 197 (dk_at dksX4_run_1 15 rfl rfl)
theorem dX4_run_41 : decode cX4_run 41 = .ok (.isub, 1) := dk_100 (dk_at dksX4_run_1 18 rfl rfl)
theorem dX4_run_42 : decode cX4_run 42 = .ok (.ireturn, 1) := dk_172 (dk_at dksX4_run_1 19 rfl rfl)
theorem dX4_run_43 : decode cX4_run 43 = .ok (.aload_n 0, 1) := dk_42 (dk_at dksX4_run_1 20 rfl rfl)
theorem dX4_run_44 : decode cX4_run 44 = .ok (.iconst 1, 1) := dk_4 (dk_at dksX4_run_1 21 rfl rfl)
theorem dX4_run_45 : decode cX4_run 45 = .ok (.putfield 222, 3) := dk_181 0 222 (dk_at dksX4_run_2 0 rfl rfl)
theorem dX4_run_48 : decode cX4_run 48 = .ok (.aload_n 0, 1) := dk_42 (dk_at dksX4_run_2 3 rfl rfl)
theorem dX4_run_49 : decode cX4_run 49 = .ok (.invokevirtual 235, 3) := dk_182 0 235 (dk_at dksX4_run_2 4 rfl rfl)
theorem dX4_run_52 : decode cX4_run 52 = .ok (.istore_n 1, 1) := dk_60 (dk_at dksX4_run_2 7 rfl rfl)
theorem dX4_run_53 : decode cX4_run 53 = .ok (.aload_n 0, 1) := dk_42 (dk_at dksX4_run_2 8 rfl rfl)
theorem dX4_run_54 : decode cX4_run 54 = .ok (.aload_n 0, 1) := dk_42 (dk_at dksX4_run_2 9 rfl rfl)
theorem dX4_run_55 : decode cX4_run 55 = .ok (.getfield 41, 3) := dk_180 0 41 (dk_at dksX4_run_2 10 rfl rfl)
theorem dX4_run_58 : decode cX4_run 58 = .ok (.ifCond .ne 7, 3) := dk_154 0 7 (dk_at dksX4_run_2 13 rfl rfl)
theorem dX4_run_61 : decode cX4_run 61 = .ok (.iload_n 1, 1) := dk_27 (dk_at dksX4_run_2 16 rfl rfl)
theorem dX4_run_62 : decode cX4_run 62 = .ok (.goto 10, 3) := dk_167 0 10 (dk_at dksX4_run_2 17 rfl rfl)
theorem dX4_run_65 : decode cX4_run 65 = .ok (.aload_n 0, 1) := dk_42 (dk_at dksX4_run_2 20 rfl rfl)
theorem dX4_run_66 : decode cX4_run 66 = .ok (.iload_n 1, 1) := dk_27 (dk_at dksX4_run_2 21 rfl rfl)
theorem dX4_run_67 : decode cX4_run 67 = .ok (.iconst 1, 1) := dk_4 (dk_at dksX4_run_2 22 rfl rfl)
theorem dX4_run_68 : decode cX4_run 68 = .ok (.isub, 1) := dk_100 (dk_at dksX4_run_2 23 rfl rfl)
theorem dX4_run_69 : decode cX4_run 69 = .ok (.invokevirtual 238, 3) := dk_182 0 238 (dk_at dksX4_run_3 0 rfl rfl)
theorem dX4_run_72 : decode cX4_run 72 = .ok (.invokevirtual 102, 3) := dk_182 0 102 (dk_at dksX4_run_3 3 rfl rfl)
theorem dX4_run_75 : decode cX4_run 75 = .ok (.ireturn, 1) := dk_172 (dk_at dksX4_run_3 6 rfl rfl)
abbrev cX4_orders : ByteArray := prog_16_method_69_code
def yX4_orders : MethodName := ⟨RX4, "orders", "()I"⟩
def dkwX4_orders_2 : List UInt8 := [180, 0, 203, 154, 0, 7, 42, 182, 0, 229, 132, 1, 1, 167, 255, 211, 27, 172]
abbrev dktX4_orders_2 : List UInt8 := dkwX4_orders_2 ++ []
def dkwX4_orders_1 : List UInt8 := [180, 0, 41, 154, 0, 37, 42, 180, 0, 197, 42, 180, 0, 200, 162, 0, 26, 42, 16, 59, 182, 0, 210, 42]
abbrev dktX4_orders_1 : List UInt8 := dkwX4_orders_1 ++ dktX4_orders_2
def dkwX4_orders_0 : List UInt8 := [42, 3, 181, 0, 197, 42, 3, 181, 0, 203, 4, 60, 42, 182, 0, 229, 42, 180, 0, 203, 154, 0, 44, 42]
abbrev dktX4_orders_0 : List UInt8 := dkwX4_orders_0 ++ dktX4_orders_1
theorem dksX4_orders_0 : cX4_orders.data.toList.drop 0 = dktX4_orders_0 := by decide +kernel
theorem dksX4_orders_1 : cX4_orders.data.toList.drop 24 = dktX4_orders_1 := dk_seg dksX4_orders_0 24 rfl rfl
theorem dksX4_orders_2 : cX4_orders.data.toList.drop 48 = dktX4_orders_2 := dk_seg dksX4_orders_1 24 rfl rfl
theorem dX4_orders_0 : decode cX4_orders 0 = .ok (.aload_n 0, 1) := dk_42 (dk_at dksX4_orders_0 0 rfl rfl)
theorem dX4_orders_1 : decode cX4_orders 1 = .ok (.iconst 0, 1) := dk_3 (dk_at dksX4_orders_0 1 rfl rfl)
theorem dX4_orders_2 : decode cX4_orders 2 = .ok (.putfield 197, 3) := dk_181 0 197 (dk_at dksX4_orders_0 2 rfl rfl)
theorem dX4_orders_5 : decode cX4_orders 5 = .ok (.aload_n 0, 1) := dk_42 (dk_at dksX4_orders_0 5 rfl rfl)
theorem dX4_orders_6 : decode cX4_orders 6 = .ok (.iconst 0, 1) := dk_3 (dk_at dksX4_orders_0 6 rfl rfl)
theorem dX4_orders_7 : decode cX4_orders 7 = .ok (.putfield 203, 3) := dk_181 0 203 (dk_at dksX4_orders_0 7 rfl rfl)
theorem dX4_orders_10 : decode cX4_orders 10 = .ok (.iconst 1, 1) := dk_4 (dk_at dksX4_orders_0 10 rfl rfl)
theorem dX4_orders_11 : decode cX4_orders 11 = .ok (.istore_n 1, 1) := dk_60 (dk_at dksX4_orders_0 11 rfl rfl)
theorem dX4_orders_12 : decode cX4_orders 12 = .ok (.aload_n 0, 1) := dk_42 (dk_at dksX4_orders_0 12 rfl rfl)
theorem dX4_orders_13 : decode cX4_orders 13 = .ok (.invokevirtual 229, 3) := dk_182 0 229 (dk_at dksX4_orders_0 13 rfl rfl)
theorem dX4_orders_16 : decode cX4_orders 16 = .ok (.aload_n 0, 1) := dk_42 (dk_at dksX4_orders_0 16 rfl rfl)
theorem dX4_orders_17 : decode cX4_orders 17 = .ok (.getfield 203, 3) := dk_180 0 203 (dk_at dksX4_orders_0 17 rfl rfl)
theorem dX4_orders_20 : decode cX4_orders 20 = .ok (.ifCond .ne 44, 3) := dk_154 0 44 (dk_at dksX4_orders_0 20 rfl rfl)
theorem dX4_orders_23 : decode cX4_orders 23 = .ok (.aload_n 0, 1) := dk_42 (dk_at dksX4_orders_0 23 rfl rfl)
theorem dX4_orders_24 : decode cX4_orders 24 = .ok (.getfield 41, 3) := dk_180 0 41 (dk_at dksX4_orders_1 0 rfl rfl)
theorem dX4_orders_27 : decode cX4_orders 27 = .ok (.ifCond .ne 37, 3) := dk_154 0 37 (dk_at dksX4_orders_1 3 rfl rfl)
theorem dX4_orders_30 : decode cX4_orders 30 = .ok (.aload_n 0, 1) := dk_42 (dk_at dksX4_orders_1 6 rfl rfl)
theorem dX4_orders_31 : decode cX4_orders 31 = .ok (.getfield 197, 3) := dk_180 0 197 (dk_at dksX4_orders_1 7 rfl rfl)
theorem dX4_orders_34 : decode cX4_orders 34 = .ok (.aload_n 0, 1) := dk_42 (dk_at dksX4_orders_1 10 rfl rfl)
theorem dX4_orders_35 : decode cX4_orders 35 = .ok (.getfield 200, 3) := dk_180 0 200 (dk_at dksX4_orders_1 11 rfl rfl)
theorem dX4_orders_38 : decode cX4_orders 38 = .ok (.if_icmp .ge 26, 3) := dk_162 0 26 (dk_at dksX4_orders_1 14 rfl rfl)
theorem dX4_orders_41 : decode cX4_orders 41 = .ok (.aload_n 0, 1) := dk_42 (dk_at dksX4_orders_1 17 rfl rfl)
theorem dX4_orders_42 : decode cX4_orders 42 = .ok (.bipush 59, 2) := dk_16 59 (dk_at dksX4_orders_1 18 rfl rfl)
theorem dX4_orders_44 : decode cX4_orders 44 = .ok (.invokevirtual 210, 3) := dk_182 0 210 (dk_at dksX4_orders_1 20 rfl rfl)
theorem dX4_orders_47 : decode cX4_orders 47 = .ok (.aload_n 0, 1) := dk_42 (dk_at dksX4_orders_1 23 rfl rfl)
theorem dX4_orders_48 : decode cX4_orders 48 = .ok (.getfield 203, 3) := dk_180 0 203 (dk_at dksX4_orders_2 0 rfl rfl)
theorem dX4_orders_51 : decode cX4_orders 51 = .ok (.ifCond .ne 7, 3) := dk_154 0 7 (dk_at dksX4_orders_2 3 rfl rfl)
theorem dX4_orders_54 : decode cX4_orders 54 = .ok (.aload_n 0, 1) := dk_42 (dk_at dksX4_orders_2 6 rfl rfl)
theorem dX4_orders_55 : decode cX4_orders 55 = .ok (.invokevirtual 229, 3) := dk_182 0 229 (dk_at dksX4_orders_2 7 rfl rfl)
theorem dX4_orders_58 : decode cX4_orders 58 = .ok (.iinc 1 1, 3) := dk_132 1 1 (dk_at dksX4_orders_2 10 rfl rfl)
theorem dX4_orders_61 : decode cX4_orders 61 = .ok (.goto (-45), 3) := dk_167 255 211 (dk_at dksX4_orders_2 13 rfl rfl)
theorem dX4_orders_64 : decode cX4_orders 64 = .ok (.iload_n 1, 1) := dk_27 (dk_at dksX4_orders_2 16 rfl rfl)
theorem dX4_orders_65 : decode cX4_orders 65 = .ok (.ireturn, 1) := dk_172 (dk_at dksX4_orders_2 17 rfl rfl)
abbrev cX4_order : ByteArray := prog_16_method_68_code
def yX4_order : MethodName := ⟨RX4, "order", "()V"⟩
def dkwX4_order_10 : List UInt8 := [154, 0, 10, 42, 180, 0, 222, 154, 0, 4, 177, 42, 27, 28, 29, 21, 4, 182, 0, 225, 54, 6, 177]
abbrev dktX4_order_10 : List UInt8 := dkwX4_order_10 ++ []
def dkwX4_order_9 : List UInt8 := [182, 0, 219, 54, 4, 27, 16, 112, 160, 0, 11, 42, 16, 43, 5, 182, 0, 219, 62, 42, 180, 0, 203]
abbrev dktX4_order_9 : List UInt8 := dkwX4_order_9 ++ dktX4_order_10
def dkwX4_order_8 : List UInt8 := [16, 119, 160, 0, 11, 42, 16, 33, 5, 182, 0, 219, 62, 27, 16, 119, 160, 0, 12, 42, 16, 42, 5]
abbrev dktX4_order_8 : List UInt8 := dkwX4_order_8 ++ dktX4_order_9
def dkwX4_order_7 : List UInt8 := [16, 62, 4, 182, 0, 219, 62, 27, 16, 111, 160, 0, 12, 42, 16, 61, 5, 182, 0, 219, 54, 4, 27]
abbrev dktX4_order_7 : List UInt8 := dkwX4_order_7 ++ dktX4_order_8
def dkwX4_order_6 : List UInt8 := [160, 0, 11, 42, 16, 42, 5, 182, 0, 219, 62, 27, 16, 111, 159, 0, 9, 27, 16, 104, 160, 0, 11, 42]
abbrev dktX4_order_6 : List UInt8 := dkwX4_order_6 ++ dktX4_order_7
def dkwX4_order_5 : List UInt8 := [27, 16, 115, 159, 0, 9, 27, 16, 109, 160, 0, 12, 42, 16, 47, 4, 182, 0, 219, 54, 4, 27, 16, 98]
abbrev dktX4_order_5 : List UInt8 := dkwX4_order_5 ++ dktX4_order_6
def dkwX4_order_4 : List UInt8 := [182, 0, 213, 61, 27, 16, 115, 159, 0, 9, 27, 16, 109, 160, 0, 11, 42, 16, 58, 5, 182, 0, 219, 62]
abbrev dktX4_order_4 : List UInt8 := dkwX4_order_4 ++ dktX4_order_5
def dkwX4_order_3 : List UInt8 := [167, 0, 4, 3, 54, 5, 27, 16, 100, 159, 0, 18, 42, 21, 5, 153, 0, 7, 5, 167, 0, 4, 4]
abbrev dktX4_order_3 : List UInt8 := dkwX4_order_3 ++ dktX4_order_4
def dkwX4_order_2 : List UInt8 := [16, 98, 159, 0, 21, 27, 16, 111, 159, 0, 15, 27, 16, 112, 159, 0, 9, 27, 16, 116, 160, 0, 7, 4]
abbrev dktX4_order_2 : List UInt8 := dkwX4_order_2 ++ dktX4_order_3
def dkwX4_order_1 : List UInt8 := [3, 181, 0, 203, 42, 180, 0, 203, 153, 0, 4, 177, 42, 89, 180, 0, 197, 4, 96, 181, 0, 197, 27]
abbrev dktX4_order_1 : List UInt8 := dkwX4_order_1 ++ dktX4_order_2
def dkwX4_order_0 : List UInt8 := [42, 182, 0, 207, 60, 3, 61, 3, 62, 3, 54, 4, 42, 27, 184, 0, 216, 154, 0, 7, 4, 167, 0, 4]
abbrev dktX4_order_0 : List UInt8 := dkwX4_order_0 ++ dktX4_order_1
theorem dksX4_order_0 : cX4_order.data.toList.drop 0 = dktX4_order_0 := by decide +kernel
theorem dksX4_order_1 : cX4_order.data.toList.drop 24 = dktX4_order_1 := dk_seg dksX4_order_0 24 rfl rfl
theorem dksX4_order_2 : cX4_order.data.toList.drop 47 = dktX4_order_2 := dk_seg dksX4_order_1 23 rfl rfl
theorem dksX4_order_3 : cX4_order.data.toList.drop 71 = dktX4_order_3 := dk_seg dksX4_order_2 24 rfl rfl
theorem dksX4_order_4 : cX4_order.data.toList.drop 94 = dktX4_order_4 := dk_seg dksX4_order_3 23 rfl rfl
theorem dksX4_order_5 : cX4_order.data.toList.drop 118 = dktX4_order_5 := dk_seg dksX4_order_4 24 rfl rfl
theorem dksX4_order_6 : cX4_order.data.toList.drop 142 = dktX4_order_6 := dk_seg dksX4_order_5 24 rfl rfl
theorem dksX4_order_7 : cX4_order.data.toList.drop 166 = dktX4_order_7 := dk_seg dksX4_order_6 24 rfl rfl
theorem dksX4_order_8 : cX4_order.data.toList.drop 189 = dktX4_order_8 := dk_seg dksX4_order_7 23 rfl rfl
theorem dksX4_order_9 : cX4_order.data.toList.drop 212 = dktX4_order_9 := dk_seg dksX4_order_8 23 rfl rfl
theorem dksX4_order_10 : cX4_order.data.toList.drop 235 = dktX4_order_10 := dk_seg dksX4_order_9 23 rfl rfl
theorem dX4_order_0 : decode cX4_order 0 = .ok (.aload_n 0, 1) := dk_42 (dk_at dksX4_order_0 0 rfl rfl)
theorem dX4_order_1 : decode cX4_order 1 = .ok (.invokevirtual 207, 3) := dk_182 0 207 (dk_at dksX4_order_0 1 rfl rfl)
theorem dX4_order_4 : decode cX4_order 4 = .ok (.istore_n 1, 1) := dk_60 (dk_at dksX4_order_0 4 rfl rfl)
theorem dX4_order_5 : decode cX4_order 5 = .ok (.iconst 0, 1) := dk_3 (dk_at dksX4_order_0 5 rfl rfl)
theorem dX4_order_6 : decode cX4_order 6 = .ok (.istore_n 2, 1) := dk_61 (dk_at dksX4_order_0 6 rfl rfl)
theorem dX4_order_7 : decode cX4_order 7 = .ok (.iconst 0, 1) := dk_3 (dk_at dksX4_order_0 7 rfl rfl)
theorem dX4_order_8 : decode cX4_order 8 = .ok (.istore_n 3, 1) := dk_62 (dk_at dksX4_order_0 8 rfl rfl)
theorem dX4_order_9 : decode cX4_order 9 = .ok (.iconst 0, 1) := dk_3 (dk_at dksX4_order_0 9 rfl rfl)
theorem dX4_order_10 : decode cX4_order 10 = .ok (.istore 4, 2) := dk_54 4 (dk_at dksX4_order_0 10 rfl rfl)
theorem dX4_order_12 : decode cX4_order 12 = .ok (.aload_n 0, 1) := dk_42 (dk_at dksX4_order_0 12 rfl rfl)
theorem dX4_order_13 : decode cX4_order 13 = .ok (.iload_n 1, 1) := dk_27 (dk_at dksX4_order_0 13 rfl rfl)
theorem dX4_order_14 : decode cX4_order 14 = .ok (.invokestatic 216, 3) := dk_184 0 216 (dk_at dksX4_order_0 14 rfl rfl)
theorem dX4_order_17 : decode cX4_order 17 = .ok (.ifCond .ne 7, 3) := dk_154 0 7 (dk_at dksX4_order_0 17 rfl rfl)
theorem dX4_order_20 : decode cX4_order 20 = .ok (.iconst 1, 1) := dk_4 (dk_at dksX4_order_0 20 rfl rfl)
theorem dX4_order_21 : decode cX4_order 21 = .ok (.goto 4, 3) := dk_167 0 4 (dk_at dksX4_order_0 21 rfl rfl)
theorem dX4_order_24 : decode cX4_order 24 = .ok (.iconst 0, 1) := dk_3 (dk_at dksX4_order_1 0 rfl rfl)
theorem dX4_order_25 : decode cX4_order 25 = .ok (.putfield 203, 3) := dk_181 0 203 (dk_at dksX4_order_1 1 rfl rfl)
theorem dX4_order_28 : decode cX4_order 28 = .ok (.aload_n 0, 1) := dk_42 (dk_at dksX4_order_1 4 rfl rfl)
theorem dX4_order_29 : decode cX4_order 29 = .ok (.getfield 203, 3) := dk_180 0 203 (dk_at dksX4_order_1 5 rfl rfl)
theorem dX4_order_32 : decode cX4_order 32 = .ok (.ifCond .eq 4, 3) := dk_153 0 4 (dk_at dksX4_order_1 8 rfl rfl)
theorem dX4_order_35 : decode cX4_order 35 = .ok (.return_, 1) := dk_177 (dk_at dksX4_order_1 11 rfl rfl)
theorem dX4_order_36 : decode cX4_order 36 = .ok (.aload_n 0, 1) := dk_42 (dk_at dksX4_order_1 12 rfl rfl)
theorem dX4_order_37 : decode cX4_order 37 = .ok (.dup, 1) := dk_89 (dk_at dksX4_order_1 13 rfl rfl)
theorem dX4_order_38 : decode cX4_order 38 = .ok (.getfield 197, 3) := dk_180 0 197 (dk_at dksX4_order_1 14 rfl rfl)
theorem dX4_order_41 : decode cX4_order 41 = .ok (.iconst 1, 1) := dk_4 (dk_at dksX4_order_1 17 rfl rfl)
theorem dX4_order_42 : decode cX4_order 42 = .ok (.iadd, 1) := dk_96 (dk_at dksX4_order_1 18 rfl rfl)
theorem dX4_order_43 : decode cX4_order 43 = .ok (.putfield 197, 3) := dk_181 0 197 (dk_at dksX4_order_1 19 rfl rfl)
theorem dX4_order_46 : decode cX4_order 46 = .ok (.iload_n 1, 1) := dk_27 (dk_at dksX4_order_1 22 rfl rfl)
theorem dX4_order_47 : decode cX4_order 47 = .ok (.bipush 98, 2) := dk_16 98 (dk_at dksX4_order_2 0 rfl rfl)
theorem dX4_order_49 : decode cX4_order 49 = .ok (.if_icmp .eq 21, 3) := dk_159 0 21 (dk_at dksX4_order_2 2 rfl rfl)
theorem dX4_order_52 : decode cX4_order 52 = .ok (.iload_n 1, 1) := dk_27 (dk_at dksX4_order_2 5 rfl rfl)
theorem dX4_order_53 : decode cX4_order 53 = .ok (.bipush 111, 2) := dk_16 111 (dk_at dksX4_order_2 6 rfl rfl)
theorem dX4_order_55 : decode cX4_order 55 = .ok (.if_icmp .eq 15, 3) := dk_159 0 15 (dk_at dksX4_order_2 8 rfl rfl)
theorem dX4_order_58 : decode cX4_order 58 = .ok (.iload_n 1, 1) := dk_27 (dk_at dksX4_order_2 11 rfl rfl)
theorem dX4_order_59 : decode cX4_order 59 = .ok (.bipush 112, 2) := dk_16 112 (dk_at dksX4_order_2 12 rfl rfl)
theorem dX4_order_61 : decode cX4_order 61 = .ok (.if_icmp .eq 9, 3) := dk_159 0 9 (dk_at dksX4_order_2 14 rfl rfl)
theorem dX4_order_64 : decode cX4_order 64 = .ok (.iload_n 1, 1) := dk_27 (dk_at dksX4_order_2 17 rfl rfl)
theorem dX4_order_65 : decode cX4_order 65 = .ok (.bipush 116, 2) := dk_16 116 (dk_at dksX4_order_2 18 rfl rfl)
theorem dX4_order_67 : decode cX4_order 67 = .ok (.if_icmp .ne 7, 3) := dk_160 0 7 (dk_at dksX4_order_2 20 rfl rfl)
theorem dX4_order_70 : decode cX4_order 70 = .ok (.iconst 1, 1) := dk_4 (dk_at dksX4_order_2 23 rfl rfl)
theorem dX4_order_71 : decode cX4_order 71 = .ok (.goto 4, 3) := dk_167 0 4 (dk_at dksX4_order_3 0 rfl rfl)
theorem dX4_order_74 : decode cX4_order 74 = .ok (.iconst 0, 1) := dk_3 (dk_at dksX4_order_3 3 rfl rfl)
theorem dX4_order_75 : decode cX4_order 75 = .ok (.istore 5, 2) := dk_54 5 (dk_at dksX4_order_3 4 rfl rfl)
theorem dX4_order_77 : decode cX4_order 77 = .ok (.iload_n 1, 1) := dk_27 (dk_at dksX4_order_3 6 rfl rfl)
theorem dX4_order_78 : decode cX4_order 78 = .ok (.bipush 100, 2) := dk_16 100 (dk_at dksX4_order_3 7 rfl rfl)
theorem dX4_order_80 : decode cX4_order 80 = .ok (.if_icmp .eq 18, 3) := dk_159 0 18 (dk_at dksX4_order_3 9 rfl rfl)
theorem dX4_order_83 : decode cX4_order 83 = .ok (.aload_n 0, 1) := dk_42 (dk_at dksX4_order_3 12 rfl rfl)
theorem dX4_order_84 : decode cX4_order 84 = .ok (.iload 5, 2) := dk_21 5 (dk_at dksX4_order_3 13 rfl rfl)
theorem dX4_order_86 : decode cX4_order 86 = .ok (.ifCond .eq 7, 3) := dk_153 0 7 (dk_at dksX4_order_3 15 rfl rfl)
theorem dX4_order_89 : decode cX4_order 89 = .ok (.iconst 2, 1) := dk_5 (dk_at dksX4_order_3 18 rfl rfl)
theorem dX4_order_90 : decode cX4_order 90 = .ok (.goto 4, 3) := dk_167 0 4 (dk_at dksX4_order_3 19 rfl rfl)
theorem dX4_order_93 : decode cX4_order 93 = .ok (.iconst 1, 1) := dk_4 (dk_at dksX4_order_3 22 rfl rfl)
theorem dX4_order_94 : decode cX4_order 94 = .ok (.invokevirtual 213, 3) := dk_182 0 213 (dk_at dksX4_order_4 0 rfl rfl)
theorem dX4_order_97 : decode cX4_order 97 = .ok (.istore_n 2, 1) := dk_61 (dk_at dksX4_order_4 3 rfl rfl)
theorem dX4_order_98 : decode cX4_order 98 = .ok (.iload_n 1, 1) := dk_27 (dk_at dksX4_order_4 4 rfl rfl)
theorem dX4_order_99 : decode cX4_order 99 = .ok (.bipush 115, 2) := dk_16 115 (dk_at dksX4_order_4 5 rfl rfl)
theorem dX4_order_101 : decode cX4_order 101 = .ok (.if_icmp .eq 9, 3) := dk_159 0 9 (dk_at dksX4_order_4 7 rfl rfl)
theorem dX4_order_104 : decode cX4_order 104 = .ok (.iload_n 1, 1) := dk_27 (dk_at dksX4_order_4 10 rfl rfl)
theorem dX4_order_105 : decode cX4_order 105 = .ok (.bipush 109, 2) := dk_16 109 (dk_at dksX4_order_4 11 rfl rfl)
theorem dX4_order_107 : decode cX4_order 107 = .ok (.if_icmp .ne 11, 3) := dk_160 0 11 (dk_at dksX4_order_4 13 rfl rfl)
theorem dX4_order_110 : decode cX4_order 110 = .ok (.aload_n 0, 1) := dk_42 (dk_at dksX4_order_4 16 rfl rfl)
theorem dX4_order_111 : decode cX4_order 111 = .ok (.bipush 58, 2) := dk_16 58 (dk_at dksX4_order_4 17 rfl rfl)
theorem dX4_order_113 : decode cX4_order 113 = .ok (.iconst 2, 1) := dk_5 (dk_at dksX4_order_4 19 rfl rfl)
theorem dX4_order_114 : decode cX4_order 114 = .ok (.invokevirtual 219, 3) := dk_182 0 219 (dk_at dksX4_order_4 20 rfl rfl)
theorem dX4_order_117 : decode cX4_order 117 = .ok (.istore_n 3, 1) := dk_62 (dk_at dksX4_order_4 23 rfl rfl)
theorem dX4_order_118 : decode cX4_order 118 = .ok (.iload_n 1, 1) := dk_27 (dk_at dksX4_order_5 0 rfl rfl)
theorem dX4_order_119 : decode cX4_order 119 = .ok (.bipush 115, 2) := dk_16 115 (dk_at dksX4_order_5 1 rfl rfl)
theorem dX4_order_121 : decode cX4_order 121 = .ok (.if_icmp .eq 9, 3) := dk_159 0 9 (dk_at dksX4_order_5 3 rfl rfl)
theorem dX4_order_124 : decode cX4_order 124 = .ok (.iload_n 1, 1) := dk_27 (dk_at dksX4_order_5 6 rfl rfl)
theorem dX4_order_125 : decode cX4_order 125 = .ok (.bipush 109, 2) := dk_16 109 (dk_at dksX4_order_5 7 rfl rfl)
theorem dX4_order_127 : decode cX4_order 127 = .ok (.if_icmp .ne 12, 3) := dk_160 0 12 (dk_at dksX4_order_5 9 rfl rfl)
theorem dX4_order_130 : decode cX4_order 130 = .ok (.aload_n 0, 1) := dk_42 (dk_at dksX4_order_5 12 rfl rfl)
theorem dX4_order_131 : decode cX4_order 131 = .ok (.bipush 47, 2) := dk_16 47 (dk_at dksX4_order_5 13 rfl rfl)
theorem dX4_order_133 : decode cX4_order 133 = .ok (.iconst 1, 1) := dk_4 (dk_at dksX4_order_5 15 rfl rfl)
theorem dX4_order_134 : decode cX4_order 134 = .ok (.invokevirtual 219, 3) := dk_182 0 219 (dk_at dksX4_order_5 16 rfl rfl)
theorem dX4_order_137 : decode cX4_order 137 = .ok (.istore 4, 2) := dk_54 4 (dk_at dksX4_order_5 19 rfl rfl)
theorem dX4_order_139 : decode cX4_order 139 = .ok (.iload_n 1, 1) := dk_27 (dk_at dksX4_order_5 21 rfl rfl)
theorem dX4_order_140 : decode cX4_order 140 = .ok (.bipush 98, 2) := dk_16 98 (dk_at dksX4_order_5 22 rfl rfl)
theorem dX4_order_142 : decode cX4_order 142 = .ok (.if_icmp .ne 11, 3) := dk_160 0 11 (dk_at dksX4_order_6 0 rfl rfl)
theorem dX4_order_145 : decode cX4_order 145 = .ok (.aload_n 0, 1) := dk_42 (dk_at dksX4_order_6 3 rfl rfl)
theorem dX4_order_146 : decode cX4_order 146 = .ok (.bipush 42, 2) := dk_16 42 (dk_at dksX4_order_6 4 rfl rfl)
theorem dX4_order_148 : decode cX4_order 148 = .ok (.iconst 2, 1) := dk_5 (dk_at dksX4_order_6 6 rfl rfl)
theorem dX4_order_149 : decode cX4_order 149 = .ok (.invokevirtual 219, 3) := dk_182 0 219 (dk_at dksX4_order_6 7 rfl rfl)
theorem dX4_order_152 : decode cX4_order 152 = .ok (.istore_n 3, 1) := dk_62 (dk_at dksX4_order_6 10 rfl rfl)
theorem dX4_order_153 : decode cX4_order 153 = .ok (.iload_n 1, 1) := dk_27 (dk_at dksX4_order_6 11 rfl rfl)
theorem dX4_order_154 : decode cX4_order 154 = .ok (.bipush 111, 2) := dk_16 111 (dk_at dksX4_order_6 12 rfl rfl)
theorem dX4_order_156 : decode cX4_order 156 = .ok (.if_icmp .eq 9, 3) := dk_159 0 9 (dk_at dksX4_order_6 14 rfl rfl)
theorem dX4_order_159 : decode cX4_order 159 = .ok (.iload_n 1, 1) := dk_27 (dk_at dksX4_order_6 17 rfl rfl)
theorem dX4_order_160 : decode cX4_order 160 = .ok (.bipush 104, 2) := dk_16 104 (dk_at dksX4_order_6 18 rfl rfl)
theorem dX4_order_162 : decode cX4_order 162 = .ok (.if_icmp .ne 11, 3) := dk_160 0 11 (dk_at dksX4_order_6 20 rfl rfl)
theorem dX4_order_165 : decode cX4_order 165 = .ok (.aload_n 0, 1) := dk_42 (dk_at dksX4_order_6 23 rfl rfl)
theorem dX4_order_166 : decode cX4_order 166 = .ok (.bipush 62, 2) := dk_16 62 (dk_at dksX4_order_7 0 rfl rfl)
theorem dX4_order_168 : decode cX4_order 168 = .ok (.iconst 1, 1) := dk_4 (dk_at dksX4_order_7 2 rfl rfl)
theorem dX4_order_169 : decode cX4_order 169 = .ok (.invokevirtual 219, 3) := dk_182 0 219 (dk_at dksX4_order_7 3 rfl rfl)
theorem dX4_order_172 : decode cX4_order 172 = .ok (.istore_n 3, 1) := dk_62 (dk_at dksX4_order_7 6 rfl rfl)
theorem dX4_order_173 : decode cX4_order 173 = .ok (.iload_n 1, 1) := dk_27 (dk_at dksX4_order_7 7 rfl rfl)
theorem dX4_order_174 : decode cX4_order 174 = .ok (.bipush 111, 2) := dk_16 111 (dk_at dksX4_order_7 8 rfl rfl)
theorem dX4_order_176 : decode cX4_order 176 = .ok (.if_icmp .ne 12, 3) := dk_160 0 12 (dk_at dksX4_order_7 10 rfl rfl)
theorem dX4_order_179 : decode cX4_order 179 = .ok (.aload_n 0, 1) := dk_42 (dk_at dksX4_order_7 13 rfl rfl)
theorem dX4_order_180 : decode cX4_order 180 = .ok (.bipush 61, 2) := dk_16 61 (dk_at dksX4_order_7 14 rfl rfl)
theorem dX4_order_182 : decode cX4_order 182 = .ok (.iconst 2, 1) := dk_5 (dk_at dksX4_order_7 16 rfl rfl)
theorem dX4_order_183 : decode cX4_order 183 = .ok (.invokevirtual 219, 3) := dk_182 0 219 (dk_at dksX4_order_7 17 rfl rfl)
theorem dX4_order_186 : decode cX4_order 186 = .ok (.istore 4, 2) := dk_54 4 (dk_at dksX4_order_7 20 rfl rfl)
theorem dX4_order_188 : decode cX4_order 188 = .ok (.iload_n 1, 1) := dk_27 (dk_at dksX4_order_7 22 rfl rfl)
theorem dX4_order_189 : decode cX4_order 189 = .ok (.bipush 119, 2) := dk_16 119 (dk_at dksX4_order_8 0 rfl rfl)
theorem dX4_order_191 : decode cX4_order 191 = .ok (.if_icmp .ne 11, 3) := dk_160 0 11 (dk_at dksX4_order_8 2 rfl rfl)
theorem dX4_order_194 : decode cX4_order 194 = .ok (.aload_n 0, 1) := dk_42 (dk_at dksX4_order_8 5 rfl rfl)
theorem dX4_order_195 : decode cX4_order 195 = .ok (.bipush 33, 2) := dk_16 33 (dk_at dksX4_order_8 6 rfl rfl)
theorem dX4_order_197 : decode cX4_order 197 = .ok (.iconst 2, 1) := dk_5 (dk_at dksX4_order_8 8 rfl rfl)
theorem dX4_order_198 : decode cX4_order 198 = .ok (.invokevirtual 219, 3) := dk_182 0 219 (dk_at dksX4_order_8 9 rfl rfl)
theorem dX4_order_201 : decode cX4_order 201 = .ok (.istore_n 3, 1) := dk_62 (dk_at dksX4_order_8 12 rfl rfl)
theorem dX4_order_202 : decode cX4_order 202 = .ok (.iload_n 1, 1) := dk_27 (dk_at dksX4_order_8 13 rfl rfl)
theorem dX4_order_203 : decode cX4_order 203 = .ok (.bipush 119, 2) := dk_16 119 (dk_at dksX4_order_8 14 rfl rfl)
theorem dX4_order_205 : decode cX4_order 205 = .ok (.if_icmp .ne 12, 3) := dk_160 0 12 (dk_at dksX4_order_8 16 rfl rfl)
theorem dX4_order_208 : decode cX4_order 208 = .ok (.aload_n 0, 1) := dk_42 (dk_at dksX4_order_8 19 rfl rfl)
theorem dX4_order_209 : decode cX4_order 209 = .ok (.bipush 42, 2) := dk_16 42 (dk_at dksX4_order_8 20 rfl rfl)
theorem dX4_order_211 : decode cX4_order 211 = .ok (.iconst 2, 1) := dk_5 (dk_at dksX4_order_8 22 rfl rfl)
theorem dX4_order_212 : decode cX4_order 212 = .ok (.invokevirtual 219, 3) := dk_182 0 219 (dk_at dksX4_order_9 0 rfl rfl)
theorem dX4_order_215 : decode cX4_order 215 = .ok (.istore 4, 2) := dk_54 4 (dk_at dksX4_order_9 3 rfl rfl)
theorem dX4_order_217 : decode cX4_order 217 = .ok (.iload_n 1, 1) := dk_27 (dk_at dksX4_order_9 5 rfl rfl)
theorem dX4_order_218 : decode cX4_order 218 = .ok (.bipush 112, 2) := dk_16 112 (dk_at dksX4_order_9 6 rfl rfl)
theorem dX4_order_220 : decode cX4_order 220 = .ok (.if_icmp .ne 11, 3) := dk_160 0 11 (dk_at dksX4_order_9 8 rfl rfl)
theorem dX4_order_223 : decode cX4_order 223 = .ok (.aload_n 0, 1) := dk_42 (dk_at dksX4_order_9 11 rfl rfl)
theorem dX4_order_224 : decode cX4_order 224 = .ok (.bipush 43, 2) := dk_16 43 (dk_at dksX4_order_9 12 rfl rfl)
theorem dX4_order_226 : decode cX4_order 226 = .ok (.iconst 2, 1) := dk_5 (dk_at dksX4_order_9 14 rfl rfl)
theorem dX4_order_227 : decode cX4_order 227 = .ok (.invokevirtual 219, 3) := dk_182 0 219 (dk_at dksX4_order_9 15 rfl rfl)
theorem dX4_order_230 : decode cX4_order 230 = .ok (.istore_n 3, 1) := dk_62 (dk_at dksX4_order_9 18 rfl rfl)
theorem dX4_order_231 : decode cX4_order 231 = .ok (.aload_n 0, 1) := dk_42 (dk_at dksX4_order_9 19 rfl rfl)
theorem dX4_order_232 : decode cX4_order 232 = .ok (.getfield 203, 3) := dk_180 0 203 (dk_at dksX4_order_9 20 rfl rfl)
theorem dX4_order_235 : decode cX4_order 235 = .ok (.ifCond .ne 10, 3) := dk_154 0 10 (dk_at dksX4_order_10 0 rfl rfl)
theorem dX4_order_238 : decode cX4_order 238 = .ok (.aload_n 0, 1) := dk_42 (dk_at dksX4_order_10 3 rfl rfl)
theorem dX4_order_239 : decode cX4_order 239 = .ok (.getfield 222, 3) := dk_180 0 222 (dk_at dksX4_order_10 4 rfl rfl)
theorem dX4_order_242 : decode cX4_order 242 = .ok (.ifCond .ne 4, 3) := dk_154 0 4 (dk_at dksX4_order_10 7 rfl rfl)
theorem dX4_order_245 : decode cX4_order 245 = .ok (.return_, 1) := dk_177 (dk_at dksX4_order_10 10 rfl rfl)
theorem dX4_order_246 : decode cX4_order 246 = .ok (.aload_n 0, 1) := dk_42 (dk_at dksX4_order_10 11 rfl rfl)
theorem dX4_order_247 : decode cX4_order 247 = .ok (.iload_n 1, 1) := dk_27 (dk_at dksX4_order_10 12 rfl rfl)
theorem dX4_order_248 : decode cX4_order 248 = .ok (.iload_n 2, 1) := dk_28 (dk_at dksX4_order_10 13 rfl rfl)
theorem dX4_order_249 : decode cX4_order 249 = .ok (.iload_n 3, 1) := dk_29 (dk_at dksX4_order_10 14 rfl rfl)
theorem dX4_order_250 : decode cX4_order 250 = .ok (.iload 4, 2) := dk_21 4 (dk_at dksX4_order_10 15 rfl rfl)
theorem dX4_order_252 : decode cX4_order 252 = .ok (.invokevirtual 225, 3) := dk_182 0 225 (dk_at dksX4_order_10 17 rfl rfl)
theorem dX4_order_255 : decode cX4_order 255 = .ok (.istore 6, 2) := dk_54 6 (dk_at dksX4_order_10 20 rfl rfl)
theorem dX4_order_257 : decode cX4_order 257 = .ok (.return_, 1) := dk_177 (dk_at dksX4_order_10 22 rfl rfl)
abbrev cX4_sign : ByteArray := prog_16_method_62_code
def yX4_sign : MethodName := ⟨RX4, "sign", "()I"⟩
def dkwX4_sign_1 : List UInt8 := [172]
abbrev dktX4_sign_1 : List UInt8 := dkwX4_sign_1 ++ []
def dkwX4_sign_0 : List UInt8 := [42, 180, 0, 197, 42, 180, 0, 200, 162, 0, 15, 42, 180, 0, 31, 42, 180, 0, 197, 46, 167, 0, 4, 2]
abbrev dktX4_sign_0 : List UInt8 := dkwX4_sign_0 ++ dktX4_sign_1
theorem dksX4_sign_0 : cX4_sign.data.toList.drop 0 = dktX4_sign_0 := by decide +kernel
theorem dksX4_sign_1 : cX4_sign.data.toList.drop 24 = dktX4_sign_1 := dk_seg dksX4_sign_0 24 rfl rfl
theorem dX4_sign_0 : decode cX4_sign 0 = .ok (.aload_n 0, 1) := dk_42 (dk_at dksX4_sign_0 0 rfl rfl)
theorem dX4_sign_1 : decode cX4_sign 1 = .ok (.getfield 197, 3) := dk_180 0 197 (dk_at dksX4_sign_0 1 rfl rfl)
theorem dX4_sign_4 : decode cX4_sign 4 = .ok (.aload_n 0, 1) := dk_42 (dk_at dksX4_sign_0 4 rfl rfl)
theorem dX4_sign_5 : decode cX4_sign 5 = .ok (.getfield 200, 3) := dk_180 0 200 (dk_at dksX4_sign_0 5 rfl rfl)
theorem dX4_sign_8 : decode cX4_sign 8 = .ok (.if_icmp .ge 15, 3) := dk_162 0 15 (dk_at dksX4_sign_0 8 rfl rfl)
theorem dX4_sign_11 : decode cX4_sign 11 = .ok (.aload_n 0, 1) := dk_42 (dk_at dksX4_sign_0 11 rfl rfl)
theorem dX4_sign_12 : decode cX4_sign 12 = .ok (.getfield 31, 3) := dk_180 0 31 (dk_at dksX4_sign_0 12 rfl rfl)
theorem dX4_sign_15 : decode cX4_sign 15 = .ok (.aload_n 0, 1) := dk_42 (dk_at dksX4_sign_0 15 rfl rfl)
theorem dX4_sign_16 : decode cX4_sign 16 = .ok (.getfield 197, 3) := dk_180 0 197 (dk_at dksX4_sign_0 16 rfl rfl)
theorem dX4_sign_19 : decode cX4_sign 19 = .ok (.iaload, 1) := dk_46 (dk_at dksX4_sign_0 19 rfl rfl)
theorem dX4_sign_20 : decode cX4_sign 20 = .ok (.goto 4, 3) := dk_167 0 4 (dk_at dksX4_sign_0 20 rfl rfl)
theorem dX4_sign_23 : decode cX4_sign 23 = .ok (.iconst (-1), 1) := dk_2 (dk_at dksX4_sign_0 23 rfl rfl)
theorem dX4_sign_24 : decode cX4_sign 24 = .ok (.ireturn, 1) := dk_172 (dk_at dksX4_sign_1 0 rfl rfl)
abbrev cX4_isKnown : ByteArray := prog_16_method_67_code
def yX4_isKnown : MethodName := ⟨RX4, "isKnown", "(I)Z"⟩
def dkwX4_isKnown_2 : List UInt8 := [26, 16, 101, 159, 0, 9, 26, 16, 116, 160, 0, 7, 4, 167, 0, 4, 3, 172]
abbrev dktX4_isKnown_2 : List UInt8 := dkwX4_isKnown_2 ++ []
def dkwX4_isKnown_1 : List UInt8 := [26, 16, 112, 159, 0, 33, 26, 16, 100, 159, 0, 27, 26, 16, 109, 159, 0, 21, 26, 16, 104, 159, 0, 15]
abbrev dktX4_isKnown_1 : List UInt8 := dkwX4_isKnown_1 ++ dktX4_isKnown_2
def dkwX4_isKnown_0 : List UInt8 := [26, 16, 115, 159, 0, 57, 26, 16, 98, 159, 0, 51, 26, 16, 111, 159, 0, 45, 26, 16, 119, 159, 0, 39]
abbrev dktX4_isKnown_0 : List UInt8 := dkwX4_isKnown_0 ++ dktX4_isKnown_1
theorem dksX4_isKnown_0 : cX4_isKnown.data.toList.drop 0 = dktX4_isKnown_0 := by decide +kernel
theorem dksX4_isKnown_1 : cX4_isKnown.data.toList.drop 24 = dktX4_isKnown_1 := dk_seg dksX4_isKnown_0 24 rfl rfl
theorem dksX4_isKnown_2 : cX4_isKnown.data.toList.drop 48 = dktX4_isKnown_2 := dk_seg dksX4_isKnown_1 24 rfl rfl
theorem dX4_isKnown_0 : decode cX4_isKnown 0 = .ok (.iload_n 0, 1) := dk_26 (dk_at dksX4_isKnown_0 0 rfl rfl)
theorem dX4_isKnown_1 : decode cX4_isKnown 1 = .ok (.bipush 115, 2) := dk_16 115 (dk_at dksX4_isKnown_0 1 rfl rfl)
theorem dX4_isKnown_3 : decode cX4_isKnown 3 = .ok (.if_icmp .eq 57, 3) := dk_159 0 57 (dk_at dksX4_isKnown_0 3 rfl rfl)
theorem dX4_isKnown_6 : decode cX4_isKnown 6 = .ok (.iload_n 0, 1) := dk_26 (dk_at dksX4_isKnown_0 6 rfl rfl)
theorem dX4_isKnown_7 : decode cX4_isKnown 7 = .ok (.bipush 98, 2) := dk_16 98 (dk_at dksX4_isKnown_0 7 rfl rfl)
theorem dX4_isKnown_9 : decode cX4_isKnown 9 = .ok (.if_icmp .eq 51, 3) := dk_159 0 51 (dk_at dksX4_isKnown_0 9 rfl rfl)
theorem dX4_isKnown_12 : decode cX4_isKnown 12 = .ok (.iload_n 0, 1) := dk_26 (dk_at dksX4_isKnown_0 12 rfl rfl)
theorem dX4_isKnown_13 : decode cX4_isKnown 13 = .ok (.bipush 111, 2) := dk_16 111 (dk_at dksX4_isKnown_0 13 rfl rfl)
theorem dX4_isKnown_15 : decode cX4_isKnown 15 = .ok (.if_icmp .eq 45, 3) := dk_159 0 45 (dk_at dksX4_isKnown_0 15 rfl rfl)
theorem dX4_isKnown_18 : decode cX4_isKnown 18 = .ok (.iload_n 0, 1) := dk_26 (dk_at dksX4_isKnown_0 18 rfl rfl)
theorem dX4_isKnown_19 : decode cX4_isKnown 19 = .ok (.bipush 119, 2) := dk_16 119 (dk_at dksX4_isKnown_0 19 rfl rfl)
theorem dX4_isKnown_21 : decode cX4_isKnown 21 = .ok (.if_icmp .eq 39, 3) := dk_159 0 39 (dk_at dksX4_isKnown_0 21 rfl rfl)
theorem dX4_isKnown_24 : decode cX4_isKnown 24 = .ok (.iload_n 0, 1) := dk_26 (dk_at dksX4_isKnown_1 0 rfl rfl)
theorem dX4_isKnown_25 : decode cX4_isKnown 25 = .ok (.bipush 112, 2) := dk_16 112 (dk_at dksX4_isKnown_1 1 rfl rfl)
theorem dX4_isKnown_27 : decode cX4_isKnown 27 = .ok (.if_icmp .eq 33, 3) := dk_159 0 33 (dk_at dksX4_isKnown_1 3 rfl rfl)
theorem dX4_isKnown_30 : decode cX4_isKnown 30 = .ok (.iload_n 0, 1) := dk_26 (dk_at dksX4_isKnown_1 6 rfl rfl)
theorem dX4_isKnown_31 : decode cX4_isKnown 31 = .ok (.bipush 100, 2) := dk_16 100 (dk_at dksX4_isKnown_1 7 rfl rfl)
theorem dX4_isKnown_33 : decode cX4_isKnown 33 = .ok (.if_icmp .eq 27, 3) := dk_159 0 27 (dk_at dksX4_isKnown_1 9 rfl rfl)
theorem dX4_isKnown_36 : decode cX4_isKnown 36 = .ok (.iload_n 0, 1) := dk_26 (dk_at dksX4_isKnown_1 12 rfl rfl)
theorem dX4_isKnown_37 : decode cX4_isKnown 37 = .ok (.bipush 109, 2) := dk_16 109 (dk_at dksX4_isKnown_1 13 rfl rfl)
theorem dX4_isKnown_39 : decode cX4_isKnown 39 = .ok (.if_icmp .eq 21, 3) := dk_159 0 21 (dk_at dksX4_isKnown_1 15 rfl rfl)
theorem dX4_isKnown_42 : decode cX4_isKnown 42 = .ok (.iload_n 0, 1) := dk_26 (dk_at dksX4_isKnown_1 18 rfl rfl)
theorem dX4_isKnown_43 : decode cX4_isKnown 43 = .ok (.bipush 104, 2) := dk_16 104 (dk_at dksX4_isKnown_1 19 rfl rfl)
theorem dX4_isKnown_45 : decode cX4_isKnown 45 = .ok (.if_icmp .eq 15, 3) := dk_159 0 15 (dk_at dksX4_isKnown_1 21 rfl rfl)
theorem dX4_isKnown_48 : decode cX4_isKnown 48 = .ok (.iload_n 0, 1) := dk_26 (dk_at dksX4_isKnown_2 0 rfl rfl)
theorem dX4_isKnown_49 : decode cX4_isKnown 49 = .ok (.bipush 101, 2) := dk_16 101 (dk_at dksX4_isKnown_2 1 rfl rfl)
theorem dX4_isKnown_51 : decode cX4_isKnown 51 = .ok (.if_icmp .eq 9, 3) := dk_159 0 9 (dk_at dksX4_isKnown_2 3 rfl rfl)
theorem dX4_isKnown_54 : decode cX4_isKnown 54 = .ok (.iload_n 0, 1) := dk_26 (dk_at dksX4_isKnown_2 6 rfl rfl)
theorem dX4_isKnown_55 : decode cX4_isKnown 55 = .ok (.bipush 116, 2) := dk_16 116 (dk_at dksX4_isKnown_2 7 rfl rfl)
theorem dX4_isKnown_57 : decode cX4_isKnown 57 = .ok (.if_icmp .ne 7, 3) := dk_160 0 7 (dk_at dksX4_isKnown_2 9 rfl rfl)
theorem dX4_isKnown_60 : decode cX4_isKnown 60 = .ok (.iconst 1, 1) := dk_4 (dk_at dksX4_isKnown_2 12 rfl rfl)
theorem dX4_isKnown_61 : decode cX4_isKnown 61 = .ok (.goto 4, 3) := dk_167 0 4 (dk_at dksX4_isKnown_2 13 rfl rfl)
theorem dX4_isKnown_64 : decode cX4_isKnown 64 = .ok (.iconst 0, 1) := dk_3 (dk_at dksX4_isKnown_2 16 rfl rfl)
theorem dX4_isKnown_65 : decode cX4_isKnown 65 = .ok (.ireturn, 1) := dk_172 (dk_at dksX4_isKnown_2 17 rfl rfl)
abbrev cX4_digits : ByteArray := prog_16_method_64_code
def yX4_digits : MethodName := ⟨RX4, "digits", "(I)I"⟩
def dkwX4_digits_3 : List UInt8 := [3, 128, 181, 0, 203, 28, 172]
abbrev dktX4_digits_3 : List UInt8 := dkwX4_digits_3 ++ []
def dkwX4_digits_2 : List UInt8 := [4, 96, 181, 0, 197, 132, 3, 1, 167, 255, 204, 42, 89, 180, 0, 203, 29, 154, 0, 7, 4, 167, 0, 4]
abbrev dktX4_digits_2 : List UInt8 := dkwX4_digits_2 ++ dktX4_digits_3
def dkwX4_digits_1 : List UInt8 := [184, 0, 68, 153, 0, 32, 16, 10, 28, 104, 42, 182, 0, 207, 96, 16, 48, 100, 61, 42, 89, 180, 0, 197]
abbrev dktX4_digits_1 : List UInt8 := dkwX4_digits_1 ++ dktX4_digits_2
def dkwX4_digits_0 : List UInt8 := [3, 61, 3, 62, 42, 180, 0, 203, 154, 0, 51, 29, 27, 162, 0, 46, 42, 182, 0, 207, 16, 48, 16, 57]
abbrev dktX4_digits_0 : List UInt8 := dkwX4_digits_0 ++ dktX4_digits_1
theorem dksX4_digits_0 : cX4_digits.data.toList.drop 0 = dktX4_digits_0 := by decide +kernel
theorem dksX4_digits_1 : cX4_digits.data.toList.drop 24 = dktX4_digits_1 := dk_seg dksX4_digits_0 24 rfl rfl
theorem dksX4_digits_2 : cX4_digits.data.toList.drop 48 = dktX4_digits_2 := dk_seg dksX4_digits_1 24 rfl rfl
theorem dksX4_digits_3 : cX4_digits.data.toList.drop 72 = dktX4_digits_3 := dk_seg dksX4_digits_2 24 rfl rfl
theorem dX4_digits_0 : decode cX4_digits 0 = .ok (.iconst 0, 1) := dk_3 (dk_at dksX4_digits_0 0 rfl rfl)
theorem dX4_digits_1 : decode cX4_digits 1 = .ok (.istore_n 2, 1) := dk_61 (dk_at dksX4_digits_0 1 rfl rfl)
theorem dX4_digits_2 : decode cX4_digits 2 = .ok (.iconst 0, 1) := dk_3 (dk_at dksX4_digits_0 2 rfl rfl)
theorem dX4_digits_3 : decode cX4_digits 3 = .ok (.istore_n 3, 1) := dk_62 (dk_at dksX4_digits_0 3 rfl rfl)
theorem dX4_digits_4 : decode cX4_digits 4 = .ok (.aload_n 0, 1) := dk_42 (dk_at dksX4_digits_0 4 rfl rfl)
theorem dX4_digits_5 : decode cX4_digits 5 = .ok (.getfield 203, 3) := dk_180 0 203 (dk_at dksX4_digits_0 5 rfl rfl)
theorem dX4_digits_8 : decode cX4_digits 8 = .ok (.ifCond .ne 51, 3) := dk_154 0 51 (dk_at dksX4_digits_0 8 rfl rfl)
theorem dX4_digits_11 : decode cX4_digits 11 = .ok (.iload_n 3, 1) := dk_29 (dk_at dksX4_digits_0 11 rfl rfl)
theorem dX4_digits_12 : decode cX4_digits 12 = .ok (.iload_n 1, 1) := dk_27 (dk_at dksX4_digits_0 12 rfl rfl)
theorem dX4_digits_13 : decode cX4_digits 13 = .ok (.if_icmp .ge 46, 3) := dk_162 0 46 (dk_at dksX4_digits_0 13 rfl rfl)
theorem dX4_digits_16 : decode cX4_digits 16 = .ok (.aload_n 0, 1) := dk_42 (dk_at dksX4_digits_0 16 rfl rfl)
theorem dX4_digits_17 : decode cX4_digits 17 = .ok (.invokevirtual 207, 3) := dk_182 0 207 (dk_at dksX4_digits_0 17 rfl rfl)
theorem dX4_digits_20 : decode cX4_digits 20 = .ok (.bipush 48, 2) := dk_16 48 (dk_at dksX4_digits_0 20 rfl rfl)
theorem dX4_digits_22 : decode cX4_digits 22 = .ok (.bipush 57, 2) := dk_16 57 (dk_at dksX4_digits_0 22 rfl rfl)
theorem dX4_digits_24 : decode cX4_digits 24 = .ok (.invokestatic 68, 3) := dk_184 0 68 (dk_at dksX4_digits_1 0 rfl rfl)
theorem dX4_digits_27 : decode cX4_digits 27 = .ok (.ifCond .eq 32, 3) := dk_153 0 32 (dk_at dksX4_digits_1 3 rfl rfl)
theorem dX4_digits_30 : decode cX4_digits 30 = .ok (.bipush 10, 2) := dk_16 10 (dk_at dksX4_digits_1 6 rfl rfl)
theorem dX4_digits_32 : decode cX4_digits 32 = .ok (.iload_n 2, 1) := dk_28 (dk_at dksX4_digits_1 8 rfl rfl)
theorem dX4_digits_33 : decode cX4_digits 33 = .ok (.imul, 1) := dk_104 (dk_at dksX4_digits_1 9 rfl rfl)
theorem dX4_digits_34 : decode cX4_digits 34 = .ok (.aload_n 0, 1) := dk_42 (dk_at dksX4_digits_1 10 rfl rfl)
theorem dX4_digits_35 : decode cX4_digits 35 = .ok (.invokevirtual 207, 3) := dk_182 0 207 (dk_at dksX4_digits_1 11 rfl rfl)
theorem dX4_digits_38 : decode cX4_digits 38 = .ok (.iadd, 1) := dk_96 (dk_at dksX4_digits_1 14 rfl rfl)
theorem dX4_digits_39 : decode cX4_digits 39 = .ok (.bipush 48, 2) := dk_16 48 (dk_at dksX4_digits_1 15 rfl rfl)
theorem dX4_digits_41 : decode cX4_digits 41 = .ok (.isub, 1) := dk_100 (dk_at dksX4_digits_1 17 rfl rfl)
theorem dX4_digits_42 : decode cX4_digits 42 = .ok (.istore_n 2, 1) := dk_61 (dk_at dksX4_digits_1 18 rfl rfl)
theorem dX4_digits_43 : decode cX4_digits 43 = .ok (.aload_n 0, 1) := dk_42 (dk_at dksX4_digits_1 19 rfl rfl)
theorem dX4_digits_44 : decode cX4_digits 44 = .ok (.dup, 1) := dk_89 (dk_at dksX4_digits_1 20 rfl rfl)
theorem dX4_digits_45 : decode cX4_digits 45 = .ok (.getfield 197, 3) := dk_180 0 197 (dk_at dksX4_digits_1 21 rfl rfl)
theorem dX4_digits_48 : decode cX4_digits 48 = .ok (.iconst 1, 1) := dk_4 (dk_at dksX4_digits_2 0 rfl rfl)
theorem dX4_digits_49 : decode cX4_digits 49 = .ok (.iadd, 1) := dk_96 (dk_at dksX4_digits_2 1 rfl rfl)
theorem dX4_digits_50 : decode cX4_digits 50 = .ok (.putfield 197, 3) := dk_181 0 197 (dk_at dksX4_digits_2 2 rfl rfl)
theorem dX4_digits_53 : decode cX4_digits 53 = .ok (.iinc 3 1, 3) := dk_132 3 1 (dk_at dksX4_digits_2 5 rfl rfl)
theorem dX4_digits_56 : decode cX4_digits 56 = .ok (.goto (-52), 3) := dk_167 255 204 (dk_at dksX4_digits_2 8 rfl rfl)
theorem dX4_digits_59 : decode cX4_digits 59 = .ok (.aload_n 0, 1) := dk_42 (dk_at dksX4_digits_2 11 rfl rfl)
theorem dX4_digits_60 : decode cX4_digits 60 = .ok (.dup, 1) := dk_89 (dk_at dksX4_digits_2 12 rfl rfl)
theorem dX4_digits_61 : decode cX4_digits 61 = .ok (.getfield 203, 3) := dk_180 0 203 (dk_at dksX4_digits_2 13 rfl rfl)
theorem dX4_digits_64 : decode cX4_digits 64 = .ok (.iload_n 3, 1) := dk_29 (dk_at dksX4_digits_2 16 rfl rfl)
theorem dX4_digits_65 : decode cX4_digits 65 = .ok (.ifCond .ne 7, 3) := dk_154 0 7 (dk_at dksX4_digits_2 17 rfl rfl)
theorem dX4_digits_68 : decode cX4_digits 68 = .ok (.iconst 1, 1) := dk_4 (dk_at dksX4_digits_2 20 rfl rfl)
theorem dX4_digits_69 : decode cX4_digits 69 = .ok (.goto 4, 3) := dk_167 0 4 (dk_at dksX4_digits_2 21 rfl rfl)
theorem dX4_digits_72 : decode cX4_digits 72 = .ok (.iconst 0, 1) := dk_3 (dk_at dksX4_digits_3 0 rfl rfl)
theorem dX4_digits_73 : decode cX4_digits 73 = .ok (.ior, 1) := dk_128 (dk_at dksX4_digits_3 1 rfl rfl)
theorem dX4_digits_74 : decode cX4_digits 74 = .ok (.putfield 203, 3) := dk_181 0 203 (dk_at dksX4_digits_3 2 rfl rfl)
theorem dX4_digits_77 : decode cX4_digits 77 = .ok (.iload_n 2, 1) := dk_28 (dk_at dksX4_digits_3 5 rfl rfl)
theorem dX4_digits_78 : decode cX4_digits 78 = .ok (.ireturn, 1) := dk_172 (dk_at dksX4_digits_3 6 rfl rfl)
abbrev cX4_behind : ByteArray := prog_16_method_65_code
def yX4_behind : MethodName := ⟨RX4, "behind", "(II)I"⟩
def dkwX4_behind_0 : List UInt8 := [42, 27, 182, 0, 210, 42, 180, 0, 203, 153, 0, 7, 3, 167, 0, 8, 42, 28, 182, 0, 213, 172]
abbrev dktX4_behind_0 : List UInt8 := dkwX4_behind_0 ++ []
theorem dksX4_behind_0 : cX4_behind.data.toList.drop 0 = dktX4_behind_0 := by decide +kernel
theorem dX4_behind_0 : decode cX4_behind 0 = .ok (.aload_n 0, 1) := dk_42 (dk_at dksX4_behind_0 0 rfl rfl)
theorem dX4_behind_1 : decode cX4_behind 1 = .ok (.iload_n 1, 1) := dk_27 (dk_at dksX4_behind_0 1 rfl rfl)
theorem dX4_behind_2 : decode cX4_behind 2 = .ok (.invokevirtual 210, 3) := dk_182 0 210 (dk_at dksX4_behind_0 2 rfl rfl)
theorem dX4_behind_5 : decode cX4_behind 5 = .ok (.aload_n 0, 1) := dk_42 (dk_at dksX4_behind_0 5 rfl rfl)
theorem dX4_behind_6 : decode cX4_behind 6 = .ok (.getfield 203, 3) := dk_180 0 203 (dk_at dksX4_behind_0 6 rfl rfl)
theorem dX4_behind_9 : decode cX4_behind 9 = .ok (.ifCond .eq 7, 3) := dk_153 0 7 (dk_at dksX4_behind_0 9 rfl rfl)
theorem dX4_behind_12 : decode cX4_behind 12 = .ok (.iconst 0, 1) := dk_3 (dk_at dksX4_behind_0 12 rfl rfl)
theorem dX4_behind_13 : decode cX4_behind 13 = .ok (.goto 8, 3) := dk_167 0 8 (dk_at dksX4_behind_0 13 rfl rfl)
theorem dX4_behind_16 : decode cX4_behind 16 = .ok (.aload_n 0, 1) := dk_42 (dk_at dksX4_behind_0 16 rfl rfl)
theorem dX4_behind_17 : decode cX4_behind 17 = .ok (.iload_n 2, 1) := dk_28 (dk_at dksX4_behind_0 17 rfl rfl)
theorem dX4_behind_18 : decode cX4_behind 18 = .ok (.invokevirtual 213, 3) := dk_182 0 213 (dk_at dksX4_behind_0 18 rfl rfl)
theorem dX4_behind_21 : decode cX4_behind 21 = .ok (.ireturn, 1) := dk_172 (dk_at dksX4_behind_0 21 rfl rfl)
abbrev cX4_mark : ByteArray := prog_16_method_63_code
def yX4_mark : MethodName := ⟨RX4, "mark", "(I)V"⟩
def dkwX4_mark_2 : List UInt8 := [177]
abbrev dktX4_mark_2 : List UInt8 := dkwX4_mark_2 ++ []
def dkwX4_mark_1 : List UInt8 := [181, 0, 203, 42, 89, 180, 0, 197, 42, 180, 0, 203, 153, 0, 7, 3, 167, 0, 4, 4, 96, 181, 0, 197]
abbrev dktX4_mark_1 : List UInt8 := dkwX4_mark_1 ++ dktX4_mark_2
def dkwX4_mark_0 : List UInt8 := [42, 180, 0, 203, 153, 0, 4, 177, 42, 42, 182, 0, 207, 27, 159, 0, 7, 4, 167, 0, 4, 3]
abbrev dktX4_mark_0 : List UInt8 := dkwX4_mark_0 ++ dktX4_mark_1
theorem dksX4_mark_0 : cX4_mark.data.toList.drop 0 = dktX4_mark_0 := by decide +kernel
theorem dksX4_mark_1 : cX4_mark.data.toList.drop 22 = dktX4_mark_1 := dk_seg dksX4_mark_0 22 rfl rfl
theorem dksX4_mark_2 : cX4_mark.data.toList.drop 46 = dktX4_mark_2 := dk_seg dksX4_mark_1 24 rfl rfl
theorem dX4_mark_0 : decode cX4_mark 0 = .ok (.aload_n 0, 1) := dk_42 (dk_at dksX4_mark_0 0 rfl rfl)
theorem dX4_mark_1 : decode cX4_mark 1 = .ok (.getfield 203, 3) := dk_180 0 203 (dk_at dksX4_mark_0 1 rfl rfl)
theorem dX4_mark_4 : decode cX4_mark 4 = .ok (.ifCond .eq 4, 3) := dk_153 0 4 (dk_at dksX4_mark_0 4 rfl rfl)
theorem dX4_mark_7 : decode cX4_mark 7 = .ok (.return_, 1) := dk_177 (dk_at dksX4_mark_0 7 rfl rfl)
theorem dX4_mark_8 : decode cX4_mark 8 = .ok (.aload_n 0, 1) := dk_42 (dk_at dksX4_mark_0 8 rfl rfl)
theorem dX4_mark_9 : decode cX4_mark 9 = .ok (.aload_n 0, 1) := dk_42 (dk_at dksX4_mark_0 9 rfl rfl)
theorem dX4_mark_10 : decode cX4_mark 10 = .ok (.invokevirtual 207, 3) := dk_182 0 207 (dk_at dksX4_mark_0 10 rfl rfl)
theorem dX4_mark_13 : decode cX4_mark 13 = .ok (.iload_n 1, 1) := dk_27 (dk_at dksX4_mark_0 13 rfl rfl)
theorem dX4_mark_14 : decode cX4_mark 14 = .ok (.if_icmp .eq 7, 3) := dk_159 0 7 (dk_at dksX4_mark_0 14 rfl rfl)
theorem dX4_mark_17 : decode cX4_mark 17 = .ok (.iconst 1, 1) := dk_4 (dk_at dksX4_mark_0 17 rfl rfl)
theorem dX4_mark_18 : decode cX4_mark 18 = .ok (.goto 4, 3) := dk_167 0 4 (dk_at dksX4_mark_0 18 rfl rfl)
theorem dX4_mark_21 : decode cX4_mark 21 = .ok (.iconst 0, 1) := dk_3 (dk_at dksX4_mark_0 21 rfl rfl)
theorem dX4_mark_22 : decode cX4_mark 22 = .ok (.putfield 203, 3) := dk_181 0 203 (dk_at dksX4_mark_1 0 rfl rfl)
theorem dX4_mark_25 : decode cX4_mark 25 = .ok (.aload_n 0, 1) := dk_42 (dk_at dksX4_mark_1 3 rfl rfl)
theorem dX4_mark_26 : decode cX4_mark 26 = .ok (.dup, 1) := dk_89 (dk_at dksX4_mark_1 4 rfl rfl)
theorem dX4_mark_27 : decode cX4_mark 27 = .ok (.getfield 197, 3) := dk_180 0 197 (dk_at dksX4_mark_1 5 rfl rfl)
theorem dX4_mark_30 : decode cX4_mark 30 = .ok (.aload_n 0, 1) := dk_42 (dk_at dksX4_mark_1 8 rfl rfl)
theorem dX4_mark_31 : decode cX4_mark 31 = .ok (.getfield 203, 3) := dk_180 0 203 (dk_at dksX4_mark_1 9 rfl rfl)
theorem dX4_mark_34 : decode cX4_mark 34 = .ok (.ifCond .eq 7, 3) := dk_153 0 7 (dk_at dksX4_mark_1 12 rfl rfl)
theorem dX4_mark_37 : decode cX4_mark 37 = .ok (.iconst 0, 1) := dk_3 (dk_at dksX4_mark_1 15 rfl rfl)
theorem dX4_mark_38 : decode cX4_mark 38 = .ok (.goto 4, 3) := dk_167 0 4 (dk_at dksX4_mark_1 16 rfl rfl)
theorem dX4_mark_41 : decode cX4_mark 41 = .ok (.iconst 1, 1) := dk_4 (dk_at dksX4_mark_1 19 rfl rfl)
theorem dX4_mark_42 : decode cX4_mark 42 = .ok (.iadd, 1) := dk_96 (dk_at dksX4_mark_1 20 rfl rfl)
theorem dX4_mark_43 : decode cX4_mark 43 = .ok (.putfield 197, 3) := dk_181 0 197 (dk_at dksX4_mark_1 21 rfl rfl)
theorem dX4_mark_46 : decode cX4_mark 46 = .ok (.return_, 1) := dk_177 (dk_at dksX4_mark_2 0 rfl rfl)
abbrev cX4_does : ByteArray := prog_16_method_66_code
def yX4_does : MethodName := ⟨RX4, "does", "(IIII)I"⟩
def dkwX4_does_5 : List UInt8 := [182, 0, 179, 172]
abbrev dktX4_does_5 : List UInt8 := dkwX4_does_5 ++ []
def dkwX4_does_4 : List UInt8 := [29, 21, 4, 182, 0, 155, 172, 42, 28, 29, 182, 0, 158, 172, 42, 28, 182, 0, 176, 172, 42, 28]
abbrev dktX4_does_4 : List UInt8 := dkwX4_does_4 ++ dktX4_does_5
def dkwX4_does_3 : List UInt8 := [172, 42, 28, 29, 21, 4, 182, 0, 130, 172, 42, 28, 29, 182, 0, 137, 172, 42, 182, 0, 149, 172, 42, 28]
abbrev dktX4_does_3 : List UInt8 := dkwX4_does_3 ++ dktX4_does_4
def dkwX4_does_2 : List UInt8 := [42, 28, 29, 21, 4, 182, 0, 99, 172, 42, 28, 29, 182, 0, 118, 172, 42, 28, 29, 21, 4, 182, 0, 124]
abbrev dktX4_does_2 : List UInt8 := dkwX4_does_2 ++ dktX4_does_3
def dkwX4_does_1 : List UInt8 := [170, 0, 0, 0, 0, 0, 171, 0, 0, 0, 98, 0, 0, 0, 119, 0, 0, 0, 112, 0, 0, 0, 171, 0, 0, 0, 144, 0, 0, 0, 165, 0, 0, 0, 171, 0, 0, 0, 171, 0, 0, 0, 158, 0, 0, 0, 171, 0, 0, 0, 171, 0, 0, 0, 171, 0, 0, 0, 171, 0, 0, 0, 149, 0, 0, 0, 171, 0, 0, 0, 119, 0, 0, 0, 137, 0, 0, 0, 171, 0, 0, 0, 171, 0, 0, 0, 103, 0, 0, 0, 171, 0, 0, 0, 171, 0, 0, 0, 171, 0, 0, 0, 128]
abbrev dktX4_does_1 : List UInt8 := dkwX4_does_1 ++ dktX4_does_2
def dkwX4_does_0 : List UInt8 := [27]
abbrev dktX4_does_0 : List UInt8 := dkwX4_does_0 ++ dktX4_does_1
theorem dksX4_does_0 : cX4_does.data.toList.drop 0 = dktX4_does_0 := by decide +kernel
theorem dksX4_does_1 : cX4_does.data.toList.drop 1 = dktX4_does_1 := dk_seg dksX4_does_0 1 rfl rfl
theorem dksX4_does_2 : cX4_does.data.toList.drop 104 = dktX4_does_2 := dk_seg dksX4_does_1 103 rfl rfl
theorem dksX4_does_3 : cX4_does.data.toList.drop 128 = dktX4_does_3 := dk_seg dksX4_does_2 24 rfl rfl
theorem dksX4_does_4 : cX4_does.data.toList.drop 152 = dktX4_does_4 := dk_seg dksX4_does_3 24 rfl rfl
theorem dksX4_does_5 : cX4_does.data.toList.drop 174 = dktX4_does_5 := dk_seg dksX4_does_4 22 rfl rfl
theorem dX4_does_0 : decode cX4_does 0 = .ok (.iload_n 1, 1) := dk_27 (dk_at dksX4_does_0 0 rfl rfl)
theorem dX4_does_1 : decode cX4_does 1 = .ok (.tableswitch 171 98 119 #[112, 171, 144, 165, 171, 171, 158, 171, 171, 171, 171, 149, 171, 119, 137, 171, 171, 103, 171, 171, 171, 128], 103) := by decide +kernel
theorem dX4_does_104 : decode cX4_does 104 = .ok (.aload_n 0, 1) := dk_42 (dk_at dksX4_does_2 0 rfl rfl)
theorem dX4_does_105 : decode cX4_does 105 = .ok (.iload_n 2, 1) := dk_28 (dk_at dksX4_does_2 1 rfl rfl)
theorem dX4_does_106 : decode cX4_does 106 = .ok (.iload_n 3, 1) := dk_29 (dk_at dksX4_does_2 2 rfl rfl)
theorem dX4_does_107 : decode cX4_does 107 = .ok (.iload 4, 2) := dk_21 4 (dk_at dksX4_does_2 3 rfl rfl)
theorem dX4_does_109 : decode cX4_does 109 = .ok (.invokevirtual 99, 3) := dk_182 0 99 (dk_at dksX4_does_2 5 rfl rfl)
theorem dX4_does_112 : decode cX4_does 112 = .ok (.ireturn, 1) := dk_172 (dk_at dksX4_does_2 8 rfl rfl)
theorem dX4_does_113 : decode cX4_does 113 = .ok (.aload_n 0, 1) := dk_42 (dk_at dksX4_does_2 9 rfl rfl)
theorem dX4_does_114 : decode cX4_does 114 = .ok (.iload_n 2, 1) := dk_28 (dk_at dksX4_does_2 10 rfl rfl)
theorem dX4_does_115 : decode cX4_does 115 = .ok (.iload_n 3, 1) := dk_29 (dk_at dksX4_does_2 11 rfl rfl)
theorem dX4_does_116 : decode cX4_does 116 = .ok (.invokevirtual 118, 3) := dk_182 0 118 (dk_at dksX4_does_2 12 rfl rfl)
theorem dX4_does_119 : decode cX4_does 119 = .ok (.ireturn, 1) := dk_172 (dk_at dksX4_does_2 15 rfl rfl)
theorem dX4_does_120 : decode cX4_does 120 = .ok (.aload_n 0, 1) := dk_42 (dk_at dksX4_does_2 16 rfl rfl)
theorem dX4_does_121 : decode cX4_does 121 = .ok (.iload_n 2, 1) := dk_28 (dk_at dksX4_does_2 17 rfl rfl)
theorem dX4_does_122 : decode cX4_does 122 = .ok (.iload_n 3, 1) := dk_29 (dk_at dksX4_does_2 18 rfl rfl)
theorem dX4_does_123 : decode cX4_does 123 = .ok (.iload 4, 2) := dk_21 4 (dk_at dksX4_does_2 19 rfl rfl)
theorem dX4_does_125 : decode cX4_does 125 = .ok (.invokevirtual 124, 3) := dk_182 0 124 (dk_at dksX4_does_2 21 rfl rfl)
theorem dX4_does_128 : decode cX4_does 128 = .ok (.ireturn, 1) := dk_172 (dk_at dksX4_does_3 0 rfl rfl)
theorem dX4_does_129 : decode cX4_does 129 = .ok (.aload_n 0, 1) := dk_42 (dk_at dksX4_does_3 1 rfl rfl)
theorem dX4_does_130 : decode cX4_does 130 = .ok (.iload_n 2, 1) := dk_28 (dk_at dksX4_does_3 2 rfl rfl)
theorem dX4_does_131 : decode cX4_does 131 = .ok (.iload_n 3, 1) := dk_29 (dk_at dksX4_does_3 3 rfl rfl)
theorem dX4_does_132 : decode cX4_does 132 = .ok (.iload 4, 2) := dk_21 4 (dk_at dksX4_does_3 4 rfl rfl)
theorem dX4_does_134 : decode cX4_does 134 = .ok (.invokevirtual 130, 3) := dk_182 0 130 (dk_at dksX4_does_3 6 rfl rfl)
theorem dX4_does_137 : decode cX4_does 137 = .ok (.ireturn, 1) := dk_172 (dk_at dksX4_does_3 9 rfl rfl)
theorem dX4_does_138 : decode cX4_does 138 = .ok (.aload_n 0, 1) := dk_42 (dk_at dksX4_does_3 10 rfl rfl)
theorem dX4_does_139 : decode cX4_does 139 = .ok (.iload_n 2, 1) := dk_28 (dk_at dksX4_does_3 11 rfl rfl)
theorem dX4_does_140 : decode cX4_does 140 = .ok (.iload_n 3, 1) := dk_29 (dk_at dksX4_does_3 12 rfl rfl)
theorem dX4_does_141 : decode cX4_does 141 = .ok (.invokevirtual 137, 3) := dk_182 0 137 (dk_at dksX4_does_3 13 rfl rfl)
theorem dX4_does_144 : decode cX4_does 144 = .ok (.ireturn, 1) := dk_172 (dk_at dksX4_does_3 16 rfl rfl)
theorem dX4_does_145 : decode cX4_does 145 = .ok (.aload_n 0, 1) := dk_42 (dk_at dksX4_does_3 17 rfl rfl)
theorem dX4_does_146 : decode cX4_does 146 = .ok (.invokevirtual 149, 3) := dk_182 0 149 (dk_at dksX4_does_3 18 rfl rfl)
theorem dX4_does_149 : decode cX4_does 149 = .ok (.ireturn, 1) := dk_172 (dk_at dksX4_does_3 21 rfl rfl)
theorem dX4_does_150 : decode cX4_does 150 = .ok (.aload_n 0, 1) := dk_42 (dk_at dksX4_does_3 22 rfl rfl)
theorem dX4_does_151 : decode cX4_does 151 = .ok (.iload_n 2, 1) := dk_28 (dk_at dksX4_does_3 23 rfl rfl)
theorem dX4_does_152 : decode cX4_does 152 = .ok (.iload_n 3, 1) := dk_29 (dk_at dksX4_does_4 0 rfl rfl)
theorem dX4_does_153 : decode cX4_does 153 = .ok (.iload 4, 2) := dk_21 4 (dk_at dksX4_does_4 1 rfl rfl)
theorem dX4_does_155 : decode cX4_does 155 = .ok (.invokevirtual 155, 3) := dk_182 0 155 (dk_at dksX4_does_4 3 rfl rfl)
theorem dX4_does_158 : decode cX4_does 158 = .ok (.ireturn, 1) := dk_172 (dk_at dksX4_does_4 6 rfl rfl)
theorem dX4_does_159 : decode cX4_does 159 = .ok (.aload_n 0, 1) := dk_42 (dk_at dksX4_does_4 7 rfl rfl)
theorem dX4_does_160 : decode cX4_does 160 = .ok (.iload_n 2, 1) := dk_28 (dk_at dksX4_does_4 8 rfl rfl)
theorem dX4_does_161 : decode cX4_does 161 = .ok (.iload_n 3, 1) := dk_29 (dk_at dksX4_does_4 9 rfl rfl)
theorem dX4_does_162 : decode cX4_does 162 = .ok (.invokevirtual 158, 3) := dk_182 0 158 (dk_at dksX4_does_4 10 rfl rfl)
theorem dX4_does_165 : decode cX4_does 165 = .ok (.ireturn, 1) := dk_172 (dk_at dksX4_does_4 13 rfl rfl)
theorem dX4_does_166 : decode cX4_does 166 = .ok (.aload_n 0, 1) := dk_42 (dk_at dksX4_does_4 14 rfl rfl)
theorem dX4_does_167 : decode cX4_does 167 = .ok (.iload_n 2, 1) := dk_28 (dk_at dksX4_does_4 15 rfl rfl)
theorem dX4_does_168 : decode cX4_does 168 = .ok (.invokevirtual 176, 3) := dk_182 0 176 (dk_at dksX4_does_4 16 rfl rfl)
theorem dX4_does_171 : decode cX4_does 171 = .ok (.ireturn, 1) := dk_172 (dk_at dksX4_does_4 19 rfl rfl)
theorem dX4_does_172 : decode cX4_does 172 = .ok (.aload_n 0, 1) := dk_42 (dk_at dksX4_does_4 20 rfl rfl)
theorem dX4_does_173 : decode cX4_does 173 = .ok (.iload_n 2, 1) := dk_28 (dk_at dksX4_does_4 21 rfl rfl)
theorem dX4_does_174 : decode cX4_does 174 = .ok (.invokevirtual 179, 3) := dk_182 0 179 (dk_at dksX4_does_5 0 rfl rfl)
theorem dX4_does_177 : decode cX4_does 177 = .ok (.ireturn, 1) := dk_172 (dk_at dksX4_does_5 3 rfl rfl)
abbrev cX4_refusesOrder : ByteArray := prog_16_method_70_code
def yX4_refusesOrder : MethodName := ⟨RX4, "refusesOrder", "(I)I"⟩
def dkwX4_refusesOrder_3 : List UInt8 := [21, 4, 181, 0, 105, 42, 21, 5, 181, 0, 54, 42, 21, 6, 181, 0, 232, 21, 7, 172]
abbrev dktX4_refusesOrder_3 : List UInt8 := dkwX4_refusesOrder_3 ++ []
def dkwX4_refusesOrder_2 : List UInt8 := [54, 5, 42, 180, 0, 105, 54, 6, 42, 16, 16, 27, 182, 0, 78, 54, 7, 42, 29, 181, 0, 51, 42]
abbrev dktX4_refusesOrder_2 : List UInt8 := dkwX4_refusesOrder_2 ++ dktX4_refusesOrder_3
def dkwX4_refusesOrder_1 : List UInt8 := [167, 0, 4, 3, 62, 42, 180, 0, 48, 54, 4, 28, 153, 0, 10, 42, 180, 0, 51, 167, 0, 4, 3]
abbrev dktX4_refusesOrder_1 : List UInt8 := dkwX4_refusesOrder_1 ++ dktX4_refusesOrder_2
def dkwX4_refusesOrder_0 : List UInt8 := [42, 180, 0, 41, 17, 252, 10, 160, 0, 7, 4, 167, 0, 4, 3, 61, 28, 153, 0, 10, 42, 180, 0, 45]
abbrev dktX4_refusesOrder_0 : List UInt8 := dkwX4_refusesOrder_0 ++ dktX4_refusesOrder_1
theorem dksX4_refusesOrder_0 : cX4_refusesOrder.data.toList.drop 0 = dktX4_refusesOrder_0 := by decide +kernel
theorem dksX4_refusesOrder_1 : cX4_refusesOrder.data.toList.drop 24 = dktX4_refusesOrder_1 := dk_seg dksX4_refusesOrder_0 24 rfl rfl
theorem dksX4_refusesOrder_2 : cX4_refusesOrder.data.toList.drop 47 = dktX4_refusesOrder_2 := dk_seg dksX4_refusesOrder_1 23 rfl rfl
theorem dksX4_refusesOrder_3 : cX4_refusesOrder.data.toList.drop 70 = dktX4_refusesOrder_3 := dk_seg dksX4_refusesOrder_2 23 rfl rfl
theorem dX4_refusesOrder_0 : decode cX4_refusesOrder 0 = .ok (.aload_n 0, 1) := dk_42 (dk_at dksX4_refusesOrder_0 0 rfl rfl)
theorem dX4_refusesOrder_1 : decode cX4_refusesOrder 1 = .ok (.getfield 41, 3) := dk_180 0 41 (dk_at dksX4_refusesOrder_0 1 rfl rfl)
theorem dX4_refusesOrder_4 : decode cX4_refusesOrder 4 = .ok (.sipush (-1014), 3) := dk_17 252 10 (dk_at dksX4_refusesOrder_0 4 rfl rfl)
theorem dX4_refusesOrder_7 : decode cX4_refusesOrder 7 = .ok (.if_icmp .ne 7, 3) := dk_160 0 7 (dk_at dksX4_refusesOrder_0 7 rfl rfl)
theorem dX4_refusesOrder_10 : decode cX4_refusesOrder 10 = .ok (.iconst 1, 1) := dk_4 (dk_at dksX4_refusesOrder_0 10 rfl rfl)
theorem dX4_refusesOrder_11 : decode cX4_refusesOrder 11 = .ok (.goto 4, 3) := dk_167 0 4 (dk_at dksX4_refusesOrder_0 11 rfl rfl)
theorem dX4_refusesOrder_14 : decode cX4_refusesOrder 14 = .ok (.iconst 0, 1) := dk_3 (dk_at dksX4_refusesOrder_0 14 rfl rfl)
theorem dX4_refusesOrder_15 : decode cX4_refusesOrder 15 = .ok (.istore_n 2, 1) := dk_61 (dk_at dksX4_refusesOrder_0 15 rfl rfl)
theorem dX4_refusesOrder_16 : decode cX4_refusesOrder 16 = .ok (.iload_n 2, 1) := dk_28 (dk_at dksX4_refusesOrder_0 16 rfl rfl)
theorem dX4_refusesOrder_17 : decode cX4_refusesOrder 17 = .ok (.ifCond .eq 10, 3) := dk_153 0 10 (dk_at dksX4_refusesOrder_0 17 rfl rfl)
theorem dX4_refusesOrder_20 : decode cX4_refusesOrder 20 = .ok (.aload_n 0, 1) := dk_42 (dk_at dksX4_refusesOrder_0 20 rfl rfl)
theorem dX4_refusesOrder_21 : decode cX4_refusesOrder 21 = .ok (.getfield 45, 3) := dk_180 0 45 (dk_at dksX4_refusesOrder_0 21 rfl rfl)
theorem dX4_refusesOrder_24 : decode cX4_refusesOrder 24 = .ok (.goto 4, 3) := dk_167 0 4 (dk_at dksX4_refusesOrder_1 0 rfl rfl)
theorem dX4_refusesOrder_27 : decode cX4_refusesOrder 27 = .ok (.iconst 0, 1) := dk_3 (dk_at dksX4_refusesOrder_1 3 rfl rfl)
theorem dX4_refusesOrder_28 : decode cX4_refusesOrder 28 = .ok (.istore_n 3, 1) := dk_62 (dk_at dksX4_refusesOrder_1 4 rfl rfl)
theorem dX4_refusesOrder_29 : decode cX4_refusesOrder 29 = .ok (.aload_n 0, 1) := dk_42 (dk_at dksX4_refusesOrder_1 5 rfl rfl)
theorem dX4_refusesOrder_30 : decode cX4_refusesOrder 30 = .ok (.getfield 48, 3) := dk_180 0 48 (dk_at dksX4_refusesOrder_1 6 rfl rfl)
theorem dX4_refusesOrder_33 : decode cX4_refusesOrder 33 = .ok (.istore 4, 2) := dk_54 4 (dk_at dksX4_refusesOrder_1 9 rfl rfl)
theorem dX4_refusesOrder_35 : decode cX4_refusesOrder 35 = .ok (.iload_n 2, 1) := dk_28 (dk_at dksX4_refusesOrder_1 11 rfl rfl)
theorem dX4_refusesOrder_36 : decode cX4_refusesOrder 36 = .ok (.ifCond .eq 10, 3) := dk_153 0 10 (dk_at dksX4_refusesOrder_1 12 rfl rfl)
theorem dX4_refusesOrder_39 : decode cX4_refusesOrder 39 = .ok (.aload_n 0, 1) := dk_42 (dk_at dksX4_refusesOrder_1 15 rfl rfl)
theorem dX4_refusesOrder_40 : decode cX4_refusesOrder 40 = .ok (.getfield 51, 3) := dk_180 0 51 (dk_at dksX4_refusesOrder_1 16 rfl rfl)
theorem dX4_refusesOrder_43 : decode cX4_refusesOrder 43 = .ok (.goto 4, 3) := dk_167 0 4 (dk_at dksX4_refusesOrder_1 19 rfl rfl)
theorem dX4_refusesOrder_46 : decode cX4_refusesOrder 46 = .ok (.iconst 0, 1) := dk_3 (dk_at dksX4_refusesOrder_1 22 rfl rfl)
theorem dX4_refusesOrder_47 : decode cX4_refusesOrder 47 = .ok (.istore 5, 2) := dk_54 5 (dk_at dksX4_refusesOrder_2 0 rfl rfl)
theorem dX4_refusesOrder_49 : decode cX4_refusesOrder 49 = .ok (.aload_n 0, 1) := dk_42 (dk_at dksX4_refusesOrder_2 2 rfl rfl)
theorem dX4_refusesOrder_50 : decode cX4_refusesOrder 50 = .ok (.getfield 105, 3) := dk_180 0 105 (dk_at dksX4_refusesOrder_2 3 rfl rfl)
theorem dX4_refusesOrder_53 : decode cX4_refusesOrder 53 = .ok (.istore 6, 2) := dk_54 6 (dk_at dksX4_refusesOrder_2 6 rfl rfl)
theorem dX4_refusesOrder_55 : decode cX4_refusesOrder 55 = .ok (.aload_n 0, 1) := dk_42 (dk_at dksX4_refusesOrder_2 8 rfl rfl)
theorem dX4_refusesOrder_56 : decode cX4_refusesOrder 56 = .ok (.bipush 16, 2) := dk_16 16 (dk_at dksX4_refusesOrder_2 9 rfl rfl)
theorem dX4_refusesOrder_58 : decode cX4_refusesOrder 58 = .ok (.iload_n 1, 1) := dk_27 (dk_at dksX4_refusesOrder_2 11 rfl rfl)
theorem dX4_refusesOrder_59 : decode cX4_refusesOrder 59 = .ok (.invokevirtual 78, 3) := dk_182 0 78 (dk_at dksX4_refusesOrder_2 12 rfl rfl)
theorem dX4_refusesOrder_62 : decode cX4_refusesOrder 62 = .ok (.istore 7, 2) := dk_54 7 (dk_at dksX4_refusesOrder_2 15 rfl rfl)
theorem dX4_refusesOrder_64 : decode cX4_refusesOrder 64 = .ok (.aload_n 0, 1) := dk_42 (dk_at dksX4_refusesOrder_2 17 rfl rfl)
theorem dX4_refusesOrder_65 : decode cX4_refusesOrder 65 = .ok (.iload_n 3, 1) := dk_29 (dk_at dksX4_refusesOrder_2 18 rfl rfl)
theorem dX4_refusesOrder_66 : decode cX4_refusesOrder 66 = .ok (.putfield 51, 3) := dk_181 0 51 (dk_at dksX4_refusesOrder_2 19 rfl rfl)
theorem dX4_refusesOrder_69 : decode cX4_refusesOrder 69 = .ok (.aload_n 0, 1) := dk_42 (dk_at dksX4_refusesOrder_2 22 rfl rfl)
theorem dX4_refusesOrder_70 : decode cX4_refusesOrder 70 = .ok (.iload 4, 2) := dk_21 4 (dk_at dksX4_refusesOrder_3 0 rfl rfl)
theorem dX4_refusesOrder_72 : decode cX4_refusesOrder 72 = .ok (.putfield 105, 3) := dk_181 0 105 (dk_at dksX4_refusesOrder_3 2 rfl rfl)
theorem dX4_refusesOrder_75 : decode cX4_refusesOrder 75 = .ok (.aload_n 0, 1) := dk_42 (dk_at dksX4_refusesOrder_3 5 rfl rfl)
theorem dX4_refusesOrder_76 : decode cX4_refusesOrder 76 = .ok (.iload 5, 2) := dk_21 5 (dk_at dksX4_refusesOrder_3 6 rfl rfl)
theorem dX4_refusesOrder_78 : decode cX4_refusesOrder 78 = .ok (.putfield 54, 3) := dk_181 0 54 (dk_at dksX4_refusesOrder_3 8 rfl rfl)
theorem dX4_refusesOrder_81 : decode cX4_refusesOrder 81 = .ok (.aload_n 0, 1) := dk_42 (dk_at dksX4_refusesOrder_3 11 rfl rfl)
theorem dX4_refusesOrder_82 : decode cX4_refusesOrder 82 = .ok (.iload 6, 2) := dk_21 6 (dk_at dksX4_refusesOrder_3 12 rfl rfl)
theorem dX4_refusesOrder_84 : decode cX4_refusesOrder 84 = .ok (.putfield 232, 3) := dk_181 0 232 (dk_at dksX4_refusesOrder_3 14 rfl rfl)
theorem dX4_refusesOrder_87 : decode cX4_refusesOrder 87 = .ok (.iload 7, 2) := dk_21 7 (dk_at dksX4_refusesOrder_3 17 rfl rfl)
theorem dX4_refusesOrder_89 : decode cX4_refusesOrder 89 = .ok (.ireturn, 1) := dk_172 (dk_at dksX4_refusesOrder_3 19 rfl rfl)
abbrev cX4_tell : ByteArray := prog_16_method_72_code
def yX4_tell : MethodName := ⟨RX4, "tell", "(I)I"⟩
def dkwX4_tell_7 : List UInt8 := [27, 8, 184, 0, 72, 46, 182, 0, 241, 42, 180, 0, 188, 172]
abbrev dktX4_tell_7 : List UInt8 := dkwX4_tell_7 ++ []
def dkwX4_tell_6 : List UInt8 := [180, 0, 7, 27, 16, 6, 184, 0, 72, 46, 158, 0, 23, 42, 16, 33, 182, 0, 191, 42, 42, 180, 0, 7]
abbrev dktX4_tell_6 : List UInt8 := dkwX4_tell_6 ++ dktX4_tell_7
def dkwX4_tell_5 : List UInt8 := [182, 0, 241, 42, 16, 61, 182, 0, 191, 42, 42, 180, 0, 7, 27, 7, 184, 0, 72, 46, 182, 0, 241, 42]
abbrev dktX4_tell_5 : List UInt8 := dkwX4_tell_5 ++ dktX4_tell_6
def dkwX4_tell_4 : List UInt8 := [158, 0, 45, 42, 16, 62, 182, 0, 191, 42, 42, 180, 0, 7, 27, 6, 184, 0, 72, 46, 4, 100]
abbrev dktX4_tell_4 : List UInt8 := dkwX4_tell_4 ++ dktX4_tell_5
def dkwX4_tell_3 : List UInt8 := [42, 180, 0, 7, 27, 5, 184, 0, 72, 46, 182, 0, 241, 42, 180, 0, 7, 27, 6, 184, 0, 72, 46]
abbrev dktX4_tell_3 : List UInt8 := dkwX4_tell_3 ++ dktX4_tell_4
def dkwX4_tell_2 : List UInt8 := [182, 0, 191, 42, 42, 180, 0, 7, 27, 4, 184, 0, 72, 46, 182, 0, 241, 42, 16, 47, 182, 0, 191, 42]
abbrev dktX4_tell_2 : List UInt8 := dkwX4_tell_2 ++ dktX4_tell_3
def dkwX4_tell_1 : List UInt8 := [16, 64, 182, 0, 191, 42, 42, 180, 0, 7, 27, 3, 184, 0, 72, 46, 182, 0, 241, 42, 16, 58]
abbrev dktX4_tell_1 : List UInt8 := dkwX4_tell_1 ++ dktX4_tell_2
def dkwX4_tell_0 : List UInt8 := [42, 27, 182, 0, 108, 154, 0, 7, 17, 252, 13, 172, 42, 3, 181, 0, 188, 42, 27, 182, 0, 241, 42]
abbrev dktX4_tell_0 : List UInt8 := dkwX4_tell_0 ++ dktX4_tell_1
theorem dksX4_tell_0 : cX4_tell.data.toList.drop 0 = dktX4_tell_0 := by decide +kernel
theorem dksX4_tell_1 : cX4_tell.data.toList.drop 23 = dktX4_tell_1 := dk_seg dksX4_tell_0 23 rfl rfl
theorem dksX4_tell_2 : cX4_tell.data.toList.drop 45 = dktX4_tell_2 := dk_seg dksX4_tell_1 22 rfl rfl
theorem dksX4_tell_3 : cX4_tell.data.toList.drop 69 = dktX4_tell_3 := dk_seg dksX4_tell_2 24 rfl rfl
theorem dksX4_tell_4 : cX4_tell.data.toList.drop 92 = dktX4_tell_4 := dk_seg dksX4_tell_3 23 rfl rfl
theorem dksX4_tell_5 : cX4_tell.data.toList.drop 114 = dktX4_tell_5 := dk_seg dksX4_tell_4 22 rfl rfl
theorem dksX4_tell_6 : cX4_tell.data.toList.drop 138 = dktX4_tell_6 := dk_seg dksX4_tell_5 24 rfl rfl
theorem dksX4_tell_7 : cX4_tell.data.toList.drop 162 = dktX4_tell_7 := dk_seg dksX4_tell_6 24 rfl rfl
theorem dX4_tell_0 : decode cX4_tell 0 = .ok (.aload_n 0, 1) := dk_42 (dk_at dksX4_tell_0 0 rfl rfl)
theorem dX4_tell_1 : decode cX4_tell 1 = .ok (.iload_n 1, 1) := dk_27 (dk_at dksX4_tell_0 1 rfl rfl)
theorem dX4_tell_2 : decode cX4_tell 2 = .ok (.invokevirtual 108, 3) := dk_182 0 108 (dk_at dksX4_tell_0 2 rfl rfl)
theorem dX4_tell_5 : decode cX4_tell 5 = .ok (.ifCond .ne 7, 3) := dk_154 0 7 (dk_at dksX4_tell_0 5 rfl rfl)
theorem dX4_tell_8 : decode cX4_tell 8 = .ok (.sipush (-1011), 3) := dk_17 252 13 (dk_at dksX4_tell_0 8 rfl rfl)
theorem dX4_tell_11 : decode cX4_tell 11 = .ok (.ireturn, 1) := dk_172 (dk_at dksX4_tell_0 11 rfl rfl)
theorem dX4_tell_12 : decode cX4_tell 12 = .ok (.aload_n 0, 1) := dk_42 (dk_at dksX4_tell_0 12 rfl rfl)
theorem dX4_tell_13 : decode cX4_tell 13 = .ok (.iconst 0, 1) := dk_3 (dk_at dksX4_tell_0 13 rfl rfl)
theorem dX4_tell_14 : decode cX4_tell 14 = .ok (.putfield 188, 3) := dk_181 0 188 (dk_at dksX4_tell_0 14 rfl rfl)
theorem dX4_tell_17 : decode cX4_tell 17 = .ok (.aload_n 0, 1) := dk_42 (dk_at dksX4_tell_0 17 rfl rfl)
theorem dX4_tell_18 : decode cX4_tell 18 = .ok (.iload_n 1, 1) := dk_27 (dk_at dksX4_tell_0 18 rfl rfl)
theorem dX4_tell_19 : decode cX4_tell 19 = .ok (.invokevirtual 241, 3) := dk_182 0 241 (dk_at dksX4_tell_0 19 rfl rfl)
theorem dX4_tell_22 : decode cX4_tell 22 = .ok (.aload_n 0, 1) := dk_42 (dk_at dksX4_tell_0 22 rfl rfl)
theorem dX4_tell_23 : decode cX4_tell 23 = .ok (.bipush 64, 2) := dk_16 64 (dk_at dksX4_tell_1 0 rfl rfl)
theorem dX4_tell_25 : decode cX4_tell 25 = .ok (.invokevirtual 191, 3) := dk_182 0 191 (dk_at dksX4_tell_1 2 rfl rfl)
theorem dX4_tell_28 : decode cX4_tell 28 = .ok (.aload_n 0, 1) := dk_42 (dk_at dksX4_tell_1 5 rfl rfl)
theorem dX4_tell_29 : decode cX4_tell 29 = .ok (.aload_n 0, 1) := dk_42 (dk_at dksX4_tell_1 6 rfl rfl)
theorem dX4_tell_30 : decode cX4_tell 30 = .ok (.getfield 7, 3) := dk_180 0 7 (dk_at dksX4_tell_1 7 rfl rfl)
theorem dX4_tell_33 : decode cX4_tell 33 = .ok (.iload_n 1, 1) := dk_27 (dk_at dksX4_tell_1 10 rfl rfl)
theorem dX4_tell_34 : decode cX4_tell 34 = .ok (.iconst 0, 1) := dk_3 (dk_at dksX4_tell_1 11 rfl rfl)
theorem dX4_tell_35 : decode cX4_tell 35 = .ok (.invokestatic 72, 3) := dk_184 0 72 (dk_at dksX4_tell_1 12 rfl rfl)
theorem dX4_tell_38 : decode cX4_tell 38 = .ok (.iaload, 1) := dk_46 (dk_at dksX4_tell_1 15 rfl rfl)
theorem dX4_tell_39 : decode cX4_tell 39 = .ok (.invokevirtual 241, 3) := dk_182 0 241 (dk_at dksX4_tell_1 16 rfl rfl)
theorem dX4_tell_42 : decode cX4_tell 42 = .ok (.aload_n 0, 1) := dk_42 (dk_at dksX4_tell_1 19 rfl rfl)
theorem dX4_tell_43 : decode cX4_tell 43 = .ok (.bipush 58, 2) := dk_16 58 (dk_at dksX4_tell_1 20 rfl rfl)
theorem dX4_tell_45 : decode cX4_tell 45 = .ok (.invokevirtual 191, 3) := dk_182 0 191 (dk_at dksX4_tell_2 0 rfl rfl)
theorem dX4_tell_48 : decode cX4_tell 48 = .ok (.aload_n 0, 1) := dk_42 (dk_at dksX4_tell_2 3 rfl rfl)
theorem dX4_tell_49 : decode cX4_tell 49 = .ok (.aload_n 0, 1) := dk_42 (dk_at dksX4_tell_2 4 rfl rfl)
theorem dX4_tell_50 : decode cX4_tell 50 = .ok (.getfield 7, 3) := dk_180 0 7 (dk_at dksX4_tell_2 5 rfl rfl)
theorem dX4_tell_53 : decode cX4_tell 53 = .ok (.iload_n 1, 1) := dk_27 (dk_at dksX4_tell_2 8 rfl rfl)
theorem dX4_tell_54 : decode cX4_tell 54 = .ok (.iconst 1, 1) := dk_4 (dk_at dksX4_tell_2 9 rfl rfl)
theorem dX4_tell_55 : decode cX4_tell 55 = .ok (.invokestatic 72, 3) := dk_184 0 72 (dk_at dksX4_tell_2 10 rfl rfl)
theorem dX4_tell_58 : decode cX4_tell 58 = .ok (.iaload, 1) := dk_46 (dk_at dksX4_tell_2 13 rfl rfl)
theorem dX4_tell_59 : decode cX4_tell 59 = .ok (.invokevirtual 241, 3) := dk_182 0 241 (dk_at dksX4_tell_2 14 rfl rfl)
theorem dX4_tell_62 : decode cX4_tell 62 = .ok (.aload_n 0, 1) := dk_42 (dk_at dksX4_tell_2 17 rfl rfl)
theorem dX4_tell_63 : decode cX4_tell 63 = .ok (.bipush 47, 2) := dk_16 47 (dk_at dksX4_tell_2 18 rfl rfl)
theorem dX4_tell_65 : decode cX4_tell 65 = .ok (.invokevirtual 191, 3) := dk_182 0 191 (dk_at dksX4_tell_2 20 rfl rfl)
theorem dX4_tell_68 : decode cX4_tell 68 = .ok (.aload_n 0, 1) := dk_42 (dk_at dksX4_tell_2 23 rfl rfl)
theorem dX4_tell_69 : decode cX4_tell 69 = .ok (.aload_n 0, 1) := dk_42 (dk_at dksX4_tell_3 0 rfl rfl)
theorem dX4_tell_70 : decode cX4_tell 70 = .ok (.getfield 7, 3) := dk_180 0 7 (dk_at dksX4_tell_3 1 rfl rfl)
theorem dX4_tell_73 : decode cX4_tell 73 = .ok (.iload_n 1, 1) := dk_27 (dk_at dksX4_tell_3 4 rfl rfl)
theorem dX4_tell_74 : decode cX4_tell 74 = .ok (.iconst 2, 1) := dk_5 (dk_at dksX4_tell_3 5 rfl rfl)
theorem dX4_tell_75 : decode cX4_tell 75 = .ok (.invokestatic 72, 3) := dk_184 0 72 (dk_at dksX4_tell_3 6 rfl rfl)
theorem dX4_tell_78 : decode cX4_tell 78 = .ok (.iaload, 1) := dk_46 (dk_at dksX4_tell_3 9 rfl rfl)
theorem dX4_tell_79 : decode cX4_tell 79 = .ok (.invokevirtual 241, 3) := dk_182 0 241 (dk_at dksX4_tell_3 10 rfl rfl)
theorem dX4_tell_82 : decode cX4_tell 82 = .ok (.aload_n 0, 1) := dk_42 (dk_at dksX4_tell_3 13 rfl rfl)
theorem dX4_tell_83 : decode cX4_tell 83 = .ok (.getfield 7, 3) := dk_180 0 7 (dk_at dksX4_tell_3 14 rfl rfl)
theorem dX4_tell_86 : decode cX4_tell 86 = .ok (.iload_n 1, 1) := dk_27 (dk_at dksX4_tell_3 17 rfl rfl)
theorem dX4_tell_87 : decode cX4_tell 87 = .ok (.iconst 3, 1) := dk_6 (dk_at dksX4_tell_3 18 rfl rfl)
theorem dX4_tell_88 : decode cX4_tell 88 = .ok (.invokestatic 72, 3) := dk_184 0 72 (dk_at dksX4_tell_3 19 rfl rfl)
theorem dX4_tell_91 : decode cX4_tell 91 = .ok (.iaload, 1) := dk_46 (dk_at dksX4_tell_3 22 rfl rfl)
theorem dX4_tell_92 : decode cX4_tell 92 = .ok (.ifCond .le 45, 3) := dk_158 0 45 (dk_at dksX4_tell_4 0 rfl rfl)
theorem dX4_tell_95 : decode cX4_tell 95 = .ok (.aload_n 0, 1) := dk_42 (dk_at dksX4_tell_4 3 rfl rfl)
theorem dX4_tell_96 : decode cX4_tell 96 = .ok (.bipush 62, 2) := dk_16 62 (dk_at dksX4_tell_4 4 rfl rfl)
theorem dX4_tell_98 : decode cX4_tell 98 = .ok (.invokevirtual 191, 3) := dk_182 0 191 (dk_at dksX4_tell_4 6 rfl rfl)
theorem dX4_tell_101 : decode cX4_tell 101 = .ok (.aload_n 0, 1) := dk_42 (dk_at dksX4_tell_4 9 rfl rfl)
theorem dX4_tell_102 : decode cX4_tell 102 = .ok (.aload_n 0, 1) := dk_42 (dk_at dksX4_tell_4 10 rfl rfl)
theorem dX4_tell_103 : decode cX4_tell 103 = .ok (.getfield 7, 3) := dk_180 0 7 (dk_at dksX4_tell_4 11 rfl rfl)
theorem dX4_tell_106 : decode cX4_tell 106 = .ok (.iload_n 1, 1) := dk_27 (dk_at dksX4_tell_4 14 rfl rfl)
theorem dX4_tell_107 : decode cX4_tell 107 = .ok (.iconst 3, 1) := dk_6 (dk_at dksX4_tell_4 15 rfl rfl)
theorem dX4_tell_108 : decode cX4_tell 108 = .ok (.invokestatic 72, 3) := dk_184 0 72 (dk_at dksX4_tell_4 16 rfl rfl)
theorem dX4_tell_111 : decode cX4_tell 111 = .ok (.iaload, 1) := dk_46 (dk_at dksX4_tell_4 19 rfl rfl)
theorem dX4_tell_112 : decode cX4_tell 112 = .ok (.iconst 1, 1) := dk_4 (dk_at dksX4_tell_4 20 rfl rfl)
theorem dX4_tell_113 : decode cX4_tell 113 = .ok (.isub, 1) := dk_100 (dk_at dksX4_tell_4 21 rfl rfl)
theorem dX4_tell_114 : decode cX4_tell 114 = .ok (.invokevirtual 241, 3) := dk_182 0 241 (dk_at dksX4_tell_5 0 rfl rfl)
theorem dX4_tell_117 : decode cX4_tell 117 = .ok (.aload_n 0, 1) := dk_42 (dk_at dksX4_tell_5 3 rfl rfl)
theorem dX4_tell_118 : decode cX4_tell 118 = .ok (.bipush 61, 2) := dk_16 61 (dk_at dksX4_tell_5 4 rfl rfl)
theorem dX4_tell_120 : decode cX4_tell 120 = .ok (.invokevirtual 191, 3) := dk_182 0 191 (dk_at dksX4_tell_5 6 rfl rfl)
theorem dX4_tell_123 : decode cX4_tell 123 = .ok (.aload_n 0, 1) := dk_42 (dk_at dksX4_tell_5 9 rfl rfl)
theorem dX4_tell_124 : decode cX4_tell 124 = .ok (.aload_n 0, 1) := dk_42 (dk_at dksX4_tell_5 10 rfl rfl)
theorem dX4_tell_125 : decode cX4_tell 125 = .ok (.getfield 7, 3) := dk_180 0 7 (dk_at dksX4_tell_5 11 rfl rfl)
theorem dX4_tell_128 : decode cX4_tell 128 = .ok (.iload_n 1, 1) := dk_27 (dk_at dksX4_tell_5 14 rfl rfl)
theorem dX4_tell_129 : decode cX4_tell 129 = .ok (.iconst 4, 1) := dk_7 (dk_at dksX4_tell_5 15 rfl rfl)
theorem dX4_tell_130 : decode cX4_tell 130 = .ok (.invokestatic 72, 3) := dk_184 0 72 (dk_at dksX4_tell_5 16 rfl rfl)
theorem dX4_tell_133 : decode cX4_tell 133 = .ok (.iaload, 1) := dk_46 (dk_at dksX4_tell_5 19 rfl rfl)
theorem dX4_tell_134 : decode cX4_tell 134 = .ok (.invokevirtual 241, 3) := dk_182 0 241 (dk_at dksX4_tell_5 20 rfl rfl)
theorem dX4_tell_137 : decode cX4_tell 137 = .ok (.aload_n 0, 1) := dk_42 (dk_at dksX4_tell_5 23 rfl rfl)
theorem dX4_tell_138 : decode cX4_tell 138 = .ok (.getfield 7, 3) := dk_180 0 7 (dk_at dksX4_tell_6 0 rfl rfl)
theorem dX4_tell_141 : decode cX4_tell 141 = .ok (.iload_n 1, 1) := dk_27 (dk_at dksX4_tell_6 3 rfl rfl)
theorem dX4_tell_142 : decode cX4_tell 142 = .ok (.bipush 6, 2) := dk_16 6 (dk_at dksX4_tell_6 4 rfl rfl)
theorem dX4_tell_144 : decode cX4_tell 144 = .ok (.invokestatic 72, 3) := dk_184 0 72 (dk_at dksX4_tell_6 6 rfl rfl)
theorem dX4_tell_147 : decode cX4_tell 147 = .ok (.iaload, 1) := dk_46 (dk_at dksX4_tell_6 9 rfl rfl)
theorem dX4_tell_148 : decode cX4_tell 148 = .ok (.ifCond .le 23, 3) := dk_158 0 23 (dk_at dksX4_tell_6 10 rfl rfl)
theorem dX4_tell_151 : decode cX4_tell 151 = .ok (.aload_n 0, 1) := dk_42 (dk_at dksX4_tell_6 13 rfl rfl)
theorem dX4_tell_152 : decode cX4_tell 152 = .ok (.bipush 33, 2) := dk_16 33 (dk_at dksX4_tell_6 14 rfl rfl)
theorem dX4_tell_154 : decode cX4_tell 154 = .ok (.invokevirtual 191, 3) := dk_182 0 191 (dk_at dksX4_tell_6 16 rfl rfl)
theorem dX4_tell_157 : decode cX4_tell 157 = .ok (.aload_n 0, 1) := dk_42 (dk_at dksX4_tell_6 19 rfl rfl)
theorem dX4_tell_158 : decode cX4_tell 158 = .ok (.aload_n 0, 1) := dk_42 (dk_at dksX4_tell_6 20 rfl rfl)
theorem dX4_tell_159 : decode cX4_tell 159 = .ok (.getfield 7, 3) := dk_180 0 7 (dk_at dksX4_tell_6 21 rfl rfl)
theorem dX4_tell_162 : decode cX4_tell 162 = .ok (.iload_n 1, 1) := dk_27 (dk_at dksX4_tell_7 0 rfl rfl)
theorem dX4_tell_163 : decode cX4_tell 163 = .ok (.iconst 5, 1) := dk_8 (dk_at dksX4_tell_7 1 rfl rfl)
theorem dX4_tell_164 : decode cX4_tell 164 = .ok (.invokestatic 72, 3) := dk_184 0 72 (dk_at dksX4_tell_7 2 rfl rfl)
theorem dX4_tell_167 : decode cX4_tell 167 = .ok (.iaload, 1) := dk_46 (dk_at dksX4_tell_7 5 rfl rfl)
theorem dX4_tell_168 : decode cX4_tell 168 = .ok (.invokevirtual 241, 3) := dk_182 0 241 (dk_at dksX4_tell_7 6 rfl rfl)
theorem dX4_tell_171 : decode cX4_tell 171 = .ok (.aload_n 0, 1) := dk_42 (dk_at dksX4_tell_7 9 rfl rfl)
theorem dX4_tell_172 : decode cX4_tell 172 = .ok (.getfield 188, 3) := dk_180 0 188 (dk_at dksX4_tell_7 10 rfl rfl)
theorem dX4_tell_175 : decode cX4_tell 175 = .ok (.ireturn, 1) := dk_172 (dk_at dksX4_tell_7 13 rfl rfl)
abbrev cX4_writesNumber : ByteArray := prog_16_method_60_code
def yX4_writesNumber : MethodName := ⟨RX4, "writesNumber", "(I)V"⟩
def dkwX4_writesNumber_1 : List UInt8 := [16, 48, 27, 28, 108, 16, 10, 112, 96, 182, 0, 191, 28, 16, 10, 108, 61, 167, 255, 234, 177]
abbrev dktX4_writesNumber_1 : List UInt8 := dkwX4_writesNumber_1 ++ []
def dkwX4_writesNumber_0 : List UInt8 := [4, 61, 27, 28, 108, 16, 10, 161, 0, 11, 28, 16, 10, 104, 61, 167, 255, 243, 28, 158, 0, 24, 42]
abbrev dktX4_writesNumber_0 : List UInt8 := dkwX4_writesNumber_0 ++ dktX4_writesNumber_1
theorem dksX4_writesNumber_0 : cX4_writesNumber.data.toList.drop 0 = dktX4_writesNumber_0 := by decide +kernel
theorem dksX4_writesNumber_1 : cX4_writesNumber.data.toList.drop 23 = dktX4_writesNumber_1 := dk_seg dksX4_writesNumber_0 23 rfl rfl
theorem dX4_writesNumber_0 : decode cX4_writesNumber 0 = .ok (.iconst 1, 1) := dk_4 (dk_at dksX4_writesNumber_0 0 rfl rfl)
theorem dX4_writesNumber_1 : decode cX4_writesNumber 1 = .ok (.istore_n 2, 1) := dk_61 (dk_at dksX4_writesNumber_0 1 rfl rfl)
theorem dX4_writesNumber_2 : decode cX4_writesNumber 2 = .ok (.iload_n 1, 1) := dk_27 (dk_at dksX4_writesNumber_0 2 rfl rfl)
theorem dX4_writesNumber_3 : decode cX4_writesNumber 3 = .ok (.iload_n 2, 1) := dk_28 (dk_at dksX4_writesNumber_0 3 rfl rfl)
theorem dX4_writesNumber_4 : decode cX4_writesNumber 4 = .ok (.idiv, 1) := dk_108 (dk_at dksX4_writesNumber_0 4 rfl rfl)
theorem dX4_writesNumber_5 : decode cX4_writesNumber 5 = .ok (.bipush 10, 2) := dk_16 10 (dk_at dksX4_writesNumber_0 5 rfl rfl)
theorem dX4_writesNumber_7 : decode cX4_writesNumber 7 = .ok (.if_icmp .lt 11, 3) := dk_161 0 11 (dk_at dksX4_writesNumber_0 7 rfl rfl)
theorem dX4_writesNumber_10 : decode cX4_writesNumber 10 = .ok (.iload_n 2, 1) := dk_28 (dk_at dksX4_writesNumber_0 10 rfl rfl)
theorem dX4_writesNumber_11 : decode cX4_writesNumber 11 = .ok (.bipush 10, 2) := dk_16 10 (dk_at dksX4_writesNumber_0 11 rfl rfl)
theorem dX4_writesNumber_13 : decode cX4_writesNumber 13 = .ok (.imul, 1) := dk_104 (dk_at dksX4_writesNumber_0 13 rfl rfl)
theorem dX4_writesNumber_14 : decode cX4_writesNumber 14 = .ok (.istore_n 2, 1) := dk_61 (dk_at dksX4_writesNumber_0 14 rfl rfl)
theorem dX4_writesNumber_15 : decode cX4_writesNumber 15 = .ok (.goto (-13), 3) := dk_167 255 243 (dk_at dksX4_writesNumber_0 15 rfl rfl)
theorem dX4_writesNumber_18 : decode cX4_writesNumber 18 = .ok (.iload_n 2, 1) := dk_28 (dk_at dksX4_writesNumber_0 18 rfl rfl)
theorem dX4_writesNumber_19 : decode cX4_writesNumber 19 = .ok (.ifCond .le 24, 3) := dk_158 0 24 (dk_at dksX4_writesNumber_0 19 rfl rfl)
theorem dX4_writesNumber_22 : decode cX4_writesNumber 22 = .ok (.aload_n 0, 1) := dk_42 (dk_at dksX4_writesNumber_0 22 rfl rfl)
theorem dX4_writesNumber_23 : decode cX4_writesNumber 23 = .ok (.bipush 48, 2) := dk_16 48 (dk_at dksX4_writesNumber_1 0 rfl rfl)
theorem dX4_writesNumber_25 : decode cX4_writesNumber 25 = .ok (.iload_n 1, 1) := dk_27 (dk_at dksX4_writesNumber_1 2 rfl rfl)
theorem dX4_writesNumber_26 : decode cX4_writesNumber 26 = .ok (.iload_n 2, 1) := dk_28 (dk_at dksX4_writesNumber_1 3 rfl rfl)
theorem dX4_writesNumber_27 : decode cX4_writesNumber 27 = .ok (.idiv, 1) := dk_108 (dk_at dksX4_writesNumber_1 4 rfl rfl)
theorem dX4_writesNumber_28 : decode cX4_writesNumber 28 = .ok (.bipush 10, 2) := dk_16 10 (dk_at dksX4_writesNumber_1 5 rfl rfl)
theorem dX4_writesNumber_30 : decode cX4_writesNumber 30 = .ok (.irem, 1) := dk_112 (dk_at dksX4_writesNumber_1 7 rfl rfl)
theorem dX4_writesNumber_31 : decode cX4_writesNumber 31 = .ok (.iadd, 1) := dk_96 (dk_at dksX4_writesNumber_1 8 rfl rfl)
theorem dX4_writesNumber_32 : decode cX4_writesNumber 32 = .ok (.invokevirtual 191, 3) := dk_182 0 191 (dk_at dksX4_writesNumber_1 9 rfl rfl)
theorem dX4_writesNumber_35 : decode cX4_writesNumber 35 = .ok (.iload_n 2, 1) := dk_28 (dk_at dksX4_writesNumber_1 12 rfl rfl)
theorem dX4_writesNumber_36 : decode cX4_writesNumber 36 = .ok (.bipush 10, 2) := dk_16 10 (dk_at dksX4_writesNumber_1 13 rfl rfl)
theorem dX4_writesNumber_38 : decode cX4_writesNumber 38 = .ok (.idiv, 1) := dk_108 (dk_at dksX4_writesNumber_1 15 rfl rfl)
theorem dX4_writesNumber_39 : decode cX4_writesNumber 39 = .ok (.istore_n 2, 1) := dk_61 (dk_at dksX4_writesNumber_1 16 rfl rfl)
theorem dX4_writesNumber_40 : decode cX4_writesNumber 40 = .ok (.goto (-22), 3) := dk_167 255 234 (dk_at dksX4_writesNumber_1 17 rfl rfl)
theorem dX4_writesNumber_43 : decode cX4_writesNumber 43 = .ok (.return_, 1) := dk_177 (dk_at dksX4_writesNumber_1 20 rfl rfl)
abbrev cX4_writes : ByteArray := prog_16_method_59_code
def yX4_writes : MethodName := ⟨RX4, "writes", "(I)V"⟩
def dkwX4_writes_0 : List UInt8 := [42, 180, 0, 34, 42, 180, 0, 188, 27, 79, 42, 89, 180, 0, 188, 4, 96, 181, 0, 188, 177]
abbrev dktX4_writes_0 : List UInt8 := dkwX4_writes_0 ++ []
theorem dksX4_writes_0 : cX4_writes.data.toList.drop 0 = dktX4_writes_0 := by decide +kernel
theorem dX4_writes_0 : decode cX4_writes 0 = .ok (.aload_n 0, 1) := dk_42 (dk_at dksX4_writes_0 0 rfl rfl)
theorem dX4_writes_1 : decode cX4_writes 1 = .ok (.getfield 34, 3) := dk_180 0 34 (dk_at dksX4_writes_0 1 rfl rfl)
theorem dX4_writes_4 : decode cX4_writes 4 = .ok (.aload_n 0, 1) := dk_42 (dk_at dksX4_writes_0 4 rfl rfl)
theorem dX4_writes_5 : decode cX4_writes 5 = .ok (.getfield 188, 3) := dk_180 0 188 (dk_at dksX4_writes_0 5 rfl rfl)
theorem dX4_writes_8 : decode cX4_writes 8 = .ok (.iload_n 1, 1) := dk_27 (dk_at dksX4_writes_0 8 rfl rfl)
theorem dX4_writes_9 : decode cX4_writes 9 = .ok (.iastore, 1) := dk_79 (dk_at dksX4_writes_0 9 rfl rfl)
theorem dX4_writes_10 : decode cX4_writes 10 = .ok (.aload_n 0, 1) := dk_42 (dk_at dksX4_writes_0 10 rfl rfl)
theorem dX4_writes_11 : decode cX4_writes 11 = .ok (.dup, 1) := dk_89 (dk_at dksX4_writes_0 11 rfl rfl)
theorem dX4_writes_12 : decode cX4_writes 12 = .ok (.getfield 188, 3) := dk_180 0 188 (dk_at dksX4_writes_0 12 rfl rfl)
theorem dX4_writes_15 : decode cX4_writes 15 = .ok (.iconst 1, 1) := dk_4 (dk_at dksX4_writes_0 15 rfl rfl)
theorem dX4_writes_16 : decode cX4_writes 16 = .ok (.iadd, 1) := dk_96 (dk_at dksX4_writes_0 16 rfl rfl)
theorem dX4_writes_17 : decode cX4_writes 17 = .ok (.putfield 188, 3) := dk_181 0 188 (dk_at dksX4_writes_0 17 rfl rfl)
theorem dX4_writes_20 : decode cX4_writes 20 = .ok (.return_, 1) := dk_177 (dk_at dksX4_writes_0 20 rfl rfl)
abbrev cX4_tellHouses : ByteArray := prog_16_method_73_code
def yX4_tellHouses : MethodName := ⟨RX4, "tellHouses", "()I"⟩
def dkwX4_tellHouses_4 : List UInt8 := [167, 255, 170, 42, 180, 0, 188, 172]
abbrev dktX4_tellHouses_4 : List UInt8 := dkwX4_tellHouses_4 ++ []
def dkwX4_tellHouses_3 : List UInt8 := [16, 43, 182, 0, 191, 42, 42, 180, 0, 7, 27, 6, 184, 0, 37, 46, 182, 0, 241, 132, 1, 1]
abbrev dktX4_tellHouses_3 : List UInt8 := dkwX4_tellHouses_3 ++ dktX4_tellHouses_4
def dkwX4_tellHouses_2 : List UInt8 := [184, 0, 37, 46, 182, 0, 241, 42, 180, 0, 7, 27, 6, 184, 0, 37, 46, 154, 0, 6, 167, 0, 23, 42]
abbrev dktX4_tellHouses_2 : List UInt8 := dkwX4_tellHouses_2 ++ dktX4_tellHouses_3
def dkwX4_tellHouses_1 : List UInt8 := [27, 182, 0, 89, 154, 0, 12, 42, 16, 120, 182, 0, 191, 167, 0, 53, 42, 42, 180, 0, 7, 27, 5]
abbrev dktX4_tellHouses_1 : List UInt8 := dkwX4_tellHouses_1 ++ dktX4_tellHouses_2
def dkwX4_tellHouses_0 : List UInt8 := [42, 3, 181, 0, 188, 3, 60, 27, 16, 6, 162, 0, 86, 27, 158, 0, 9, 42, 16, 32, 182, 0, 191, 42]
abbrev dktX4_tellHouses_0 : List UInt8 := dkwX4_tellHouses_0 ++ dktX4_tellHouses_1
theorem dksX4_tellHouses_0 : cX4_tellHouses.data.toList.drop 0 = dktX4_tellHouses_0 := by decide +kernel
theorem dksX4_tellHouses_1 : cX4_tellHouses.data.toList.drop 24 = dktX4_tellHouses_1 := dk_seg dksX4_tellHouses_0 24 rfl rfl
theorem dksX4_tellHouses_2 : cX4_tellHouses.data.toList.drop 47 = dktX4_tellHouses_2 := dk_seg dksX4_tellHouses_1 23 rfl rfl
theorem dksX4_tellHouses_3 : cX4_tellHouses.data.toList.drop 71 = dktX4_tellHouses_3 := dk_seg dksX4_tellHouses_2 24 rfl rfl
theorem dksX4_tellHouses_4 : cX4_tellHouses.data.toList.drop 93 = dktX4_tellHouses_4 := dk_seg dksX4_tellHouses_3 22 rfl rfl
theorem dX4_tellHouses_0 : decode cX4_tellHouses 0 = .ok (.aload_n 0, 1) := dk_42 (dk_at dksX4_tellHouses_0 0 rfl rfl)
theorem dX4_tellHouses_1 : decode cX4_tellHouses 1 = .ok (.iconst 0, 1) := dk_3 (dk_at dksX4_tellHouses_0 1 rfl rfl)
theorem dX4_tellHouses_2 : decode cX4_tellHouses 2 = .ok (.putfield 188, 3) := dk_181 0 188 (dk_at dksX4_tellHouses_0 2 rfl rfl)
theorem dX4_tellHouses_5 : decode cX4_tellHouses 5 = .ok (.iconst 0, 1) := dk_3 (dk_at dksX4_tellHouses_0 5 rfl rfl)
theorem dX4_tellHouses_6 : decode cX4_tellHouses 6 = .ok (.istore_n 1, 1) := dk_60 (dk_at dksX4_tellHouses_0 6 rfl rfl)
theorem dX4_tellHouses_7 : decode cX4_tellHouses 7 = .ok (.iload_n 1, 1) := dk_27 (dk_at dksX4_tellHouses_0 7 rfl rfl)
theorem dX4_tellHouses_8 : decode cX4_tellHouses 8 = .ok (.bipush 6, 2) := dk_16 6 (dk_at dksX4_tellHouses_0 8 rfl rfl)
theorem dX4_tellHouses_10 : decode cX4_tellHouses 10 = .ok (.if_icmp .ge 86, 3) := dk_162 0 86 (dk_at dksX4_tellHouses_0 10 rfl rfl)
theorem dX4_tellHouses_13 : decode cX4_tellHouses 13 = .ok (.iload_n 1, 1) := dk_27 (dk_at dksX4_tellHouses_0 13 rfl rfl)
theorem dX4_tellHouses_14 : decode cX4_tellHouses 14 = .ok (.ifCond .le 9, 3) := dk_158 0 9 (dk_at dksX4_tellHouses_0 14 rfl rfl)
theorem dX4_tellHouses_17 : decode cX4_tellHouses 17 = .ok (.aload_n 0, 1) := dk_42 (dk_at dksX4_tellHouses_0 17 rfl rfl)
theorem dX4_tellHouses_18 : decode cX4_tellHouses 18 = .ok (.bipush 32, 2) := dk_16 32 (dk_at dksX4_tellHouses_0 18 rfl rfl)
theorem dX4_tellHouses_20 : decode cX4_tellHouses 20 = .ok (.invokevirtual 191, 3) := dk_182 0 191 (dk_at dksX4_tellHouses_0 20 rfl rfl)
theorem dX4_tellHouses_23 : decode cX4_tellHouses 23 = .ok (.aload_n 0, 1) := dk_42 (dk_at dksX4_tellHouses_0 23 rfl rfl)
theorem dX4_tellHouses_24 : decode cX4_tellHouses 24 = .ok (.iload_n 1, 1) := dk_27 (dk_at dksX4_tellHouses_1 0 rfl rfl)
theorem dX4_tellHouses_25 : decode cX4_tellHouses 25 = .ok (.invokevirtual 89, 3) := dk_182 0 89 (dk_at dksX4_tellHouses_1 1 rfl rfl)
theorem dX4_tellHouses_28 : decode cX4_tellHouses 28 = .ok (.ifCond .ne 12, 3) := dk_154 0 12 (dk_at dksX4_tellHouses_1 4 rfl rfl)
theorem dX4_tellHouses_31 : decode cX4_tellHouses 31 = .ok (.aload_n 0, 1) := dk_42 (dk_at dksX4_tellHouses_1 7 rfl rfl)
theorem dX4_tellHouses_32 : decode cX4_tellHouses 32 = .ok (.bipush 120, 2) := dk_16 120 (dk_at dksX4_tellHouses_1 8 rfl rfl)
theorem dX4_tellHouses_34 : decode cX4_tellHouses 34 = .ok (.invokevirtual 191, 3) := dk_182 0 191 (dk_at dksX4_tellHouses_1 10 rfl rfl)
theorem dX4_tellHouses_37 : decode cX4_tellHouses 37 = .ok (.goto 53, 3) := dk_167 0 53 (dk_at dksX4_tellHouses_1 13 rfl rfl)
theorem dX4_tellHouses_40 : decode cX4_tellHouses 40 = .ok (.aload_n 0, 1) := dk_42 (dk_at dksX4_tellHouses_1 16 rfl rfl)
theorem dX4_tellHouses_41 : decode cX4_tellHouses 41 = .ok (.aload_n 0, 1) := dk_42 (dk_at dksX4_tellHouses_1 17 rfl rfl)
theorem dX4_tellHouses_42 : decode cX4_tellHouses 42 = .ok (.getfield 7, 3) := dk_180 0 7 (dk_at dksX4_tellHouses_1 18 rfl rfl)
theorem dX4_tellHouses_45 : decode cX4_tellHouses 45 = .ok (.iload_n 1, 1) := dk_27 (dk_at dksX4_tellHouses_1 21 rfl rfl)
theorem dX4_tellHouses_46 : decode cX4_tellHouses 46 = .ok (.iconst 2, 1) := dk_5 (dk_at dksX4_tellHouses_1 22 rfl rfl)
theorem dX4_tellHouses_47 : decode cX4_tellHouses 47 = .ok (.invokestatic 37, 3) := dk_184 0 37 (dk_at dksX4_tellHouses_2 0 rfl rfl)
theorem dX4_tellHouses_50 : decode cX4_tellHouses 50 = .ok (.iaload, 1) := dk_46 (dk_at dksX4_tellHouses_2 3 rfl rfl)
theorem dX4_tellHouses_51 : decode cX4_tellHouses 51 = .ok (.invokevirtual 241, 3) := dk_182 0 241 (dk_at dksX4_tellHouses_2 4 rfl rfl)
theorem dX4_tellHouses_54 : decode cX4_tellHouses 54 = .ok (.aload_n 0, 1) := dk_42 (dk_at dksX4_tellHouses_2 7 rfl rfl)
theorem dX4_tellHouses_55 : decode cX4_tellHouses 55 = .ok (.getfield 7, 3) := dk_180 0 7 (dk_at dksX4_tellHouses_2 8 rfl rfl)
theorem dX4_tellHouses_58 : decode cX4_tellHouses 58 = .ok (.iload_n 1, 1) := dk_27 (dk_at dksX4_tellHouses_2 11 rfl rfl)
theorem dX4_tellHouses_59 : decode cX4_tellHouses 59 = .ok (.iconst 3, 1) := dk_6 (dk_at dksX4_tellHouses_2 12 rfl rfl)
theorem dX4_tellHouses_60 : decode cX4_tellHouses 60 = .ok (.invokestatic 37, 3) := dk_184 0 37 (dk_at dksX4_tellHouses_2 13 rfl rfl)
theorem dX4_tellHouses_63 : decode cX4_tellHouses 63 = .ok (.iaload, 1) := dk_46 (dk_at dksX4_tellHouses_2 16 rfl rfl)
theorem dX4_tellHouses_64 : decode cX4_tellHouses 64 = .ok (.ifCond .ne 6, 3) := dk_154 0 6 (dk_at dksX4_tellHouses_2 17 rfl rfl)
theorem dX4_tellHouses_67 : decode cX4_tellHouses 67 = .ok (.goto 23, 3) := dk_167 0 23 (dk_at dksX4_tellHouses_2 20 rfl rfl)
theorem dX4_tellHouses_70 : decode cX4_tellHouses 70 = .ok (.aload_n 0, 1) := dk_42 (dk_at dksX4_tellHouses_2 23 rfl rfl)
theorem dX4_tellHouses_71 : decode cX4_tellHouses 71 = .ok (.bipush 43, 2) := dk_16 43 (dk_at dksX4_tellHouses_3 0 rfl rfl)
theorem dX4_tellHouses_73 : decode cX4_tellHouses 73 = .ok (.invokevirtual 191, 3) := dk_182 0 191 (dk_at dksX4_tellHouses_3 2 rfl rfl)
theorem dX4_tellHouses_76 : decode cX4_tellHouses 76 = .ok (.aload_n 0, 1) := dk_42 (dk_at dksX4_tellHouses_3 5 rfl rfl)
theorem dX4_tellHouses_77 : decode cX4_tellHouses 77 = .ok (.aload_n 0, 1) := dk_42 (dk_at dksX4_tellHouses_3 6 rfl rfl)
theorem dX4_tellHouses_78 : decode cX4_tellHouses 78 = .ok (.getfield 7, 3) := dk_180 0 7 (dk_at dksX4_tellHouses_3 7 rfl rfl)
theorem dX4_tellHouses_81 : decode cX4_tellHouses 81 = .ok (.iload_n 1, 1) := dk_27 (dk_at dksX4_tellHouses_3 10 rfl rfl)
theorem dX4_tellHouses_82 : decode cX4_tellHouses 82 = .ok (.iconst 3, 1) := dk_6 (dk_at dksX4_tellHouses_3 11 rfl rfl)
theorem dX4_tellHouses_83 : decode cX4_tellHouses 83 = .ok (.invokestatic 37, 3) := dk_184 0 37 (dk_at dksX4_tellHouses_3 12 rfl rfl)
theorem dX4_tellHouses_86 : decode cX4_tellHouses 86 = .ok (.iaload, 1) := dk_46 (dk_at dksX4_tellHouses_3 15 rfl rfl)
theorem dX4_tellHouses_87 : decode cX4_tellHouses 87 = .ok (.invokevirtual 241, 3) := dk_182 0 241 (dk_at dksX4_tellHouses_3 16 rfl rfl)
theorem dX4_tellHouses_90 : decode cX4_tellHouses 90 = .ok (.iinc 1 1, 3) := dk_132 1 1 (dk_at dksX4_tellHouses_3 19 rfl rfl)
theorem dX4_tellHouses_93 : decode cX4_tellHouses 93 = .ok (.goto (-86), 3) := dk_167 255 170 (dk_at dksX4_tellHouses_4 0 rfl rfl)
theorem dX4_tellHouses_96 : decode cX4_tellHouses 96 = .ok (.aload_n 0, 1) := dk_42 (dk_at dksX4_tellHouses_4 3 rfl rfl)
theorem dX4_tellHouses_97 : decode cX4_tellHouses 97 = .ok (.getfield 188, 3) := dk_180 0 188 (dk_at dksX4_tellHouses_4 4 rfl rfl)
theorem dX4_tellHouses_100 : decode cX4_tellHouses 100 = .ok (.ireturn, 1) := dk_172 (dk_at dksX4_tellHouses_4 7 rfl rfl)
abbrev cX4_character : ByteArray := prog_16_method_74_code
def yX4_character : MethodName := ⟨RX4, "character", "(I)I"⟩
def dkwX4_character_1 : List UInt8 := [17, 252, 13, 172]
abbrev dktX4_character_1 : List UInt8 := dkwX4_character_1 ++ []
def dkwX4_character_0 : List UInt8 := [27, 3, 42, 180, 0, 188, 4, 100, 184, 0, 68, 153, 0, 12, 42, 180, 0, 34, 27, 46, 167, 0, 6]
abbrev dktX4_character_0 : List UInt8 := dkwX4_character_0 ++ dktX4_character_1
theorem dksX4_character_0 : cX4_character.data.toList.drop 0 = dktX4_character_0 := by decide +kernel
theorem dksX4_character_1 : cX4_character.data.toList.drop 23 = dktX4_character_1 := dk_seg dksX4_character_0 23 rfl rfl
theorem dX4_character_0 : decode cX4_character 0 = .ok (.iload_n 1, 1) := dk_27 (dk_at dksX4_character_0 0 rfl rfl)
theorem dX4_character_1 : decode cX4_character 1 = .ok (.iconst 0, 1) := dk_3 (dk_at dksX4_character_0 1 rfl rfl)
theorem dX4_character_2 : decode cX4_character 2 = .ok (.aload_n 0, 1) := dk_42 (dk_at dksX4_character_0 2 rfl rfl)
theorem dX4_character_3 : decode cX4_character 3 = .ok (.getfield 188, 3) := dk_180 0 188 (dk_at dksX4_character_0 3 rfl rfl)
theorem dX4_character_6 : decode cX4_character 6 = .ok (.iconst 1, 1) := dk_4 (dk_at dksX4_character_0 6 rfl rfl)
theorem dX4_character_7 : decode cX4_character 7 = .ok (.isub, 1) := dk_100 (dk_at dksX4_character_0 7 rfl rfl)
theorem dX4_character_8 : decode cX4_character 8 = .ok (.invokestatic 68, 3) := dk_184 0 68 (dk_at dksX4_character_0 8 rfl rfl)
theorem dX4_character_11 : decode cX4_character 11 = .ok (.ifCond .eq 12, 3) := dk_153 0 12 (dk_at dksX4_character_0 11 rfl rfl)
theorem dX4_character_14 : decode cX4_character 14 = .ok (.aload_n 0, 1) := dk_42 (dk_at dksX4_character_0 14 rfl rfl)
theorem dX4_character_15 : decode cX4_character 15 = .ok (.getfield 34, 3) := dk_180 0 34 (dk_at dksX4_character_0 15 rfl rfl)
theorem dX4_character_18 : decode cX4_character 18 = .ok (.iload_n 1, 1) := dk_27 (dk_at dksX4_character_0 18 rfl rfl)
theorem dX4_character_19 : decode cX4_character 19 = .ok (.iaload, 1) := dk_46 (dk_at dksX4_character_0 19 rfl rfl)
theorem dX4_character_20 : decode cX4_character 20 = .ok (.goto 6, 3) := dk_167 0 6 (dk_at dksX4_character_0 20 rfl rfl)
theorem dX4_character_23 : decode cX4_character 23 = .ok (.sipush (-1011), 3) := dk_17 252 13 (dk_at dksX4_character_1 0 rfl rfl)
theorem dX4_character_26 : decode cX4_character 26 = .ok (.ireturn, 1) := dk_172 (dk_at dksX4_character_1 3 rfl rfl)
abbrev cX4_reason : ByteArray := prog_16_method_75_code
def yX4_reason : MethodName := ⟨RX4, "reason", "(IZ)I"⟩
def dkwX4_reason_3 : List UInt8 := [160, 0, 10, 42, 180, 0, 105, 167, 0, 7, 42, 180, 0, 232, 172]
abbrev dktX4_reason_3 : List UInt8 := dkwX4_reason_3 ++ []
def dkwX4_reason_2 : List UInt8 := [172, 28, 154, 0, 7, 29, 167, 0, 30, 27, 154, 0, 10, 42, 180, 0, 48, 167, 0, 19, 27, 4]
abbrev dktX4_reason_2 : List UInt8 := dkwX4_reason_2 ++ dktX4_reason_3
def dkwX4_reason_1 : List UInt8 := [27, 4, 160, 0, 10, 42, 180, 0, 51, 167, 0, 7, 42, 180, 0, 54, 62, 29, 154, 0, 7, 17, 252, 9]
abbrev dktX4_reason_1 : List UInt8 := dkwX4_reason_1 ++ dktX4_reason_2
def dkwX4_reason_0 : List UInt8 := [27, 3, 5, 184, 0, 68, 154, 0, 7, 17, 252, 12, 172, 27, 154, 0, 10, 42, 180, 0, 45, 167, 0, 19]
abbrev dktX4_reason_0 : List UInt8 := dkwX4_reason_0 ++ dktX4_reason_1
theorem dksX4_reason_0 : cX4_reason.data.toList.drop 0 = dktX4_reason_0 := by decide +kernel
theorem dksX4_reason_1 : cX4_reason.data.toList.drop 24 = dktX4_reason_1 := dk_seg dksX4_reason_0 24 rfl rfl
theorem dksX4_reason_2 : cX4_reason.data.toList.drop 48 = dktX4_reason_2 := dk_seg dksX4_reason_1 24 rfl rfl
theorem dksX4_reason_3 : cX4_reason.data.toList.drop 70 = dktX4_reason_3 := dk_seg dksX4_reason_2 22 rfl rfl
theorem dX4_reason_0 : decode cX4_reason 0 = .ok (.iload_n 1, 1) := dk_27 (dk_at dksX4_reason_0 0 rfl rfl)
theorem dX4_reason_1 : decode cX4_reason 1 = .ok (.iconst 0, 1) := dk_3 (dk_at dksX4_reason_0 1 rfl rfl)
theorem dX4_reason_2 : decode cX4_reason 2 = .ok (.iconst 2, 1) := dk_5 (dk_at dksX4_reason_0 2 rfl rfl)
theorem dX4_reason_3 : decode cX4_reason 3 = .ok (.invokestatic 68, 3) := dk_184 0 68 (dk_at dksX4_reason_0 3 rfl rfl)
theorem dX4_reason_6 : decode cX4_reason 6 = .ok (.ifCond .ne 7, 3) := dk_154 0 7 (dk_at dksX4_reason_0 6 rfl rfl)
theorem dX4_reason_9 : decode cX4_reason 9 = .ok (.sipush (-1012), 3) := dk_17 252 12 (dk_at dksX4_reason_0 9 rfl rfl)
theorem dX4_reason_12 : decode cX4_reason 12 = .ok (.ireturn, 1) := dk_172 (dk_at dksX4_reason_0 12 rfl rfl)
theorem dX4_reason_13 : decode cX4_reason 13 = .ok (.iload_n 1, 1) := dk_27 (dk_at dksX4_reason_0 13 rfl rfl)
theorem dX4_reason_14 : decode cX4_reason 14 = .ok (.ifCond .ne 10, 3) := dk_154 0 10 (dk_at dksX4_reason_0 14 rfl rfl)
theorem dX4_reason_17 : decode cX4_reason 17 = .ok (.aload_n 0, 1) := dk_42 (dk_at dksX4_reason_0 17 rfl rfl)
theorem dX4_reason_18 : decode cX4_reason 18 = .ok (.getfield 45, 3) := dk_180 0 45 (dk_at dksX4_reason_0 18 rfl rfl)
theorem dX4_reason_21 : decode cX4_reason 21 = .ok (.goto 19, 3) := dk_167 0 19 (dk_at dksX4_reason_0 21 rfl rfl)
theorem dX4_reason_24 : decode cX4_reason 24 = .ok (.iload_n 1, 1) := dk_27 (dk_at dksX4_reason_1 0 rfl rfl)
theorem dX4_reason_25 : decode cX4_reason 25 = .ok (.iconst 1, 1) := dk_4 (dk_at dksX4_reason_1 1 rfl rfl)
theorem dX4_reason_26 : decode cX4_reason 26 = .ok (.if_icmp .ne 10, 3) := dk_160 0 10 (dk_at dksX4_reason_1 2 rfl rfl)
theorem dX4_reason_29 : decode cX4_reason 29 = .ok (.aload_n 0, 1) := dk_42 (dk_at dksX4_reason_1 5 rfl rfl)
theorem dX4_reason_30 : decode cX4_reason 30 = .ok (.getfield 51, 3) := dk_180 0 51 (dk_at dksX4_reason_1 6 rfl rfl)
theorem dX4_reason_33 : decode cX4_reason 33 = .ok (.goto 7, 3) := dk_167 0 7 (dk_at dksX4_reason_1 9 rfl rfl)
theorem dX4_reason_36 : decode cX4_reason 36 = .ok (.aload_n 0, 1) := dk_42 (dk_at dksX4_reason_1 12 rfl rfl)
theorem dX4_reason_37 : decode cX4_reason 37 = .ok (.getfield 54, 3) := dk_180 0 54 (dk_at dksX4_reason_1 13 rfl rfl)
theorem dX4_reason_40 : decode cX4_reason 40 = .ok (.istore_n 3, 1) := dk_62 (dk_at dksX4_reason_1 16 rfl rfl)
theorem dX4_reason_41 : decode cX4_reason 41 = .ok (.iload_n 3, 1) := dk_29 (dk_at dksX4_reason_1 17 rfl rfl)
theorem dX4_reason_42 : decode cX4_reason 42 = .ok (.ifCond .ne 7, 3) := dk_154 0 7 (dk_at dksX4_reason_1 18 rfl rfl)
theorem dX4_reason_45 : decode cX4_reason 45 = .ok (.sipush (-1015), 3) := dk_17 252 9 (dk_at dksX4_reason_1 21 rfl rfl)
theorem dX4_reason_48 : decode cX4_reason 48 = .ok (.ireturn, 1) := dk_172 (dk_at dksX4_reason_2 0 rfl rfl)
theorem dX4_reason_49 : decode cX4_reason 49 = .ok (.iload_n 2, 1) := dk_28 (dk_at dksX4_reason_2 1 rfl rfl)
theorem dX4_reason_50 : decode cX4_reason 50 = .ok (.ifCond .ne 7, 3) := dk_154 0 7 (dk_at dksX4_reason_2 2 rfl rfl)
theorem dX4_reason_53 : decode cX4_reason 53 = .ok (.iload_n 3, 1) := dk_29 (dk_at dksX4_reason_2 5 rfl rfl)
theorem dX4_reason_54 : decode cX4_reason 54 = .ok (.goto 30, 3) := dk_167 0 30 (dk_at dksX4_reason_2 6 rfl rfl)
theorem dX4_reason_57 : decode cX4_reason 57 = .ok (.iload_n 1, 1) := dk_27 (dk_at dksX4_reason_2 9 rfl rfl)
theorem dX4_reason_58 : decode cX4_reason 58 = .ok (.ifCond .ne 10, 3) := dk_154 0 10 (dk_at dksX4_reason_2 10 rfl rfl)
theorem dX4_reason_61 : decode cX4_reason 61 = .ok (.aload_n 0, 1) := dk_42 (dk_at dksX4_reason_2 13 rfl rfl)
theorem dX4_reason_62 : decode cX4_reason 62 = .ok (.getfield 48, 3) := dk_180 0 48 (dk_at dksX4_reason_2 14 rfl rfl)
theorem dX4_reason_65 : decode cX4_reason 65 = .ok (.goto 19, 3) := dk_167 0 19 (dk_at dksX4_reason_2 17 rfl rfl)
theorem dX4_reason_68 : decode cX4_reason 68 = .ok (.iload_n 1, 1) := dk_27 (dk_at dksX4_reason_2 20 rfl rfl)
theorem dX4_reason_69 : decode cX4_reason 69 = .ok (.iconst 1, 1) := dk_4 (dk_at dksX4_reason_2 21 rfl rfl)
theorem dX4_reason_70 : decode cX4_reason 70 = .ok (.if_icmp .ne 10, 3) := dk_160 0 10 (dk_at dksX4_reason_3 0 rfl rfl)
theorem dX4_reason_73 : decode cX4_reason 73 = .ok (.aload_n 0, 1) := dk_42 (dk_at dksX4_reason_3 3 rfl rfl)
theorem dX4_reason_74 : decode cX4_reason 74 = .ok (.getfield 105, 3) := dk_180 0 105 (dk_at dksX4_reason_3 4 rfl rfl)
theorem dX4_reason_77 : decode cX4_reason 77 = .ok (.goto 7, 3) := dk_167 0 7 (dk_at dksX4_reason_3 7 rfl rfl)
theorem dX4_reason_80 : decode cX4_reason 80 = .ok (.aload_n 0, 1) := dk_42 (dk_at dksX4_reason_3 10 rfl rfl)
theorem dX4_reason_81 : decode cX4_reason 81 = .ok (.getfield 232, 3) := dk_180 0 232 (dk_at dksX4_reason_3 11 rfl rfl)
theorem dX4_reason_84 : decode cX4_reason 84 = .ok (.ireturn, 1) := dk_172 (dk_at dksX4_reason_3 14 rfl rfl)
abbrev cX4_account : ByteArray := prog_16_method_78_code
def yX4_account : MethodName := ⟨RX4, "account", "(I)I"⟩
def dkwX4_account_4 : List UInt8 := [172, 42, 180, 0, 7, 8, 46, 172, 42, 180, 0, 194, 172, 42, 180, 0, 65, 172, 17, 252, 12, 172]
abbrev dktX4_account_4 : List UInt8 := dkwX4_account_4 ++ []
def dkwX4_account_3 : List UInt8 := [42, 182, 0, 247, 172, 42, 182, 0, 133, 172, 42, 180, 0, 7, 27, 8, 100, 46, 172, 42, 7, 182, 0, 244]
abbrev dktX4_account_3 : List UInt8 := dkwX4_account_3 ++ dktX4_account_4
def dkwX4_account_2 : List UInt8 := [42, 180, 0, 7, 3, 46, 172, 42, 182, 0, 161, 172, 42, 2, 182, 0, 127, 172, 42, 4, 182, 0, 244, 172]
abbrev dktX4_account_2 : List UInt8 := dkwX4_account_2 ++ dktX4_account_3
def dkwX4_account_1 : List UInt8 := [170, 0, 0, 0, 0, 0, 137, 0, 0, 0, 0, 0, 0, 0, 13, 0, 0, 0, 71, 0, 0, 0, 78, 0, 0, 0, 83, 0, 0, 0, 89, 0, 0, 0, 95, 0, 0, 0, 100, 0, 0, 0, 105, 0, 0, 0, 105, 0, 0, 0, 105, 0, 0, 0, 105, 0, 0, 0, 114, 0, 0, 0, 120, 0, 0, 0, 127, 0, 0, 0, 132]
abbrev dktX4_account_1 : List UInt8 := dkwX4_account_1 ++ dktX4_account_2
def dkwX4_account_0 : List UInt8 := [27]
abbrev dktX4_account_0 : List UInt8 := dkwX4_account_0 ++ dktX4_account_1
theorem dksX4_account_0 : cX4_account.data.toList.drop 0 = dktX4_account_0 := by decide +kernel
theorem dksX4_account_1 : cX4_account.data.toList.drop 1 = dktX4_account_1 := dk_seg dksX4_account_0 1 rfl rfl
theorem dksX4_account_2 : cX4_account.data.toList.drop 72 = dktX4_account_2 := dk_seg dksX4_account_1 71 rfl rfl
theorem dksX4_account_3 : cX4_account.data.toList.drop 96 = dktX4_account_3 := dk_seg dksX4_account_2 24 rfl rfl
theorem dksX4_account_4 : cX4_account.data.toList.drop 120 = dktX4_account_4 := dk_seg dksX4_account_3 24 rfl rfl
theorem dX4_account_0 : decode cX4_account 0 = .ok (.iload_n 1, 1) := dk_27 (dk_at dksX4_account_0 0 rfl rfl)
theorem dX4_account_1 : decode cX4_account 1 = .ok (.tableswitch 137 0 13 #[71, 78, 83, 89, 95, 100, 105, 105, 105, 105, 114, 120, 127, 132], 71) := by decide +kernel
theorem dX4_account_72 : decode cX4_account 72 = .ok (.aload_n 0, 1) := dk_42 (dk_at dksX4_account_2 0 rfl rfl)
theorem dX4_account_73 : decode cX4_account 73 = .ok (.getfield 7, 3) := dk_180 0 7 (dk_at dksX4_account_2 1 rfl rfl)
theorem dX4_account_76 : decode cX4_account 76 = .ok (.iconst 0, 1) := dk_3 (dk_at dksX4_account_2 4 rfl rfl)
theorem dX4_account_77 : decode cX4_account 77 = .ok (.iaload, 1) := dk_46 (dk_at dksX4_account_2 5 rfl rfl)
theorem dX4_account_78 : decode cX4_account 78 = .ok (.ireturn, 1) := dk_172 (dk_at dksX4_account_2 6 rfl rfl)
theorem dX4_account_79 : decode cX4_account 79 = .ok (.aload_n 0, 1) := dk_42 (dk_at dksX4_account_2 7 rfl rfl)
theorem dX4_account_80 : decode cX4_account 80 = .ok (.invokevirtual 161, 3) := dk_182 0 161 (dk_at dksX4_account_2 8 rfl rfl)
theorem dX4_account_83 : decode cX4_account 83 = .ok (.ireturn, 1) := dk_172 (dk_at dksX4_account_2 11 rfl rfl)
theorem dX4_account_84 : decode cX4_account 84 = .ok (.aload_n 0, 1) := dk_42 (dk_at dksX4_account_2 12 rfl rfl)
theorem dX4_account_85 : decode cX4_account 85 = .ok (.iconst (-1), 1) := dk_2 (dk_at dksX4_account_2 13 rfl rfl)
theorem dX4_account_86 : decode cX4_account 86 = .ok (.invokevirtual 127, 3) := dk_182 0 127 (dk_at dksX4_account_2 14 rfl rfl)
theorem dX4_account_89 : decode cX4_account 89 = .ok (.ireturn, 1) := dk_172 (dk_at dksX4_account_2 17 rfl rfl)
theorem dX4_account_90 : decode cX4_account 90 = .ok (.aload_n 0, 1) := dk_42 (dk_at dksX4_account_2 18 rfl rfl)
theorem dX4_account_91 : decode cX4_account 91 = .ok (.iconst 1, 1) := dk_4 (dk_at dksX4_account_2 19 rfl rfl)
theorem dX4_account_92 : decode cX4_account 92 = .ok (.invokevirtual 244, 3) := dk_182 0 244 (dk_at dksX4_account_2 20 rfl rfl)
theorem dX4_account_95 : decode cX4_account 95 = .ok (.ireturn, 1) := dk_172 (dk_at dksX4_account_2 23 rfl rfl)
theorem dX4_account_96 : decode cX4_account 96 = .ok (.aload_n 0, 1) := dk_42 (dk_at dksX4_account_3 0 rfl rfl)
theorem dX4_account_97 : decode cX4_account 97 = .ok (.invokevirtual 247, 3) := dk_182 0 247 (dk_at dksX4_account_3 1 rfl rfl)
theorem dX4_account_100 : decode cX4_account 100 = .ok (.ireturn, 1) := dk_172 (dk_at dksX4_account_3 4 rfl rfl)
theorem dX4_account_101 : decode cX4_account 101 = .ok (.aload_n 0, 1) := dk_42 (dk_at dksX4_account_3 5 rfl rfl)
theorem dX4_account_102 : decode cX4_account 102 = .ok (.invokevirtual 133, 3) := dk_182 0 133 (dk_at dksX4_account_3 6 rfl rfl)
theorem dX4_account_105 : decode cX4_account 105 = .ok (.ireturn, 1) := dk_172 (dk_at dksX4_account_3 9 rfl rfl)
theorem dX4_account_106 : decode cX4_account 106 = .ok (.aload_n 0, 1) := dk_42 (dk_at dksX4_account_3 10 rfl rfl)
theorem dX4_account_107 : decode cX4_account 107 = .ok (.getfield 7, 3) := dk_180 0 7 (dk_at dksX4_account_3 11 rfl rfl)
theorem dX4_account_110 : decode cX4_account 110 = .ok (.iload_n 1, 1) := dk_27 (dk_at dksX4_account_3 14 rfl rfl)
theorem dX4_account_111 : decode cX4_account 111 = .ok (.iconst 5, 1) := dk_8 (dk_at dksX4_account_3 15 rfl rfl)
theorem dX4_account_112 : decode cX4_account 112 = .ok (.isub, 1) := dk_100 (dk_at dksX4_account_3 16 rfl rfl)
theorem dX4_account_113 : decode cX4_account 113 = .ok (.iaload, 1) := dk_46 (dk_at dksX4_account_3 17 rfl rfl)
theorem dX4_account_114 : decode cX4_account 114 = .ok (.ireturn, 1) := dk_172 (dk_at dksX4_account_3 18 rfl rfl)
theorem dX4_account_115 : decode cX4_account 115 = .ok (.aload_n 0, 1) := dk_42 (dk_at dksX4_account_3 19 rfl rfl)
theorem dX4_account_116 : decode cX4_account 116 = .ok (.iconst 4, 1) := dk_7 (dk_at dksX4_account_3 20 rfl rfl)
theorem dX4_account_117 : decode cX4_account 117 = .ok (.invokevirtual 244, 3) := dk_182 0 244 (dk_at dksX4_account_3 21 rfl rfl)
theorem dX4_account_120 : decode cX4_account 120 = .ok (.ireturn, 1) := dk_172 (dk_at dksX4_account_4 0 rfl rfl)
theorem dX4_account_121 : decode cX4_account 121 = .ok (.aload_n 0, 1) := dk_42 (dk_at dksX4_account_4 1 rfl rfl)
theorem dX4_account_122 : decode cX4_account 122 = .ok (.getfield 7, 3) := dk_180 0 7 (dk_at dksX4_account_4 2 rfl rfl)
theorem dX4_account_125 : decode cX4_account 125 = .ok (.iconst 5, 1) := dk_8 (dk_at dksX4_account_4 5 rfl rfl)
theorem dX4_account_126 : decode cX4_account 126 = .ok (.iaload, 1) := dk_46 (dk_at dksX4_account_4 6 rfl rfl)
theorem dX4_account_127 : decode cX4_account 127 = .ok (.ireturn, 1) := dk_172 (dk_at dksX4_account_4 7 rfl rfl)
theorem dX4_account_128 : decode cX4_account 128 = .ok (.aload_n 0, 1) := dk_42 (dk_at dksX4_account_4 8 rfl rfl)
theorem dX4_account_129 : decode cX4_account 129 = .ok (.getfield 194, 3) := dk_180 0 194 (dk_at dksX4_account_4 9 rfl rfl)
theorem dX4_account_132 : decode cX4_account 132 = .ok (.ireturn, 1) := dk_172 (dk_at dksX4_account_4 12 rfl rfl)
theorem dX4_account_133 : decode cX4_account 133 = .ok (.aload_n 0, 1) := dk_42 (dk_at dksX4_account_4 13 rfl rfl)
theorem dX4_account_134 : decode cX4_account 134 = .ok (.getfield 65, 3) := dk_180 0 65 (dk_at dksX4_account_4 14 rfl rfl)
theorem dX4_account_137 : decode cX4_account 137 = .ok (.ireturn, 1) := dk_172 (dk_at dksX4_account_4 17 rfl rfl)
theorem dX4_account_138 : decode cX4_account 138 = .ok (.sipush (-1012), 3) := dk_17 252 12 (dk_at dksX4_account_4 18 rfl rfl)
theorem dX4_account_141 : decode cX4_account 141 = .ok (.ireturn, 1) := dk_172 (dk_at dksX4_account_4 21 rfl rfl)
abbrev cX4_ofAll : ByteArray := prog_16_method_76_code
def yX4_ofAll : MethodName := ⟨RX4, "ofAll", "(I)I"⟩
def dkwX4_ofAll_1 : List UInt8 := [46, 96, 61, 132, 3, 1, 167, 255, 230, 28, 172]
abbrev dktX4_ofAll_1 : List UInt8 := dkwX4_ofAll_1 ++ []
def dkwX4_ofAll_0 : List UInt8 := [3, 61, 3, 62, 29, 42, 180, 0, 7, 3, 46, 162, 0, 22, 28, 42, 180, 0, 7, 29, 27, 184, 0, 72]
abbrev dktX4_ofAll_0 : List UInt8 := dkwX4_ofAll_0 ++ dktX4_ofAll_1
theorem dksX4_ofAll_0 : cX4_ofAll.data.toList.drop 0 = dktX4_ofAll_0 := by decide +kernel
theorem dksX4_ofAll_1 : cX4_ofAll.data.toList.drop 24 = dktX4_ofAll_1 := dk_seg dksX4_ofAll_0 24 rfl rfl
theorem dX4_ofAll_0 : decode cX4_ofAll 0 = .ok (.iconst 0, 1) := dk_3 (dk_at dksX4_ofAll_0 0 rfl rfl)
theorem dX4_ofAll_1 : decode cX4_ofAll 1 = .ok (.istore_n 2, 1) := dk_61 (dk_at dksX4_ofAll_0 1 rfl rfl)
theorem dX4_ofAll_2 : decode cX4_ofAll 2 = .ok (.iconst 0, 1) := dk_3 (dk_at dksX4_ofAll_0 2 rfl rfl)
theorem dX4_ofAll_3 : decode cX4_ofAll 3 = .ok (.istore_n 3, 1) := dk_62 (dk_at dksX4_ofAll_0 3 rfl rfl)
theorem dX4_ofAll_4 : decode cX4_ofAll 4 = .ok (.iload_n 3, 1) := dk_29 (dk_at dksX4_ofAll_0 4 rfl rfl)
theorem dX4_ofAll_5 : decode cX4_ofAll 5 = .ok (.aload_n 0, 1) := dk_42 (dk_at dksX4_ofAll_0 5 rfl rfl)
theorem dX4_ofAll_6 : decode cX4_ofAll 6 = .ok (.getfield 7, 3) := dk_180 0 7 (dk_at dksX4_ofAll_0 6 rfl rfl)
theorem dX4_ofAll_9 : decode cX4_ofAll 9 = .ok (.iconst 0, 1) := dk_3 (dk_at dksX4_ofAll_0 9 rfl rfl)
theorem dX4_ofAll_10 : decode cX4_ofAll 10 = .ok (.iaload, 1) := dk_46 (dk_at dksX4_ofAll_0 10 rfl rfl)
theorem dX4_ofAll_11 : decode cX4_ofAll 11 = .ok (.if_icmp .ge 22, 3) := dk_162 0 22 (dk_at dksX4_ofAll_0 11 rfl rfl)
theorem dX4_ofAll_14 : decode cX4_ofAll 14 = .ok (.iload_n 2, 1) := dk_28 (dk_at dksX4_ofAll_0 14 rfl rfl)
theorem dX4_ofAll_15 : decode cX4_ofAll 15 = .ok (.aload_n 0, 1) := dk_42 (dk_at dksX4_ofAll_0 15 rfl rfl)
theorem dX4_ofAll_16 : decode cX4_ofAll 16 = .ok (.getfield 7, 3) := dk_180 0 7 (dk_at dksX4_ofAll_0 16 rfl rfl)
theorem dX4_ofAll_19 : decode cX4_ofAll 19 = .ok (.iload_n 3, 1) := dk_29 (dk_at dksX4_ofAll_0 19 rfl rfl)
theorem dX4_ofAll_20 : decode cX4_ofAll 20 = .ok (.iload_n 1, 1) := dk_27 (dk_at dksX4_ofAll_0 20 rfl rfl)
theorem dX4_ofAll_21 : decode cX4_ofAll 21 = .ok (.invokestatic 72, 3) := dk_184 0 72 (dk_at dksX4_ofAll_0 21 rfl rfl)
theorem dX4_ofAll_24 : decode cX4_ofAll 24 = .ok (.iaload, 1) := dk_46 (dk_at dksX4_ofAll_1 0 rfl rfl)
theorem dX4_ofAll_25 : decode cX4_ofAll 25 = .ok (.iadd, 1) := dk_96 (dk_at dksX4_ofAll_1 1 rfl rfl)
theorem dX4_ofAll_26 : decode cX4_ofAll 26 = .ok (.istore_n 2, 1) := dk_61 (dk_at dksX4_ofAll_1 2 rfl rfl)
theorem dX4_ofAll_27 : decode cX4_ofAll 27 = .ok (.iinc 3 1, 3) := dk_132 3 1 (dk_at dksX4_ofAll_1 3 rfl rfl)
theorem dX4_ofAll_30 : decode cX4_ofAll 30 = .ok (.goto (-26), 3) := dk_167 255 230 (dk_at dksX4_ofAll_1 6 rfl rfl)
theorem dX4_ofAll_33 : decode cX4_ofAll 33 = .ok (.iload_n 2, 1) := dk_28 (dk_at dksX4_ofAll_1 9 rfl rfl)
theorem dX4_ofAll_34 : decode cX4_ofAll 34 = .ok (.ireturn, 1) := dk_172 (dk_at dksX4_ofAll_1 10 rfl rfl)
abbrev cX4_stores : ByteArray := prog_16_method_77_code
def yX4_stores : MethodName := ⟨RX4, "stores", "()I"⟩
def dkwX4_stores_1 : List UInt8 := [132, 2, 1, 167, 255, 234, 27, 172]
abbrev dktX4_stores_1 : List UInt8 := dkwX4_stores_1 ++ []
def dkwX4_stores_0 : List UInt8 := [3, 60, 3, 61, 28, 16, 6, 162, 0, 22, 27, 42, 180, 0, 7, 28, 5, 184, 0, 37, 46, 96, 60]
abbrev dktX4_stores_0 : List UInt8 := dkwX4_stores_0 ++ dktX4_stores_1
theorem dksX4_stores_0 : cX4_stores.data.toList.drop 0 = dktX4_stores_0 := by decide +kernel
theorem dksX4_stores_1 : cX4_stores.data.toList.drop 23 = dktX4_stores_1 := dk_seg dksX4_stores_0 23 rfl rfl
theorem dX4_stores_0 : decode cX4_stores 0 = .ok (.iconst 0, 1) := dk_3 (dk_at dksX4_stores_0 0 rfl rfl)
theorem dX4_stores_1 : decode cX4_stores 1 = .ok (.istore_n 1, 1) := dk_60 (dk_at dksX4_stores_0 1 rfl rfl)
theorem dX4_stores_2 : decode cX4_stores 2 = .ok (.iconst 0, 1) := dk_3 (dk_at dksX4_stores_0 2 rfl rfl)
theorem dX4_stores_3 : decode cX4_stores 3 = .ok (.istore_n 2, 1) := dk_61 (dk_at dksX4_stores_0 3 rfl rfl)
theorem dX4_stores_4 : decode cX4_stores 4 = .ok (.iload_n 2, 1) := dk_28 (dk_at dksX4_stores_0 4 rfl rfl)
theorem dX4_stores_5 : decode cX4_stores 5 = .ok (.bipush 6, 2) := dk_16 6 (dk_at dksX4_stores_0 5 rfl rfl)
theorem dX4_stores_7 : decode cX4_stores 7 = .ok (.if_icmp .ge 22, 3) := dk_162 0 22 (dk_at dksX4_stores_0 7 rfl rfl)
theorem dX4_stores_10 : decode cX4_stores 10 = .ok (.iload_n 1, 1) := dk_27 (dk_at dksX4_stores_0 10 rfl rfl)
theorem dX4_stores_11 : decode cX4_stores 11 = .ok (.aload_n 0, 1) := dk_42 (dk_at dksX4_stores_0 11 rfl rfl)
theorem dX4_stores_12 : decode cX4_stores 12 = .ok (.getfield 7, 3) := dk_180 0 7 (dk_at dksX4_stores_0 12 rfl rfl)
theorem dX4_stores_15 : decode cX4_stores 15 = .ok (.iload_n 2, 1) := dk_28 (dk_at dksX4_stores_0 15 rfl rfl)
theorem dX4_stores_16 : decode cX4_stores 16 = .ok (.iconst 2, 1) := dk_5 (dk_at dksX4_stores_0 16 rfl rfl)
theorem dX4_stores_17 : decode cX4_stores 17 = .ok (.invokestatic 37, 3) := dk_184 0 37 (dk_at dksX4_stores_0 17 rfl rfl)
theorem dX4_stores_20 : decode cX4_stores 20 = .ok (.iaload, 1) := dk_46 (dk_at dksX4_stores_0 20 rfl rfl)
theorem dX4_stores_21 : decode cX4_stores 21 = .ok (.iadd, 1) := dk_96 (dk_at dksX4_stores_0 21 rfl rfl)
theorem dX4_stores_22 : decode cX4_stores 22 = .ok (.istore_n 1, 1) := dk_60 (dk_at dksX4_stores_0 22 rfl rfl)
theorem dX4_stores_23 : decode cX4_stores 23 = .ok (.iinc 2 1, 3) := dk_132 2 1 (dk_at dksX4_stores_1 0 rfl rfl)
theorem dX4_stores_26 : decode cX4_stores 26 = .ok (.goto (-22), 3) := dk_167 255 234 (dk_at dksX4_stores_1 3 rfl rfl)
theorem dX4_stores_29 : decode cX4_stores 29 = .ok (.iload_n 1, 1) := dk_27 (dk_at dksX4_stores_1 6 rfl rfl)
theorem dX4_stores_30 : decode cX4_stores 30 = .ok (.ireturn, 1) := dk_172 (dk_at dksX4_stores_1 7 rfl rfl)
abbrev cX4_isBalanced : ByteArray := prog_16_method_79_code
def yX4_isBalanced : MethodName := ⟨RX4, "isBalanced", "()I"⟩
def dkwX4_isBalanced_1 : List UInt8 := [180, 0, 7, 5, 46, 96, 160, 0, 7, 4, 167, 0, 4, 3, 172]
abbrev dktX4_isBalanced_1 : List UInt8 := dkwX4_isBalanced_1 ++ []
def dkwX4_isBalanced_0 : List UInt8 := [42, 180, 0, 7, 4, 46, 42, 4, 182, 0, 244, 42, 182, 0, 247, 96, 42, 182, 0, 133, 96, 42]
abbrev dktX4_isBalanced_0 : List UInt8 := dkwX4_isBalanced_0 ++ dktX4_isBalanced_1
theorem dksX4_isBalanced_0 : cX4_isBalanced.data.toList.drop 0 = dktX4_isBalanced_0 := by decide +kernel
theorem dksX4_isBalanced_1 : cX4_isBalanced.data.toList.drop 22 = dktX4_isBalanced_1 := dk_seg dksX4_isBalanced_0 22 rfl rfl
theorem dX4_isBalanced_0 : decode cX4_isBalanced 0 = .ok (.aload_n 0, 1) := dk_42 (dk_at dksX4_isBalanced_0 0 rfl rfl)
theorem dX4_isBalanced_1 : decode cX4_isBalanced 1 = .ok (.getfield 7, 3) := dk_180 0 7 (dk_at dksX4_isBalanced_0 1 rfl rfl)
theorem dX4_isBalanced_4 : decode cX4_isBalanced 4 = .ok (.iconst 1, 1) := dk_4 (dk_at dksX4_isBalanced_0 4 rfl rfl)
theorem dX4_isBalanced_5 : decode cX4_isBalanced 5 = .ok (.iaload, 1) := dk_46 (dk_at dksX4_isBalanced_0 5 rfl rfl)
theorem dX4_isBalanced_6 : decode cX4_isBalanced 6 = .ok (.aload_n 0, 1) := dk_42 (dk_at dksX4_isBalanced_0 6 rfl rfl)
theorem dX4_isBalanced_7 : decode cX4_isBalanced 7 = .ok (.iconst 1, 1) := dk_4 (dk_at dksX4_isBalanced_0 7 rfl rfl)
theorem dX4_isBalanced_8 : decode cX4_isBalanced 8 = .ok (.invokevirtual 244, 3) := dk_182 0 244 (dk_at dksX4_isBalanced_0 8 rfl rfl)
theorem dX4_isBalanced_11 : decode cX4_isBalanced 11 = .ok (.aload_n 0, 1) := dk_42 (dk_at dksX4_isBalanced_0 11 rfl rfl)
theorem dX4_isBalanced_12 : decode cX4_isBalanced 12 = .ok (.invokevirtual 247, 3) := dk_182 0 247 (dk_at dksX4_isBalanced_0 12 rfl rfl)
theorem dX4_isBalanced_15 : decode cX4_isBalanced 15 = .ok (.iadd, 1) := dk_96 (dk_at dksX4_isBalanced_0 15 rfl rfl)
theorem dX4_isBalanced_16 : decode cX4_isBalanced 16 = .ok (.aload_n 0, 1) := dk_42 (dk_at dksX4_isBalanced_0 16 rfl rfl)
theorem dX4_isBalanced_17 : decode cX4_isBalanced 17 = .ok (.invokevirtual 133, 3) := dk_182 0 133 (dk_at dksX4_isBalanced_0 17 rfl rfl)
theorem dX4_isBalanced_20 : decode cX4_isBalanced 20 = .ok (.iadd, 1) := dk_96 (dk_at dksX4_isBalanced_0 20 rfl rfl)
theorem dX4_isBalanced_21 : decode cX4_isBalanced 21 = .ok (.aload_n 0, 1) := dk_42 (dk_at dksX4_isBalanced_0 21 rfl rfl)
theorem dX4_isBalanced_22 : decode cX4_isBalanced 22 = .ok (.getfield 7, 3) := dk_180 0 7 (dk_at dksX4_isBalanced_1 0 rfl rfl)
theorem dX4_isBalanced_25 : decode cX4_isBalanced 25 = .ok (.iconst 2, 1) := dk_5 (dk_at dksX4_isBalanced_1 3 rfl rfl)
theorem dX4_isBalanced_26 : decode cX4_isBalanced 26 = .ok (.iaload, 1) := dk_46 (dk_at dksX4_isBalanced_1 4 rfl rfl)
theorem dX4_isBalanced_27 : decode cX4_isBalanced 27 = .ok (.iadd, 1) := dk_96 (dk_at dksX4_isBalanced_1 5 rfl rfl)
theorem dX4_isBalanced_28 : decode cX4_isBalanced 28 = .ok (.if_icmp .ne 7, 3) := dk_160 0 7 (dk_at dksX4_isBalanced_1 6 rfl rfl)
theorem dX4_isBalanced_31 : decode cX4_isBalanced 31 = .ok (.iconst 1, 1) := dk_4 (dk_at dksX4_isBalanced_1 9 rfl rfl)
theorem dX4_isBalanced_32 : decode cX4_isBalanced 32 = .ok (.goto 4, 3) := dk_167 0 4 (dk_at dksX4_isBalanced_1 10 rfl rfl)
theorem dX4_isBalanced_35 : decode cX4_isBalanced 35 = .ok (.iconst 0, 1) := dk_3 (dk_at dksX4_isBalanced_1 13 rfl rfl)
theorem dX4_isBalanced_36 : decode cX4_isBalanced 36 = .ok (.ireturn, 1) := dk_172 (dk_at dksX4_isBalanced_1 14 rfl rfl)
abbrev cX4_meanWax : ByteArray := prog_16_method_80_code
def yX4_meanWax : MethodName := ⟨RX4, "meanWax", "()D"⟩
def dkwX4_meanWax_1 : List UInt8 := [46, 135, 111, 175]
abbrev dktX4_meanWax_1 : List UInt8 := dkwX4_meanWax_1 ++ []
def dkwX4_meanWax_0 : List UInt8 := [42, 180, 0, 7, 3, 46, 154, 0, 7, 14, 167, 0, 17, 42, 4, 182, 0, 244, 135, 42, 180, 0, 7, 3]
abbrev dktX4_meanWax_0 : List UInt8 := dkwX4_meanWax_0 ++ dktX4_meanWax_1
theorem dksX4_meanWax_0 : cX4_meanWax.data.toList.drop 0 = dktX4_meanWax_0 := by decide +kernel
theorem dksX4_meanWax_1 : cX4_meanWax.data.toList.drop 24 = dktX4_meanWax_1 := dk_seg dksX4_meanWax_0 24 rfl rfl
theorem dX4_meanWax_0 : decode cX4_meanWax 0 = .ok (.aload_n 0, 1) := dk_42 (dk_at dksX4_meanWax_0 0 rfl rfl)
theorem dX4_meanWax_1 : decode cX4_meanWax 1 = .ok (.getfield 7, 3) := dk_180 0 7 (dk_at dksX4_meanWax_0 1 rfl rfl)
theorem dX4_meanWax_4 : decode cX4_meanWax 4 = .ok (.iconst 0, 1) := dk_3 (dk_at dksX4_meanWax_0 4 rfl rfl)
theorem dX4_meanWax_5 : decode cX4_meanWax 5 = .ok (.iaload, 1) := dk_46 (dk_at dksX4_meanWax_0 5 rfl rfl)
theorem dX4_meanWax_6 : decode cX4_meanWax 6 = .ok (.ifCond .ne 7, 3) := dk_154 0 7 (dk_at dksX4_meanWax_0 6 rfl rfl)
theorem dX4_meanWax_9 : decode cX4_meanWax 9 = .ok (.dconst 0, 1) := dk_14 (dk_at dksX4_meanWax_0 9 rfl rfl)
theorem dX4_meanWax_10 : decode cX4_meanWax 10 = .ok (.goto 17, 3) := dk_167 0 17 (dk_at dksX4_meanWax_0 10 rfl rfl)
theorem dX4_meanWax_13 : decode cX4_meanWax 13 = .ok (.aload_n 0, 1) := dk_42 (dk_at dksX4_meanWax_0 13 rfl rfl)
theorem dX4_meanWax_14 : decode cX4_meanWax 14 = .ok (.iconst 1, 1) := dk_4 (dk_at dksX4_meanWax_0 14 rfl rfl)
theorem dX4_meanWax_15 : decode cX4_meanWax 15 = .ok (.invokevirtual 244, 3) := dk_182 0 244 (dk_at dksX4_meanWax_0 15 rfl rfl)
theorem dX4_meanWax_18 : decode cX4_meanWax 18 = .ok (.i2d, 1) := dk_135 (dk_at dksX4_meanWax_0 18 rfl rfl)
theorem dX4_meanWax_19 : decode cX4_meanWax 19 = .ok (.aload_n 0, 1) := dk_42 (dk_at dksX4_meanWax_0 19 rfl rfl)
theorem dX4_meanWax_20 : decode cX4_meanWax 20 = .ok (.getfield 7, 3) := dk_180 0 7 (dk_at dksX4_meanWax_0 20 rfl rfl)
theorem dX4_meanWax_23 : decode cX4_meanWax 23 = .ok (.iconst 0, 1) := dk_3 (dk_at dksX4_meanWax_0 23 rfl rfl)
theorem dX4_meanWax_24 : decode cX4_meanWax 24 = .ok (.iaload, 1) := dk_46 (dk_at dksX4_meanWax_1 0 rfl rfl)
theorem dX4_meanWax_25 : decode cX4_meanWax 25 = .ok (.i2d, 1) := dk_135 (dk_at dksX4_meanWax_1 1 rfl rfl)
theorem dX4_meanWax_26 : decode cX4_meanWax 26 = .ok (.ddiv, 1) := dk_111 (dk_at dksX4_meanWax_1 2 rfl rfl)
theorem dX4_meanWax_27 : decode cX4_meanWax 27 = .ok (.dreturn, 1) := dk_175 (dk_at dksX4_meanWax_1 3 rfl rfl)
abbrev cX4_snuffedShare : ByteArray := prog_16_method_81_code
def yX4_snuffedShare : MethodName := ⟨RX4, "snuffedShare", "()F"⟩
def dkwX4_snuffedShare_1 : List UInt8 := [46, 134, 110, 174]
abbrev dktX4_snuffedShare_1 : List UInt8 := dkwX4_snuffedShare_1 ++ []
def dkwX4_snuffedShare_0 : List UInt8 := [42, 180, 0, 7, 3, 46, 154, 0, 7, 11, 167, 0, 17, 42, 2, 182, 0, 127, 134, 42, 180, 0, 7, 3]
abbrev dktX4_snuffedShare_0 : List UInt8 := dkwX4_snuffedShare_0 ++ dktX4_snuffedShare_1
theorem dksX4_snuffedShare_0 : cX4_snuffedShare.data.toList.drop 0 = dktX4_snuffedShare_0 := by decide +kernel
theorem dksX4_snuffedShare_1 : cX4_snuffedShare.data.toList.drop 24 = dktX4_snuffedShare_1 := dk_seg dksX4_snuffedShare_0 24 rfl rfl
theorem dX4_snuffedShare_0 : decode cX4_snuffedShare 0 = .ok (.aload_n 0, 1) := dk_42 (dk_at dksX4_snuffedShare_0 0 rfl rfl)
theorem dX4_snuffedShare_1 : decode cX4_snuffedShare 1 = .ok (.getfield 7, 3) := dk_180 0 7 (dk_at dksX4_snuffedShare_0 1 rfl rfl)
theorem dX4_snuffedShare_4 : decode cX4_snuffedShare 4 = .ok (.iconst 0, 1) := dk_3 (dk_at dksX4_snuffedShare_0 4 rfl rfl)
theorem dX4_snuffedShare_5 : decode cX4_snuffedShare 5 = .ok (.iaload, 1) := dk_46 (dk_at dksX4_snuffedShare_0 5 rfl rfl)
theorem dX4_snuffedShare_6 : decode cX4_snuffedShare 6 = .ok (.ifCond .ne 7, 3) := dk_154 0 7 (dk_at dksX4_snuffedShare_0 6 rfl rfl)
theorem dX4_snuffedShare_9 : decode cX4_snuffedShare 9 = .ok (.fconst 0, 1) := dk_11 (dk_at dksX4_snuffedShare_0 9 rfl rfl)
theorem dX4_snuffedShare_10 : decode cX4_snuffedShare 10 = .ok (.goto 17, 3) := dk_167 0 17 (dk_at dksX4_snuffedShare_0 10 rfl rfl)
theorem dX4_snuffedShare_13 : decode cX4_snuffedShare 13 = .ok (.aload_n 0, 1) := dk_42 (dk_at dksX4_snuffedShare_0 13 rfl rfl)
theorem dX4_snuffedShare_14 : decode cX4_snuffedShare 14 = .ok (.iconst (-1), 1) := dk_2 (dk_at dksX4_snuffedShare_0 14 rfl rfl)
theorem dX4_snuffedShare_15 : decode cX4_snuffedShare 15 = .ok (.invokevirtual 127, 3) := dk_182 0 127 (dk_at dksX4_snuffedShare_0 15 rfl rfl)
theorem dX4_snuffedShare_18 : decode cX4_snuffedShare 18 = .ok (.i2f, 1) := dk_134 (dk_at dksX4_snuffedShare_0 18 rfl rfl)
theorem dX4_snuffedShare_19 : decode cX4_snuffedShare 19 = .ok (.aload_n 0, 1) := dk_42 (dk_at dksX4_snuffedShare_0 19 rfl rfl)
theorem dX4_snuffedShare_20 : decode cX4_snuffedShare 20 = .ok (.getfield 7, 3) := dk_180 0 7 (dk_at dksX4_snuffedShare_0 20 rfl rfl)
theorem dX4_snuffedShare_23 : decode cX4_snuffedShare 23 = .ok (.iconst 0, 1) := dk_3 (dk_at dksX4_snuffedShare_0 23 rfl rfl)
theorem dX4_snuffedShare_24 : decode cX4_snuffedShare 24 = .ok (.iaload, 1) := dk_46 (dk_at dksX4_snuffedShare_1 0 rfl rfl)
theorem dX4_snuffedShare_25 : decode cX4_snuffedShare 25 = .ok (.i2f, 1) := dk_134 (dk_at dksX4_snuffedShare_1 1 rfl rfl)
theorem dX4_snuffedShare_26 : decode cX4_snuffedShare 26 = .ok (.fdiv, 1) := dk_110 (dk_at dksX4_snuffedShare_1 2 rfl rfl)
theorem dX4_snuffedShare_27 : decode cX4_snuffedShare 27 = .ok (.freturn, 1) := dk_174 (dk_at dksX4_snuffedShare_1 3 rfl rfl)
abbrev cX4_undo : ByteArray := prog_16_method_82_code
def yX4_undo : MethodName := ⟨RX4, "undo", "()I"⟩
def dkwX4_undo_2 : List UInt8 := [79, 132, 1, 1, 167, 255, 227, 42, 180, 0, 65, 172]
abbrev dktX4_undo_2 : List UInt8 := dkwX4_undo_2 ++ []
def dkwX4_undo_1 : List UInt8 := [16, 126, 162, 0, 29, 42, 180, 0, 7, 27, 42, 180, 0, 22, 42, 180, 0, 65, 16, 126, 104, 27, 96, 46]
abbrev dktX4_undo_1 : List UInt8 := dkwX4_undo_1 ++ dktX4_undo_2
def dkwX4_undo_0 : List UInt8 := [42, 180, 0, 65, 154, 0, 7, 17, 252, 9, 172, 42, 89, 180, 0, 65, 4, 100, 181, 0, 65, 3, 60, 27]
abbrev dktX4_undo_0 : List UInt8 := dkwX4_undo_0 ++ dktX4_undo_1
theorem dksX4_undo_0 : cX4_undo.data.toList.drop 0 = dktX4_undo_0 := by decide +kernel
theorem dksX4_undo_1 : cX4_undo.data.toList.drop 24 = dktX4_undo_1 := dk_seg dksX4_undo_0 24 rfl rfl
theorem dksX4_undo_2 : cX4_undo.data.toList.drop 48 = dktX4_undo_2 := dk_seg dksX4_undo_1 24 rfl rfl
theorem dX4_undo_0 : decode cX4_undo 0 = .ok (.aload_n 0, 1) := dk_42 (dk_at dksX4_undo_0 0 rfl rfl)
theorem dX4_undo_1 : decode cX4_undo 1 = .ok (.getfield 65, 3) := dk_180 0 65 (dk_at dksX4_undo_0 1 rfl rfl)
theorem dX4_undo_4 : decode cX4_undo 4 = .ok (.ifCond .ne 7, 3) := dk_154 0 7 (dk_at dksX4_undo_0 4 rfl rfl)
theorem dX4_undo_7 : decode cX4_undo 7 = .ok (.sipush (-1015), 3) := dk_17 252 9 (dk_at dksX4_undo_0 7 rfl rfl)
theorem dX4_undo_10 : decode cX4_undo 10 = .ok (.ireturn, 1) := dk_172 (dk_at dksX4_undo_0 10 rfl rfl)
theorem dX4_undo_11 : decode cX4_undo 11 = .ok (.aload_n 0, 1) := dk_42 (dk_at dksX4_undo_0 11 rfl rfl)
theorem dX4_undo_12 : decode cX4_undo 12 = .ok (.dup, 1) := dk_89 (dk_at dksX4_undo_0 12 rfl rfl)
theorem dX4_undo_13 : decode cX4_undo 13 = .ok (.getfield 65, 3) := dk_180 0 65 (dk_at dksX4_undo_0 13 rfl rfl)
theorem dX4_undo_16 : decode cX4_undo 16 = .ok (.iconst 1, 1) := dk_4 (dk_at dksX4_undo_0 16 rfl rfl)
theorem dX4_undo_17 : decode cX4_undo 17 = .ok (.isub, 1) := dk_100 (dk_at dksX4_undo_0 17 rfl rfl)
theorem dX4_undo_18 : decode cX4_undo 18 = .ok (.putfield 65, 3) := dk_181 0 65 (dk_at dksX4_undo_0 18 rfl rfl)
theorem dX4_undo_21 : decode cX4_undo 21 = .ok (.iconst 0, 1) := dk_3 (dk_at dksX4_undo_0 21 rfl rfl)
theorem dX4_undo_22 : decode cX4_undo 22 = .ok (.istore_n 1, 1) := dk_60 (dk_at dksX4_undo_0 22 rfl rfl)
theorem dX4_undo_23 : decode cX4_undo 23 = .ok (.iload_n 1, 1) := dk_27 (dk_at dksX4_undo_0 23 rfl rfl)
theorem dX4_undo_24 : decode cX4_undo 24 = .ok (.bipush 126, 2) := dk_16 126 (dk_at dksX4_undo_1 0 rfl rfl)
theorem dX4_undo_26 : decode cX4_undo 26 = .ok (.if_icmp .ge 29, 3) := dk_162 0 29 (dk_at dksX4_undo_1 2 rfl rfl)
theorem dX4_undo_29 : decode cX4_undo 29 = .ok (.aload_n 0, 1) := dk_42 (dk_at dksX4_undo_1 5 rfl rfl)
theorem dX4_undo_30 : decode cX4_undo 30 = .ok (.getfield 7, 3) := dk_180 0 7 (dk_at dksX4_undo_1 6 rfl rfl)
theorem dX4_undo_33 : decode cX4_undo 33 = .ok (.iload_n 1, 1) := dk_27 (dk_at dksX4_undo_1 9 rfl rfl)
theorem dX4_undo_34 : decode cX4_undo 34 = .ok (.aload_n 0, 1) := dk_42 (dk_at dksX4_undo_1 10 rfl rfl)
theorem dX4_undo_35 : decode cX4_undo 35 = .ok (.getfield 22, 3) := dk_180 0 22 (dk_at dksX4_undo_1 11 rfl rfl)
theorem dX4_undo_38 : decode cX4_undo 38 = .ok (.aload_n 0, 1) := dk_42 (dk_at dksX4_undo_1 14 rfl rfl)
theorem dX4_undo_39 : decode cX4_undo 39 = .ok (.getfield 65, 3) := dk_180 0 65 (dk_at dksX4_undo_1 15 rfl rfl)
theorem dX4_undo_42 : decode cX4_undo 42 = .ok (.bipush 126, 2) := dk_16 126 (dk_at dksX4_undo_1 18 rfl rfl)
theorem dX4_undo_44 : decode cX4_undo 44 = .ok (.imul, 1) := dk_104 (dk_at dksX4_undo_1 20 rfl rfl)
theorem dX4_undo_45 : decode cX4_undo 45 = .ok (.iload_n 1, 1) := dk_27 (dk_at dksX4_undo_1 21 rfl rfl)
theorem dX4_undo_46 : decode cX4_undo 46 = .ok (.iadd, 1) := dk_96 (dk_at dksX4_undo_1 22 rfl rfl)
theorem dX4_undo_47 : decode cX4_undo 47 = .ok (.iaload, 1) := dk_46 (dk_at dksX4_undo_1 23 rfl rfl)
theorem dX4_undo_48 : decode cX4_undo 48 = .ok (.iastore, 1) := dk_79 (dk_at dksX4_undo_2 0 rfl rfl)
theorem dX4_undo_49 : decode cX4_undo 49 = .ok (.iinc 1 1, 3) := dk_132 1 1 (dk_at dksX4_undo_2 1 rfl rfl)
theorem dX4_undo_52 : decode cX4_undo 52 = .ok (.goto (-29), 3) := dk_167 255 227 (dk_at dksX4_undo_2 4 rfl rfl)
theorem dX4_undo_55 : decode cX4_undo 55 = .ok (.aload_n 0, 1) := dk_42 (dk_at dksX4_undo_2 7 rfl rfl)
theorem dX4_undo_56 : decode cX4_undo 56 = .ok (.getfield 65, 3) := dk_180 0 65 (dk_at dksX4_undo_2 8 rfl rfl)
theorem dX4_undo_59 : decode cX4_undo 59 = .ok (.ireturn, 1) := dk_172 (dk_at dksX4_undo_2 11 rfl rfl)
abbrev cX4_save : ByteArray := prog_16_method_83_code
def yX4_save : MethodName := ⟨RX4, "save", "()I"⟩
def dkwX4_save_0 : List UInt8 := [42, 180, 0, 16, 42, 180, 0, 7, 184, 0, 61, 42, 4, 181, 0, 250, 42, 180, 0, 7, 3, 46, 172]
abbrev dktX4_save_0 : List UInt8 := dkwX4_save_0 ++ []
theorem dksX4_save_0 : cX4_save.data.toList.drop 0 = dktX4_save_0 := by decide +kernel
theorem dX4_save_0 : decode cX4_save 0 = .ok (.aload_n 0, 1) := dk_42 (dk_at dksX4_save_0 0 rfl rfl)
theorem dX4_save_1 : decode cX4_save 1 = .ok (.getfield 16, 3) := dk_180 0 16 (dk_at dksX4_save_0 1 rfl rfl)
theorem dX4_save_4 : decode cX4_save 4 = .ok (.aload_n 0, 1) := dk_42 (dk_at dksX4_save_0 4 rfl rfl)
theorem dX4_save_5 : decode cX4_save 5 = .ok (.getfield 7, 3) := dk_180 0 7 (dk_at dksX4_save_0 5 rfl rfl)
theorem dX4_save_8 : decode cX4_save 8 = .ok (.invokestatic 61, 3) := dk_184 0 61 (dk_at dksX4_save_0 8 rfl rfl)
theorem dX4_save_11 : decode cX4_save 11 = .ok (.aload_n 0, 1) := dk_42 (dk_at dksX4_save_0 11 rfl rfl)
theorem dX4_save_12 : decode cX4_save 12 = .ok (.iconst 1, 1) := dk_4 (dk_at dksX4_save_0 12 rfl rfl)
theorem dX4_save_13 : decode cX4_save 13 = .ok (.putfield 250, 3) := dk_181 0 250 (dk_at dksX4_save_0 13 rfl rfl)
theorem dX4_save_16 : decode cX4_save 16 = .ok (.aload_n 0, 1) := dk_42 (dk_at dksX4_save_0 16 rfl rfl)
theorem dX4_save_17 : decode cX4_save 17 = .ok (.getfield 7, 3) := dk_180 0 7 (dk_at dksX4_save_0 17 rfl rfl)
theorem dX4_save_20 : decode cX4_save 20 = .ok (.iconst 0, 1) := dk_3 (dk_at dksX4_save_0 20 rfl rfl)
theorem dX4_save_21 : decode cX4_save 21 = .ok (.iaload, 1) := dk_46 (dk_at dksX4_save_0 21 rfl rfl)
theorem dX4_save_22 : decode cX4_save 22 = .ok (.ireturn, 1) := dk_172 (dk_at dksX4_save_0 22 rfl rfl)
abbrev cX4_restore : ByteArray := prog_16_method_84_code
def yX4_restore : MethodName := ⟨RX4, "restore", "()I"⟩
def dkwX4_restore_1 : List UInt8 := [181, 0, 65, 42, 180, 0, 7, 3, 46, 172]
abbrev dktX4_restore_1 : List UInt8 := dkwX4_restore_1 ++ []
def dkwX4_restore_0 : List UInt8 := [42, 180, 0, 250, 154, 0, 7, 17, 252, 9, 172, 42, 180, 0, 7, 42, 180, 0, 16, 184, 0, 61, 42, 3]
abbrev dktX4_restore_0 : List UInt8 := dkwX4_restore_0 ++ dktX4_restore_1
theorem dksX4_restore_0 : cX4_restore.data.toList.drop 0 = dktX4_restore_0 := by decide +kernel
theorem dksX4_restore_1 : cX4_restore.data.toList.drop 24 = dktX4_restore_1 := dk_seg dksX4_restore_0 24 rfl rfl
theorem dX4_restore_0 : decode cX4_restore 0 = .ok (.aload_n 0, 1) := dk_42 (dk_at dksX4_restore_0 0 rfl rfl)
theorem dX4_restore_1 : decode cX4_restore 1 = .ok (.getfield 250, 3) := dk_180 0 250 (dk_at dksX4_restore_0 1 rfl rfl)
theorem dX4_restore_4 : decode cX4_restore 4 = .ok (.ifCond .ne 7, 3) := dk_154 0 7 (dk_at dksX4_restore_0 4 rfl rfl)
theorem dX4_restore_7 : decode cX4_restore 7 = .ok (.sipush (-1015), 3) := dk_17 252 9 (dk_at dksX4_restore_0 7 rfl rfl)
theorem dX4_restore_10 : decode cX4_restore 10 = .ok (.ireturn, 1) := dk_172 (dk_at dksX4_restore_0 10 rfl rfl)
theorem dX4_restore_11 : decode cX4_restore 11 = .ok (.aload_n 0, 1) := dk_42 (dk_at dksX4_restore_0 11 rfl rfl)
theorem dX4_restore_12 : decode cX4_restore 12 = .ok (.getfield 7, 3) := dk_180 0 7 (dk_at dksX4_restore_0 12 rfl rfl)
theorem dX4_restore_15 : decode cX4_restore 15 = .ok (.aload_n 0, 1) := dk_42 (dk_at dksX4_restore_0 15 rfl rfl)
theorem dX4_restore_16 : decode cX4_restore 16 = .ok (.getfield 16, 3) := dk_180 0 16 (dk_at dksX4_restore_0 16 rfl rfl)
theorem dX4_restore_19 : decode cX4_restore 19 = .ok (.invokestatic 61, 3) := dk_184 0 61 (dk_at dksX4_restore_0 19 rfl rfl)
theorem dX4_restore_22 : decode cX4_restore 22 = .ok (.aload_n 0, 1) := dk_42 (dk_at dksX4_restore_0 22 rfl rfl)
theorem dX4_restore_23 : decode cX4_restore 23 = .ok (.iconst 0, 1) := dk_3 (dk_at dksX4_restore_0 23 rfl rfl)
theorem dX4_restore_24 : decode cX4_restore 24 = .ok (.putfield 65, 3) := dk_181 0 65 (dk_at dksX4_restore_1 0 rfl rfl)
theorem dX4_restore_27 : decode cX4_restore 27 = .ok (.aload_n 0, 1) := dk_42 (dk_at dksX4_restore_1 3 rfl rfl)
theorem dX4_restore_28 : decode cX4_restore 28 = .ok (.getfield 7, 3) := dk_180 0 7 (dk_at dksX4_restore_1 4 rfl rfl)
theorem dX4_restore_31 : decode cX4_restore 31 = .ok (.iconst 0, 1) := dk_3 (dk_at dksX4_restore_1 7 rfl rfl)
theorem dX4_restore_32 : decode cX4_restore 32 = .ok (.iaload, 1) := dk_46 (dk_at dksX4_restore_1 8 rfl rfl)
theorem dX4_restore_33 : decode cX4_restore 33 = .ok (.ireturn, 1) := dk_172 (dk_at dksX4_restore_1 9 rfl rfl)
theorem q95 : (Jvm.Cond.initialized "CandleStatuteModel") ∈ lw_all := lw_g (lw_at lw_m1 17 rfl) rfl
theorem q280 : (Jvm.Cond.selects "CandleStatuteModel" ({ cls := "java/lang/Object", name := "getClass", desc := "()Ljava/lang/Class;" } : Jvm.MethodName) ({ cls := "java/lang/Object", name := "getClass", desc := "()Ljava/lang/Class;" } : Jvm.MethodName)) ∈ lw_all := lw_g (lw_at lw_m1 202 rfl) rfl
theorem q1662 : (Jvm.Cond.instantiable "CandleStatuteModel" (25 : Nat)) ∈ lw_all := lw_g (lw_at lw_m7 144 rfl) rfl
theorem q1664 : (Jvm.Cond.instanceMethod ({ cls := "CandleStatuteModel", name := "<init>", desc := "()V" } : Jvm.MethodName)) ∈ lw_all := lw_g (lw_at lw_m7 146 rfl) rfl
theorem q1665 : (Jvm.Cond.code ({ cls := "CandleStatuteModel", name := "<init>", desc := "()V" } : Jvm.MethodName) prog_16_method_1_code (2 : Nat) (Option.none : Option Jvm.ClassFile.FieldType)) ∈ lw_all := lw_g (lw_at lw_m7 147 rfl) rfl
theorem q1666 : (Jvm.Cond.methodLink "CandleStatuteModel" (1 : Nat) ({ cls := "java/lang/Object", name := "<init>", desc := "()V" } : Jvm.MethodName)) ∈ lw_all := lw_g (lw_at lw_m7 148 rfl) rfl
theorem q1667 : (Jvm.Cond.methodLink "CandleStatuteModel" (37 : Nat) ({ cls := "CandleStatuteModel", name := "at", desc := "(II)I" } : Jvm.MethodName)) ∈ lw_all := lw_g (lw_at lw_m7 149 rfl) rfl
theorem q1668 : (Jvm.Cond.static ({ cls := "CandleStatuteModel", name := "at", desc := "(II)I" } : Jvm.MethodName)) ∈ lw_all := lw_g (lw_at lw_m7 150 rfl) rfl
theorem q1669 : (Jvm.Cond.code ({ cls := "CandleStatuteModel", name := "at", desc := "(II)I" } : Jvm.MethodName) prog_16_method_8_code (2 : Nat) (Option.some Jvm.ClassFile.FieldType.int)) ∈ lw_all := lw_g (lw_at lw_m7 151 rfl) rfl
theorem q1670 : (Jvm.Cond.fieldLink "CandleStatuteModel" (41 : Nat) "CandleStatuteModel" "fails" "I") ∈ lw_all := lw_g (lw_at lw_m7 152 rfl) rfl
theorem q1671 : (Jvm.Cond.fieldLink "CandleStatuteModel" (65 : Nat) "CandleStatuteModel" "changes" "I") ∈ lw_all := lw_g (lw_at lw_m7 153 rfl) rfl
theorem q1672 : (Jvm.Cond.fieldLink "CandleStatuteModel" (45 : Nat) "CandleStatuteModel" "why" "I") ∈ lw_all := lw_g (lw_at lw_m7 154 rfl) rfl
theorem q1673 : (Jvm.Cond.fieldLink "CandleStatuteModel" (48 : Nat) "CandleStatuteModel" "detail" "I") ∈ lw_all := lw_g (lw_at lw_m7 155 rfl) rfl
theorem q1674 : (Jvm.Cond.fieldLink "CandleStatuteModel" (51 : Nat) "CandleStatuteModel" "behindWhy" "I") ∈ lw_all := lw_g (lw_at lw_m7 156 rfl) rfl
theorem q1675 : (Jvm.Cond.fieldLink "CandleStatuteModel" (105 : Nat) "CandleStatuteModel" "behindDetail" "I") ∈ lw_all := lw_g (lw_at lw_m7 157 rfl) rfl
theorem q1676 : (Jvm.Cond.fieldLink "CandleStatuteModel" (54 : Nat) "CandleStatuteModel" "lastWhy" "I") ∈ lw_all := lw_g (lw_at lw_m7 158 rfl) rfl
theorem q1677 : (Jvm.Cond.fieldLink "CandleStatuteModel" (232 : Nat) "CandleStatuteModel" "lastDetail" "I") ∈ lw_all := lw_g (lw_at lw_m7 159 rfl) rfl
theorem q1678 : (Jvm.Cond.fieldLink "CandleStatuteModel" (250 : Nat) "CandleStatuteModel" "isSaved" "Z") ∈ lw_all := lw_g (lw_at lw_m7 160 rfl) rfl
theorem q1679 : (Jvm.Cond.fieldLink "CandleStatuteModel" (7 : Nat) "CandleStatuteModel" "v" "[I") ∈ lw_all := lw_g (lw_at lw_m7 161 rfl) rfl
theorem q1680 : (Jvm.Cond.fieldLink "CandleStatuteModel" (13 : Nat) "CandleStatuteModel" "before" "[I") ∈ lw_all := lw_g (lw_at lw_m7 162 rfl) rfl
theorem q1681 : (Jvm.Cond.fieldLink "CandleStatuteModel" (16 : Nat) "CandleStatuteModel" "saved" "[I") ∈ lw_all := lw_g (lw_at lw_m7 163 rfl) rfl
theorem q1682 : (Jvm.Cond.fieldLink "CandleStatuteModel" (19 : Nat) "CandleStatuteModel" "kept" "[I") ∈ lw_all := lw_g (lw_at lw_m7 164 rfl) rfl
theorem q1683 : (Jvm.Cond.fieldLink "CandleStatuteModel" (22 : Nat) "CandleStatuteModel" "past" "[I") ∈ lw_all := lw_g (lw_at lw_m7 165 rfl) rfl
theorem q1684 : (Jvm.Cond.fieldLink "CandleStatuteModel" (25 : Nat) "CandleStatuteModel" "parts" "[I") ∈ lw_all := lw_g (lw_at lw_m7 166 rfl) rfl
theorem q1685 : (Jvm.Cond.fieldLink "CandleStatuteModel" (28 : Nat) "CandleStatuteModel" "rests" "[I") ∈ lw_all := lw_g (lw_at lw_m7 167 rfl) rfl
theorem q1686 : (Jvm.Cond.fieldLink "CandleStatuteModel" (170 : Nat) "CandleStatuteModel" "melted" "I") ∈ lw_all := lw_g (lw_at lw_m7 168 rfl) rfl
theorem q1687 : (Jvm.Cond.fieldLink "CandleStatuteModel" (31 : Nat) "CandleStatuteModel" "text" "[I") ∈ lw_all := lw_g (lw_at lw_m7 169 rfl) rfl
theorem q1688 : (Jvm.Cond.fieldLink "CandleStatuteModel" (34 : Nat) "CandleStatuteModel" "line" "[I") ∈ lw_all := lw_g (lw_at lw_m7 170 rfl) rfl
theorem q1689 : (Jvm.Cond.fieldLink "CandleStatuteModel" (194 : Nat) "CandleStatuteModel" "textN" "I") ∈ lw_all := lw_g (lw_at lw_m7 171 rfl) rfl
theorem q1690 : (Jvm.Cond.fieldLink "CandleStatuteModel" (197 : Nat) "CandleStatuteModel" "here" "I") ∈ lw_all := lw_g (lw_at lw_m7 172 rfl) rfl
theorem q1691 : (Jvm.Cond.fieldLink "CandleStatuteModel" (200 : Nat) "CandleStatuteModel" "end" "I") ∈ lw_all := lw_g (lw_at lw_m7 173 rfl) rfl
theorem q1692 : (Jvm.Cond.fieldLink "CandleStatuteModel" (188 : Nat) "CandleStatuteModel" "lineN" "I") ∈ lw_all := lw_g (lw_at lw_m7 174 rfl) rfl
theorem q1693 : (Jvm.Cond.fieldLink "CandleStatuteModel" (203 : Nat) "CandleStatuteModel" "isWrong" "Z") ∈ lw_all := lw_g (lw_at lw_m7 175 rfl) rfl
theorem q1694 : (Jvm.Cond.fieldLink "CandleStatuteModel" (222 : Nat) "CandleStatuteModel" "isDoing" "Z") ∈ lw_all := lw_g (lw_at lw_m7 176 rfl) rfl
theorem q1695 : (Jvm.Cond.lays "CandleStatuteModel" "CandleStatuteModel" "fails" "I") ∈ lw_all := lw_g (lw_at lw_m7 177 rfl) rfl
theorem q1696 : (Jvm.Cond.soleField "CandleStatuteModel" "fails") ∈ lw_all := lw_g (lw_at lw_m7 178 rfl) rfl
theorem q1697 : (Jvm.Cond.lays "CandleStatuteModel" "CandleStatuteModel" "changes" "I") ∈ lw_all := lw_g (lw_at lw_m7 179 rfl) rfl
theorem q1698 : (Jvm.Cond.soleField "CandleStatuteModel" "changes") ∈ lw_all := lw_g (lw_at lw_m7 180 rfl) rfl
theorem q1699 : (Jvm.Cond.lays "CandleStatuteModel" "CandleStatuteModel" "why" "I") ∈ lw_all := lw_g (lw_at lw_m7 181 rfl) rfl
theorem q1700 : (Jvm.Cond.soleField "CandleStatuteModel" "why") ∈ lw_all := lw_g (lw_at lw_m7 182 rfl) rfl
theorem q1701 : (Jvm.Cond.lays "CandleStatuteModel" "CandleStatuteModel" "detail" "I") ∈ lw_all := lw_g (lw_at lw_m7 183 rfl) rfl
theorem q1702 : (Jvm.Cond.soleField "CandleStatuteModel" "detail") ∈ lw_all := lw_g (lw_at lw_m7 184 rfl) rfl
theorem q1703 : (Jvm.Cond.lays "CandleStatuteModel" "CandleStatuteModel" "behindWhy" "I") ∈ lw_all := lw_g (lw_at lw_m7 185 rfl) rfl
theorem q1704 : (Jvm.Cond.soleField "CandleStatuteModel" "behindWhy") ∈ lw_all := lw_g (lw_at lw_m7 186 rfl) rfl
theorem q1705 : (Jvm.Cond.lays "CandleStatuteModel" "CandleStatuteModel" "behindDetail" "I") ∈ lw_all := lw_g (lw_at lw_m7 187 rfl) rfl
theorem q1706 : (Jvm.Cond.soleField "CandleStatuteModel" "behindDetail") ∈ lw_all := lw_g (lw_at lw_m7 188 rfl) rfl
theorem q1707 : (Jvm.Cond.lays "CandleStatuteModel" "CandleStatuteModel" "lastWhy" "I") ∈ lw_all := lw_g (lw_at lw_m7 189 rfl) rfl
theorem q1708 : (Jvm.Cond.soleField "CandleStatuteModel" "lastWhy") ∈ lw_all := lw_g (lw_at lw_m7 190 rfl) rfl
theorem q1709 : (Jvm.Cond.lays "CandleStatuteModel" "CandleStatuteModel" "lastDetail" "I") ∈ lw_all := lw_g (lw_at lw_m7 191 rfl) rfl
theorem q1710 : (Jvm.Cond.soleField "CandleStatuteModel" "lastDetail") ∈ lw_all := lw_g (lw_at lw_m7 192 rfl) rfl
theorem q1711 : (Jvm.Cond.lays "CandleStatuteModel" "CandleStatuteModel" "isSaved" "Z") ∈ lw_all := lw_g (lw_at lw_m7 193 rfl) rfl
theorem q1712 : (Jvm.Cond.soleField "CandleStatuteModel" "isSaved") ∈ lw_all := lw_g (lw_at lw_m7 194 rfl) rfl
theorem q1713 : (Jvm.Cond.laysFinal "CandleStatuteModel" "CandleStatuteModel" "v" "[I") ∈ lw_all := lw_g (lw_at lw_m7 195 rfl) rfl
theorem q1714 : (Jvm.Cond.soleField "CandleStatuteModel" "v") ∈ lw_all := lw_g (lw_at lw_m7 196 rfl) rfl
theorem q1715 : (Jvm.Cond.laysFinal "CandleStatuteModel" "CandleStatuteModel" "before" "[I") ∈ lw_all := lw_g (lw_at lw_m7 197 rfl) rfl
theorem q1716 : (Jvm.Cond.soleField "CandleStatuteModel" "before") ∈ lw_all := lw_g (lw_at lw_m7 198 rfl) rfl
theorem q1717 : (Jvm.Cond.laysFinal "CandleStatuteModel" "CandleStatuteModel" "saved" "[I") ∈ lw_all := lw_g (lw_at lw_m7 199 rfl) rfl
theorem q1718 : (Jvm.Cond.soleField "CandleStatuteModel" "saved") ∈ lw_all := lw_g (lw_at lw_m7 200 rfl) rfl
theorem q1719 : (Jvm.Cond.laysFinal "CandleStatuteModel" "CandleStatuteModel" "kept" "[I") ∈ lw_all := lw_g (lw_at lw_m7 201 rfl) rfl
theorem q1720 : (Jvm.Cond.soleField "CandleStatuteModel" "kept") ∈ lw_all := lw_g (lw_at lw_m7 202 rfl) rfl
theorem q1721 : (Jvm.Cond.laysFinal "CandleStatuteModel" "CandleStatuteModel" "past" "[I") ∈ lw_all := lw_g (lw_at lw_m7 203 rfl) rfl
theorem q1722 : (Jvm.Cond.soleField "CandleStatuteModel" "past") ∈ lw_all := lw_g (lw_at lw_m7 204 rfl) rfl
theorem q1723 : (Jvm.Cond.laysFinal "CandleStatuteModel" "CandleStatuteModel" "parts" "[I") ∈ lw_all := lw_g (lw_at lw_m7 205 rfl) rfl
theorem q1724 : (Jvm.Cond.soleField "CandleStatuteModel" "parts") ∈ lw_all := lw_g (lw_at lw_m7 206 rfl) rfl
theorem q1725 : (Jvm.Cond.laysFinal "CandleStatuteModel" "CandleStatuteModel" "rests" "[I") ∈ lw_all := lw_g (lw_at lw_m7 207 rfl) rfl
theorem q1726 : (Jvm.Cond.soleField "CandleStatuteModel" "rests") ∈ lw_all := lw_g (lw_at lw_m7 208 rfl) rfl
theorem q1727 : (Jvm.Cond.lays "CandleStatuteModel" "CandleStatuteModel" "melted" "I") ∈ lw_all := lw_g (lw_at lw_m7 209 rfl) rfl
theorem q1728 : (Jvm.Cond.soleField "CandleStatuteModel" "melted") ∈ lw_all := lw_g (lw_at lw_m7 210 rfl) rfl
theorem q1729 : (Jvm.Cond.laysFinal "CandleStatuteModel" "CandleStatuteModel" "text" "[I") ∈ lw_all := lw_g (lw_at lw_m7 211 rfl) rfl
theorem q1730 : (Jvm.Cond.soleField "CandleStatuteModel" "text") ∈ lw_all := lw_g (lw_at lw_m7 212 rfl) rfl
theorem q1731 : (Jvm.Cond.laysFinal "CandleStatuteModel" "CandleStatuteModel" "line" "[I") ∈ lw_all := lw_g (lw_at lw_m7 213 rfl) rfl
theorem q1732 : (Jvm.Cond.soleField "CandleStatuteModel" "line") ∈ lw_all := lw_g (lw_at lw_m7 214 rfl) rfl
theorem q1733 : (Jvm.Cond.lays "CandleStatuteModel" "CandleStatuteModel" "textN" "I") ∈ lw_all := lw_g (lw_at lw_m7 215 rfl) rfl
theorem q1734 : (Jvm.Cond.soleField "CandleStatuteModel" "textN") ∈ lw_all := lw_g (lw_at lw_m7 216 rfl) rfl
theorem q1735 : (Jvm.Cond.lays "CandleStatuteModel" "CandleStatuteModel" "here" "I") ∈ lw_all := lw_g (lw_at lw_m7 217 rfl) rfl
theorem q1736 : (Jvm.Cond.soleField "CandleStatuteModel" "here") ∈ lw_all := lw_g (lw_at lw_m7 218 rfl) rfl
theorem q1737 : (Jvm.Cond.lays "CandleStatuteModel" "CandleStatuteModel" "end" "I") ∈ lw_all := lw_g (lw_at lw_m7 219 rfl) rfl
theorem q1738 : (Jvm.Cond.soleField "CandleStatuteModel" "end") ∈ lw_all := lw_g (lw_at lw_m7 220 rfl) rfl
theorem q1739 : (Jvm.Cond.lays "CandleStatuteModel" "CandleStatuteModel" "lineN" "I") ∈ lw_all := lw_g (lw_at lw_m7 221 rfl) rfl
theorem q1740 : (Jvm.Cond.soleField "CandleStatuteModel" "lineN") ∈ lw_all := lw_g (lw_at lw_m7 222 rfl) rfl
theorem q1741 : (Jvm.Cond.lays "CandleStatuteModel" "CandleStatuteModel" "isWrong" "Z") ∈ lw_all := lw_g (lw_at lw_m7 223 rfl) rfl
theorem q1742 : (Jvm.Cond.soleField "CandleStatuteModel" "isWrong") ∈ lw_all := lw_g (lw_at lw_m7 224 rfl) rfl
theorem q1743 : (Jvm.Cond.lays "CandleStatuteModel" "CandleStatuteModel" "isDoing" "Z") ∈ lw_all := lw_g (lw_at lw_m7 225 rfl) rfl
theorem q1744 : (Jvm.Cond.soleField "CandleStatuteModel" "isDoing") ∈ lw_all := lw_g (lw_at lw_m7 226 rfl) rfl
theorem q1745 : (Jvm.Cond.superclass "CandleStatuteModel" "java/lang/Object") ∈ lw_all := lw_g (lw_at lw_m7 227 rfl) rfl
theorem q1747 : (Jvm.Cond.instanceMethod ({ cls := "CandleStatuteModel", name := "stub", desc := "(III)I" } : Jvm.MethodName)) ∈ lw_all := lw_g (lw_at lw_m7 229 rfl) rfl
theorem q1748 : (Jvm.Cond.selects "CandleStatuteModel" ({ cls := "CandleStatuteModel", name := "stub", desc := "(III)I" } : Jvm.MethodName) ({ cls := "CandleStatuteModel", name := "stub", desc := "(III)I" } : Jvm.MethodName)) ∈ lw_all := lw_g (lw_at lw_m7 230 rfl) rfl
theorem q1749 : (Jvm.Cond.code ({ cls := "CandleStatuteModel", name := "stub", desc := "(III)I" } : Jvm.MethodName) prog_16_method_21_code (4 : Nat) (Option.some Jvm.ClassFile.FieldType.int)) ∈ lw_all := lw_g (lw_at lw_m7 231 rfl) rfl
theorem q1750 : (Jvm.Cond.methodLink "CandleStatuteModel" (96 : Nat) ({ cls := "CandleStatuteModel", name := "begins", desc := "()V" } : Jvm.MethodName)) ∈ lw_all := lw_g (lw_at lw_m7 232 rfl) rfl
theorem q1751 : (Jvm.Cond.privateMethod ({ cls := "CandleStatuteModel", name := "begins", desc := "()V" } : Jvm.MethodName)) ∈ lw_tbl := lw_at lw_m7 233 rfl
theorem q1752 : (Jvm.Cond.instanceMethod ({ cls := "CandleStatuteModel", name := "begins", desc := "()V" } : Jvm.MethodName)) ∈ lw_all := lw_g (lw_at lw_m7 234 rfl) rfl
theorem q1753 : (Jvm.Cond.code ({ cls := "CandleStatuteModel", name := "begins", desc := "()V" } : Jvm.MethodName) prog_16_method_6_code (1 : Nat) (Option.none : Option Jvm.ClassFile.FieldType)) ∈ lw_all := lw_g (lw_at lw_m7 235 rfl) rfl
theorem q1754 : (Jvm.Cond.methodLink "CandleStatuteModel" (61 : Nat) ({ cls := "CandleStatuteModel", name := "lays", desc := "([I[I)V" } : Jvm.MethodName)) ∈ lw_all := lw_g (lw_at lw_m7 236 rfl) rfl
theorem q1755 : (Jvm.Cond.static ({ cls := "CandleStatuteModel", name := "lays", desc := "([I[I)V" } : Jvm.MethodName)) ∈ lw_all := lw_g (lw_at lw_m7 237 rfl) rfl
theorem q1756 : (Jvm.Cond.code ({ cls := "CandleStatuteModel", name := "lays", desc := "([I[I)V" } : Jvm.MethodName) prog_16_method_5_code (3 : Nat) (Option.none : Option Jvm.ClassFile.FieldType)) ∈ lw_all := lw_g (lw_at lw_m7 238 rfl) rfl
theorem q1757 : (Jvm.Cond.methodLink "CandleStatuteModel" (99 : Nat) ({ cls := "CandleStatuteModel", name := "comes", desc := "(III)I" } : Jvm.MethodName)) ∈ lw_all := lw_g (lw_at lw_m7 239 rfl) rfl
theorem q1758 : (Jvm.Cond.privateMethod ({ cls := "CandleStatuteModel", name := "comes", desc := "(III)I" } : Jvm.MethodName)) ∈ lw_tbl := lw_at lw_m8 0 rfl
theorem q1759 : (Jvm.Cond.instanceMethod ({ cls := "CandleStatuteModel", name := "comes", desc := "(III)I" } : Jvm.MethodName)) ∈ lw_all := lw_g (lw_at lw_m8 1 rfl) rfl
theorem q1760 : (Jvm.Cond.code ({ cls := "CandleStatuteModel", name := "comes", desc := "(III)I" } : Jvm.MethodName) prog_16_method_20_code (4 : Nat) (Option.some Jvm.ClassFile.FieldType.int)) ∈ lw_all := lw_g (lw_at lw_m8 2 rfl) rfl
theorem q1761 : (Jvm.Cond.methodLink "CandleStatuteModel" (81 : Nat) ({ cls := "CandleStatuteModel", name := "isHouse", desc := "(I)Z" } : Jvm.MethodName)) ∈ lw_all := lw_g (lw_at lw_m8 3 rfl) rfl
theorem q1762 : (Jvm.Cond.static ({ cls := "CandleStatuteModel", name := "isHouse", desc := "(I)Z" } : Jvm.MethodName)) ∈ lw_all := lw_g (lw_at lw_m8 4 rfl) rfl
theorem q1763 : (Jvm.Cond.code ({ cls := "CandleStatuteModel", name := "isHouse", desc := "(I)Z" } : Jvm.MethodName) prog_16_method_10_code (1 : Nat) (Option.some Jvm.ClassFile.FieldType.boolean)) ∈ lw_all := lw_g (lw_at lw_m8 5 rfl) rfl
theorem q1764 : (Jvm.Cond.methodLink "CandleStatuteModel" (68 : Nat) ({ cls := "CandleStatuteModel", name := "isIn", desc := "(III)Z" } : Jvm.MethodName)) ∈ lw_all := lw_g (lw_at lw_m8 6 rfl) rfl
theorem q1765 : (Jvm.Cond.static ({ cls := "CandleStatuteModel", name := "isIn", desc := "(III)Z" } : Jvm.MethodName)) ∈ lw_all := lw_g (lw_at lw_m8 7 rfl) rfl
theorem q1766 : (Jvm.Cond.code ({ cls := "CandleStatuteModel", name := "isIn", desc := "(III)Z" } : Jvm.MethodName) prog_16_method_4_code (3 : Nat) (Option.some Jvm.ClassFile.FieldType.boolean)) ∈ lw_all := lw_g (lw_at lw_m8 8 rfl) rfl
theorem q1767 : (Jvm.Cond.methodLink "CandleStatuteModel" (57 : Nat) ({ cls := "CandleStatuteModel", name := "fail", desc := "(I)I" } : Jvm.MethodName)) ∈ lw_all := lw_g (lw_at lw_m8 9 rfl) rfl
theorem q1768 : (Jvm.Cond.privateMethod ({ cls := "CandleStatuteModel", name := "fail", desc := "(I)I" } : Jvm.MethodName)) ∈ lw_tbl := lw_at lw_m8 10 rfl
theorem q1769 : (Jvm.Cond.instanceMethod ({ cls := "CandleStatuteModel", name := "fail", desc := "(I)I" } : Jvm.MethodName)) ∈ lw_all := lw_g (lw_at lw_m8 11 rfl) rfl
theorem q1770 : (Jvm.Cond.code ({ cls := "CandleStatuteModel", name := "fail", desc := "(I)I" } : Jvm.MethodName) prog_16_method_2_code (2 : Nat) (Option.some Jvm.ClassFile.FieldType.int)) ∈ lw_all := lw_g (lw_at lw_m8 12 rfl) rfl
theorem q1771 : (Jvm.Cond.methodLink "CandleStatuteModel" (85 : Nat) ({ cls := "CandleStatuteModel", name := "isMade", desc := "(II)Z" } : Jvm.MethodName)) ∈ lw_all := lw_g (lw_at lw_m8 13 rfl) rfl
theorem q1772 : (Jvm.Cond.static ({ cls := "CandleStatuteModel", name := "isMade", desc := "(II)Z" } : Jvm.MethodName)) ∈ lw_all := lw_g (lw_at lw_m8 14 rfl) rfl
theorem q1773 : (Jvm.Cond.code ({ cls := "CandleStatuteModel", name := "isMade", desc := "(II)Z" } : Jvm.MethodName) prog_16_method_18_code (2 : Nat) (Option.some Jvm.ClassFile.FieldType.boolean)) ∈ lw_all := lw_g (lw_at lw_m8 15 rfl) rfl
theorem q1774 : (Jvm.Cond.methodLink "CandleStatuteModel" (89 : Nat) ({ cls := "CandleStatuteModel", name := "isOpen", desc := "(I)Z" } : Jvm.MethodName)) ∈ lw_all := lw_g (lw_at lw_m8 16 rfl) rfl
theorem q1775 : (Jvm.Cond.privateMethod ({ cls := "CandleStatuteModel", name := "isOpen", desc := "(I)Z" } : Jvm.MethodName)) ∈ lw_tbl := lw_at lw_m8 17 rfl
theorem q1776 : (Jvm.Cond.instanceMethod ({ cls := "CandleStatuteModel", name := "isOpen", desc := "(I)Z" } : Jvm.MethodName)) ∈ lw_all := lw_g (lw_at lw_m8 18 rfl) rfl
theorem q1777 : (Jvm.Cond.code ({ cls := "CandleStatuteModel", name := "isOpen", desc := "(I)Z" } : Jvm.MethodName) prog_16_method_12_code (2 : Nat) (Option.some Jvm.ClassFile.FieldType.boolean)) ∈ lw_all := lw_g (lw_at lw_m8 19 rfl) rfl
theorem q1778 : (Jvm.Cond.methodLink "CandleStatuteModel" (78 : Nat) ({ cls := "CandleStatuteModel", name := "refuses", desc := "(II)I" } : Jvm.MethodName)) ∈ lw_all := lw_g (lw_at lw_m8 20 rfl) rfl
theorem q1779 : (Jvm.Cond.privateMethod ({ cls := "CandleStatuteModel", name := "refuses", desc := "(II)I" } : Jvm.MethodName)) ∈ lw_tbl := lw_at lw_m8 21 rfl
theorem q1780 : (Jvm.Cond.instanceMethod ({ cls := "CandleStatuteModel", name := "refuses", desc := "(II)I" } : Jvm.MethodName)) ∈ lw_all := lw_g (lw_at lw_m8 22 rfl) rfl
theorem q1781 : (Jvm.Cond.code ({ cls := "CandleStatuteModel", name := "refuses", desc := "(II)I" } : Jvm.MethodName) prog_16_method_3_code (3 : Nat) (Option.some Jvm.ClassFile.FieldType.int)) ∈ lw_all := lw_g (lw_at lw_m8 23 rfl) rfl
theorem q1782 : (Jvm.Cond.methodLink "CandleStatuteModel" (92 : Nat) ({ cls := "CandleStatuteModel", name := "makes", desc := "(III)I" } : Jvm.MethodName)) ∈ lw_all := lw_g (lw_at lw_m8 24 rfl) rfl
theorem q1783 : (Jvm.Cond.privateMethod ({ cls := "CandleStatuteModel", name := "makes", desc := "(III)I" } : Jvm.MethodName)) ∈ lw_tbl := lw_at lw_m8 25 rfl
theorem q1784 : (Jvm.Cond.instanceMethod ({ cls := "CandleStatuteModel", name := "makes", desc := "(III)I" } : Jvm.MethodName)) ∈ lw_all := lw_g (lw_at lw_m8 26 rfl) rfl
theorem q1785 : (Jvm.Cond.code ({ cls := "CandleStatuteModel", name := "makes", desc := "(III)I" } : Jvm.MethodName) prog_16_method_19_code (7 : Nat) (Option.some Jvm.ClassFile.FieldType.int)) ∈ lw_all := lw_g (lw_at lw_m8 27 rfl) rfl
theorem q1786 : (Jvm.Cond.methodLink "CandleStatuteModel" (75 : Nat) ({ cls := "CandleStatuteModel", name := "tray", desc := "(I)I" } : Jvm.MethodName)) ∈ lw_all := lw_g (lw_at lw_m8 28 rfl) rfl
theorem q1787 : (Jvm.Cond.privateMethod ({ cls := "CandleStatuteModel", name := "tray", desc := "(I)I" } : Jvm.MethodName)) ∈ lw_tbl := lw_at lw_m8 29 rfl
theorem q1788 : (Jvm.Cond.instanceMethod ({ cls := "CandleStatuteModel", name := "tray", desc := "(I)I" } : Jvm.MethodName)) ∈ lw_all := lw_g (lw_at lw_m8 30 rfl) rfl
theorem q1789 : (Jvm.Cond.code ({ cls := "CandleStatuteModel", name := "tray", desc := "(I)I" } : Jvm.MethodName) prog_16_method_14_code (4 : Nat) (Option.some Jvm.ClassFile.FieldType.int)) ∈ lw_all := lw_g (lw_at lw_m8 31 rfl) rfl
theorem q1790 : (Jvm.Cond.methodLink "CandleStatuteModel" (72 : Nat) ({ cls := "CandleStatuteModel", name := "in", desc := "(II)I" } : Jvm.MethodName)) ∈ lw_all := lw_g (lw_at lw_m8 32 rfl) rfl
theorem q1791 : (Jvm.Cond.static ({ cls := "CandleStatuteModel", name := "in", desc := "(II)I" } : Jvm.MethodName)) ∈ lw_all := lw_g (lw_at lw_m8 33 rfl) rfl
theorem q1792 : (Jvm.Cond.code ({ cls := "CandleStatuteModel", name := "in", desc := "(II)I" } : Jvm.MethodName) prog_16_method_9_code (2 : Nat) (Option.some Jvm.ClassFile.FieldType.int)) ∈ lw_all := lw_g (lw_at lw_m8 34 rfl) rfl
theorem q1793 : (Jvm.Cond.methodLink "CandleStatuteModel" (102 : Nat) ({ cls := "CandleStatuteModel", name := "ends", desc := "(I)I" } : Jvm.MethodName)) ∈ lw_all := lw_g (lw_at lw_m8 35 rfl) rfl
theorem q1794 : (Jvm.Cond.privateMethod ({ cls := "CandleStatuteModel", name := "ends", desc := "(I)I" } : Jvm.MethodName)) ∈ lw_tbl := lw_at lw_m8 36 rfl
theorem q1795 : (Jvm.Cond.instanceMethod ({ cls := "CandleStatuteModel", name := "ends", desc := "(I)I" } : Jvm.MethodName)) ∈ lw_all := lw_g (lw_at lw_m8 37 rfl) rfl
theorem q1796 : (Jvm.Cond.code ({ cls := "CandleStatuteModel", name := "ends", desc := "(I)I" } : Jvm.MethodName) prog_16_method_7_code (3 : Nat) (Option.some Jvm.ClassFile.FieldType.int)) ∈ lw_all := lw_g (lw_at lw_m8 38 rfl) rfl
theorem q1798 : (Jvm.Cond.instanceMethod ({ cls := "CandleStatuteModel", name := "burn", desc := "(II)I" } : Jvm.MethodName)) ∈ lw_all := lw_g (lw_at lw_m8 40 rfl) rfl
theorem q1799 : (Jvm.Cond.selects "CandleStatuteModel" ({ cls := "CandleStatuteModel", name := "burn", desc := "(II)I" } : Jvm.MethodName) ({ cls := "CandleStatuteModel", name := "burn", desc := "(II)I" } : Jvm.MethodName)) ∈ lw_all := lw_g (lw_at lw_m8 41 rfl) rfl
theorem q1800 : (Jvm.Cond.code ({ cls := "CandleStatuteModel", name := "burn", desc := "(II)I" } : Jvm.MethodName) prog_16_method_24_code (3 : Nat) (Option.some Jvm.ClassFile.FieldType.int)) ∈ lw_all := lw_g (lw_at lw_m8 42 rfl) rfl
theorem q1801 : (Jvm.Cond.methodLink "CandleStatuteModel" (118 : Nat) ({ cls := "CandleStatuteModel", name := "burns", desc := "(II)I" } : Jvm.MethodName)) ∈ lw_all := lw_g (lw_at lw_m8 43 rfl) rfl
theorem q1802 : (Jvm.Cond.privateMethod ({ cls := "CandleStatuteModel", name := "burns", desc := "(II)I" } : Jvm.MethodName)) ∈ lw_tbl := lw_at lw_m8 44 rfl
theorem q1803 : (Jvm.Cond.instanceMethod ({ cls := "CandleStatuteModel", name := "burns", desc := "(II)I" } : Jvm.MethodName)) ∈ lw_all := lw_g (lw_at lw_m8 45 rfl) rfl
theorem q1804 : (Jvm.Cond.code ({ cls := "CandleStatuteModel", name := "burns", desc := "(II)I" } : Jvm.MethodName) prog_16_method_23_code (5 : Nat) (Option.some Jvm.ClassFile.FieldType.int)) ∈ lw_all := lw_g (lw_at lw_m8 46 rfl) rfl
theorem q1805 : (Jvm.Cond.methodLink "CandleStatuteModel" (108 : Nat) ({ cls := "CandleStatuteModel", name := "isStub", desc := "(I)Z" } : Jvm.MethodName)) ∈ lw_all := lw_g (lw_at lw_m8 47 rfl) rfl
theorem q1806 : (Jvm.Cond.privateMethod ({ cls := "CandleStatuteModel", name := "isStub", desc := "(I)Z" } : Jvm.MethodName)) ∈ lw_tbl := lw_at lw_m8 48 rfl
theorem q1807 : (Jvm.Cond.instanceMethod ({ cls := "CandleStatuteModel", name := "isStub", desc := "(I)Z" } : Jvm.MethodName)) ∈ lw_all := lw_g (lw_at lw_m8 49 rfl) rfl
theorem q1808 : (Jvm.Cond.code ({ cls := "CandleStatuteModel", name := "isStub", desc := "(I)Z" } : Jvm.MethodName) prog_16_method_11_code (2 : Nat) (Option.some Jvm.ClassFile.FieldType.boolean)) ∈ lw_all := lw_g (lw_at lw_m8 50 rfl) rfl
theorem q1809 : (Jvm.Cond.methodLink "CandleStatuteModel" (111 : Nat) ({ cls := "CandleStatuteModel", name := "refusesBurning", desc := "(III)I" } : Jvm.MethodName)) ∈ lw_all := lw_g (lw_at lw_m8 51 rfl) rfl
theorem q1810 : (Jvm.Cond.privateMethod ({ cls := "CandleStatuteModel", name := "refusesBurning", desc := "(III)I" } : Jvm.MethodName)) ∈ lw_tbl := lw_at lw_m8 52 rfl
theorem q1811 : (Jvm.Cond.instanceMethod ({ cls := "CandleStatuteModel", name := "refusesBurning", desc := "(III)I" } : Jvm.MethodName)) ∈ lw_all := lw_g (lw_at lw_m8 53 rfl) rfl
theorem q1812 : (Jvm.Cond.code ({ cls := "CandleStatuteModel", name := "refusesBurning", desc := "(III)I" } : Jvm.MethodName) prog_16_method_22_code (5 : Nat) (Option.some Jvm.ClassFile.FieldType.int)) ∈ lw_all := lw_g (lw_at lw_m8 54 rfl) rfl
theorem q1813 : (Jvm.Cond.methodLink "CandleStatuteModel" (114 : Nat) ({ cls := "CandleStatuteModel", name := "goes", desc := "(I)V" } : Jvm.MethodName)) ∈ lw_all := lw_g (lw_at lw_m8 55 rfl) rfl
theorem q1814 : (Jvm.Cond.privateMethod ({ cls := "CandleStatuteModel", name := "goes", desc := "(I)V" } : Jvm.MethodName)) ∈ lw_tbl := lw_at lw_m8 56 rfl
theorem q1815 : (Jvm.Cond.instanceMethod ({ cls := "CandleStatuteModel", name := "goes", desc := "(I)V" } : Jvm.MethodName)) ∈ lw_all := lw_g (lw_at lw_m8 57 rfl) rfl
theorem q1816 : (Jvm.Cond.code ({ cls := "CandleStatuteModel", name := "goes", desc := "(I)V" } : Jvm.MethodName) prog_16_method_15_code (3 : Nat) (Option.none : Option Jvm.ClassFile.FieldType)) ∈ lw_all := lw_g (lw_at lw_m8 58 rfl) rfl
theorem q1818 : (Jvm.Cond.instanceMethod ({ cls := "CandleStatuteModel", name := "owe", desc := "(III)I" } : Jvm.MethodName)) ∈ lw_all := lw_g (lw_at lw_m8 60 rfl) rfl
theorem q1819 : (Jvm.Cond.selects "CandleStatuteModel" ({ cls := "CandleStatuteModel", name := "owe", desc := "(III)I" } : Jvm.MethodName) ({ cls := "CandleStatuteModel", name := "owe", desc := "(III)I" } : Jvm.MethodName)) ∈ lw_all := lw_g (lw_at lw_m8 61 rfl) rfl
theorem q1820 : (Jvm.Cond.code ({ cls := "CandleStatuteModel", name := "owe", desc := "(III)I" } : Jvm.MethodName) prog_16_method_26_code (4 : Nat) (Option.some Jvm.ClassFile.FieldType.int)) ∈ lw_all := lw_g (lw_at lw_m8 62 rfl) rfl
theorem q1821 : (Jvm.Cond.methodLink "CandleStatuteModel" (124 : Nat) ({ cls := "CandleStatuteModel", name := "owes", desc := "(III)I" } : Jvm.MethodName)) ∈ lw_all := lw_g (lw_at lw_m8 63 rfl) rfl
theorem q1822 : (Jvm.Cond.privateMethod ({ cls := "CandleStatuteModel", name := "owes", desc := "(III)I" } : Jvm.MethodName)) ∈ lw_tbl := lw_at lw_m8 64 rfl
theorem q1823 : (Jvm.Cond.instanceMethod ({ cls := "CandleStatuteModel", name := "owes", desc := "(III)I" } : Jvm.MethodName)) ∈ lw_all := lw_g (lw_at lw_m8 65 rfl) rfl
theorem q1824 : (Jvm.Cond.code ({ cls := "CandleStatuteModel", name := "owes", desc := "(III)I" } : Jvm.MethodName) prog_16_method_25_code (4 : Nat) (Option.some Jvm.ClassFile.FieldType.int)) ∈ lw_all := lw_g (lw_at lw_m8 66 rfl) rfl
theorem q1825 : (Jvm.Cond.methodLink "CandleStatuteModel" (121 : Nat) ({ cls := "CandleStatuteModel", name := "owed", desc := "(I)I" } : Jvm.MethodName)) ∈ lw_all := lw_g (lw_at lw_m8 67 rfl) rfl
theorem q1826 : (Jvm.Cond.privateMethod ({ cls := "CandleStatuteModel", name := "owed", desc := "(I)I" } : Jvm.MethodName)) ∈ lw_tbl := lw_at lw_m8 68 rfl
theorem q1827 : (Jvm.Cond.instanceMethod ({ cls := "CandleStatuteModel", name := "owed", desc := "(I)I" } : Jvm.MethodName)) ∈ lw_all := lw_g (lw_at lw_m8 69 rfl) rfl
theorem q1828 : (Jvm.Cond.code ({ cls := "CandleStatuteModel", name := "owed", desc := "(I)I" } : Jvm.MethodName) prog_16_method_16_code (4 : Nat) (Option.some Jvm.ClassFile.FieldType.int)) ∈ lw_all := lw_g (lw_at lw_m8 70 rfl) rfl
theorem q1830 : (Jvm.Cond.instanceMethod ({ cls := "CandleStatuteModel", name := "writ", desc := "(III)I" } : Jvm.MethodName)) ∈ lw_all := lw_g (lw_at lw_m8 72 rfl) rfl
theorem q1831 : (Jvm.Cond.selects "CandleStatuteModel" ({ cls := "CandleStatuteModel", name := "writ", desc := "(III)I" } : Jvm.MethodName) ({ cls := "CandleStatuteModel", name := "writ", desc := "(III)I" } : Jvm.MethodName)) ∈ lw_all := lw_g (lw_at lw_m8 73 rfl) rfl
theorem q1832 : (Jvm.Cond.code ({ cls := "CandleStatuteModel", name := "writ", desc := "(III)I" } : Jvm.MethodName) prog_16_method_28_code (4 : Nat) (Option.some Jvm.ClassFile.FieldType.int)) ∈ lw_all := lw_g (lw_at lw_m8 74 rfl) rfl
theorem q1833 : (Jvm.Cond.methodLink "CandleStatuteModel" (130 : Nat) ({ cls := "CandleStatuteModel", name := "snuffs", desc := "(III)I" } : Jvm.MethodName)) ∈ lw_all := lw_g (lw_at lw_m8 75 rfl) rfl
theorem q1834 : (Jvm.Cond.privateMethod ({ cls := "CandleStatuteModel", name := "snuffs", desc := "(III)I" } : Jvm.MethodName)) ∈ lw_tbl := lw_at lw_m8 76 rfl
theorem q1835 : (Jvm.Cond.instanceMethod ({ cls := "CandleStatuteModel", name := "snuffs", desc := "(III)I" } : Jvm.MethodName)) ∈ lw_all := lw_g (lw_at lw_m8 77 rfl) rfl
theorem q1836 : (Jvm.Cond.code ({ cls := "CandleStatuteModel", name := "snuffs", desc := "(III)I" } : Jvm.MethodName) prog_16_method_27_code (4 : Nat) (Option.some Jvm.ClassFile.FieldType.int)) ∈ lw_all := lw_g (lw_at lw_m8 78 rfl) rfl
theorem q1837 : (Jvm.Cond.methodLink "CandleStatuteModel" (127 : Nat) ({ cls := "CandleStatuteModel", name := "writs", desc := "(I)I" } : Jvm.MethodName)) ∈ lw_all := lw_g (lw_at lw_m8 79 rfl) rfl
theorem q1838 : (Jvm.Cond.privateMethod ({ cls := "CandleStatuteModel", name := "writs", desc := "(I)I" } : Jvm.MethodName)) ∈ lw_tbl := lw_at lw_m8 80 rfl
theorem q1839 : (Jvm.Cond.instanceMethod ({ cls := "CandleStatuteModel", name := "writs", desc := "(I)I" } : Jvm.MethodName)) ∈ lw_all := lw_g (lw_at lw_m8 81 rfl) rfl
theorem q1840 : (Jvm.Cond.code ({ cls := "CandleStatuteModel", name := "writs", desc := "(I)I" } : Jvm.MethodName) prog_16_method_17_code (4 : Nat) (Option.some Jvm.ClassFile.FieldType.int)) ∈ lw_all := lw_g (lw_at lw_m8 82 rfl) rfl
theorem q1842 : (Jvm.Cond.instanceMethod ({ cls := "CandleStatuteModel", name := "stubOf", desc := "(II)I" } : Jvm.MethodName)) ∈ lw_all := lw_g (lw_at lw_m8 84 rfl) rfl
theorem q1843 : (Jvm.Cond.selects "CandleStatuteModel" ({ cls := "CandleStatuteModel", name := "stubOf", desc := "(II)I" } : Jvm.MethodName) ({ cls := "CandleStatuteModel", name := "stubOf", desc := "(II)I" } : Jvm.MethodName)) ∈ lw_all := lw_g (lw_at lw_m8 85 rfl) rfl
theorem q1844 : (Jvm.Cond.code ({ cls := "CandleStatuteModel", name := "stubOf", desc := "(II)I" } : Jvm.MethodName) prog_16_method_29_code (4 : Nat) (Option.some Jvm.ClassFile.FieldType.int)) ∈ lw_all := lw_g (lw_at lw_m8 86 rfl) rfl
theorem q1846 : (Jvm.Cond.instanceMethod ({ cls := "CandleStatuteModel", name := "pool", desc := "(II)I" } : Jvm.MethodName)) ∈ lw_all := lw_g (lw_at lw_m8 88 rfl) rfl
theorem q1847 : (Jvm.Cond.selects "CandleStatuteModel" ({ cls := "CandleStatuteModel", name := "pool", desc := "(II)I" } : Jvm.MethodName) ({ cls := "CandleStatuteModel", name := "pool", desc := "(II)I" } : Jvm.MethodName)) ∈ lw_all := lw_g (lw_at lw_m8 89 rfl) rfl
theorem q1848 : (Jvm.Cond.code ({ cls := "CandleStatuteModel", name := "pool", desc := "(II)I" } : Jvm.MethodName) prog_16_method_32_code (3 : Nat) (Option.some Jvm.ClassFile.FieldType.int)) ∈ lw_all := lw_g (lw_at lw_m8 90 rfl) rfl
theorem q1849 : (Jvm.Cond.methodLink "CandleStatuteModel" (137 : Nat) ({ cls := "CandleStatuteModel", name := "pools", desc := "(II)I" } : Jvm.MethodName)) ∈ lw_all := lw_g (lw_at lw_m8 91 rfl) rfl
theorem q1850 : (Jvm.Cond.privateMethod ({ cls := "CandleStatuteModel", name := "pools", desc := "(II)I" } : Jvm.MethodName)) ∈ lw_tbl := lw_at lw_m8 92 rfl
theorem q1851 : (Jvm.Cond.instanceMethod ({ cls := "CandleStatuteModel", name := "pools", desc := "(II)I" } : Jvm.MethodName)) ∈ lw_all := lw_g (lw_at lw_m8 93 rfl) rfl
theorem q1852 : (Jvm.Cond.code ({ cls := "CandleStatuteModel", name := "pools", desc := "(II)I" } : Jvm.MethodName) prog_16_method_31_code (4 : Nat) (Option.some Jvm.ClassFile.FieldType.int)) ∈ lw_all := lw_g (lw_at lw_m8 94 rfl) rfl
theorem q1853 : (Jvm.Cond.methodLink "CandleStatuteModel" (133 : Nat) ({ cls := "CandleStatuteModel", name := "pooled", desc := "()I" } : Jvm.MethodName)) ∈ lw_all := lw_g (lw_at lw_m8 95 rfl) rfl
theorem q1854 : (Jvm.Cond.privateMethod ({ cls := "CandleStatuteModel", name := "pooled", desc := "()I" } : Jvm.MethodName)) ∈ lw_tbl := lw_at lw_m8 96 rfl
theorem q1855 : (Jvm.Cond.instanceMethod ({ cls := "CandleStatuteModel", name := "pooled", desc := "()I" } : Jvm.MethodName)) ∈ lw_all := lw_g (lw_at lw_m8 97 rfl) rfl
theorem q1856 : (Jvm.Cond.code ({ cls := "CandleStatuteModel", name := "pooled", desc := "()I" } : Jvm.MethodName) prog_16_method_30_code (3 : Nat) (Option.some Jvm.ClassFile.FieldType.int)) ∈ lw_all := lw_g (lw_at lw_m8 98 rfl) rfl
theorem q1858 : (Jvm.Cond.instanceMethod ({ cls := "CandleStatuteModel", name := "share", desc := "()I" } : Jvm.MethodName)) ∈ lw_all := lw_g (lw_at lw_m8 100 rfl) rfl
theorem q1859 : (Jvm.Cond.selects "CandleStatuteModel" ({ cls := "CandleStatuteModel", name := "share", desc := "()I" } : Jvm.MethodName) ({ cls := "CandleStatuteModel", name := "share", desc := "()I" } : Jvm.MethodName)) ∈ lw_all := lw_g (lw_at lw_m8 101 rfl) rfl
theorem q1860 : (Jvm.Cond.code ({ cls := "CandleStatuteModel", name := "share", desc := "()I" } : Jvm.MethodName) prog_16_method_37_code (1 : Nat) (Option.some Jvm.ClassFile.FieldType.int)) ∈ lw_all := lw_g (lw_at lw_m8 102 rfl) rfl
theorem q1861 : (Jvm.Cond.methodLink "CandleStatuteModel" (149 : Nat) ({ cls := "CandleStatuteModel", name := "shares", desc := "()I" } : Jvm.MethodName)) ∈ lw_all := lw_g (lw_at lw_m8 103 rfl) rfl
theorem q1862 : (Jvm.Cond.privateMethod ({ cls := "CandleStatuteModel", name := "shares", desc := "()I" } : Jvm.MethodName)) ∈ lw_tbl := lw_at lw_m8 104 rfl
theorem q1863 : (Jvm.Cond.instanceMethod ({ cls := "CandleStatuteModel", name := "shares", desc := "()I" } : Jvm.MethodName)) ∈ lw_all := lw_g (lw_at lw_m8 105 rfl) rfl
theorem q1864 : (Jvm.Cond.code ({ cls := "CandleStatuteModel", name := "shares", desc := "()I" } : Jvm.MethodName) prog_16_method_36_code (3 : Nat) (Option.some Jvm.ClassFile.FieldType.int)) ∈ lw_all := lw_g (lw_at lw_m8 106 rfl) rfl
theorem q1865 : (Jvm.Cond.methodLink "CandleStatuteModel" (143 : Nat) ({ cls := "CandleStatuteModel", name := "claims", desc := "()I" } : Jvm.MethodName)) ∈ lw_all := lw_g (lw_at lw_m8 107 rfl) rfl
theorem q1866 : (Jvm.Cond.privateMethod ({ cls := "CandleStatuteModel", name := "claims", desc := "()I" } : Jvm.MethodName)) ∈ lw_tbl := lw_at lw_m8 108 rfl
theorem q1867 : (Jvm.Cond.instanceMethod ({ cls := "CandleStatuteModel", name := "claims", desc := "()I" } : Jvm.MethodName)) ∈ lw_all := lw_g (lw_at lw_m8 109 rfl) rfl
theorem q1868 : (Jvm.Cond.code ({ cls := "CandleStatuteModel", name := "claims", desc := "()I" } : Jvm.MethodName) prog_16_method_34_code (3 : Nat) (Option.some Jvm.ClassFile.FieldType.int)) ∈ lw_all := lw_g (lw_at lw_m8 110 rfl) rfl
theorem q1869 : (Jvm.Cond.methodLink "CandleStatuteModel" (140 : Nat) ({ cls := "CandleStatuteModel", name := "claim", desc := "(I)I" } : Jvm.MethodName)) ∈ lw_all := lw_g (lw_at lw_m8 111 rfl) rfl
theorem q1870 : (Jvm.Cond.privateMethod ({ cls := "CandleStatuteModel", name := "claim", desc := "(I)I" } : Jvm.MethodName)) ∈ lw_tbl := lw_at lw_m8 112 rfl
theorem q1871 : (Jvm.Cond.instanceMethod ({ cls := "CandleStatuteModel", name := "claim", desc := "(I)I" } : Jvm.MethodName)) ∈ lw_all := lw_g (lw_at lw_m8 113 rfl) rfl
theorem q1872 : (Jvm.Cond.code ({ cls := "CandleStatuteModel", name := "claim", desc := "(I)I" } : Jvm.MethodName) prog_16_method_33_code (2 : Nat) (Option.some Jvm.ClassFile.FieldType.int)) ∈ lw_all := lw_g (lw_at lw_m8 114 rfl) rfl
theorem q1873 : (Jvm.Cond.methodLink "CandleStatuteModel" (146 : Nat) ({ cls := "CandleStatuteModel", name := "finds", desc := "()V" } : Jvm.MethodName)) ∈ lw_all := lw_g (lw_at lw_m8 115 rfl) rfl
theorem q1874 : (Jvm.Cond.privateMethod ({ cls := "CandleStatuteModel", name := "finds", desc := "()V" } : Jvm.MethodName)) ∈ lw_tbl := lw_at lw_m8 116 rfl
theorem q1875 : (Jvm.Cond.instanceMethod ({ cls := "CandleStatuteModel", name := "finds", desc := "()V" } : Jvm.MethodName)) ∈ lw_all := lw_g (lw_at lw_m8 117 rfl) rfl
theorem q1876 : (Jvm.Cond.code ({ cls := "CandleStatuteModel", name := "finds", desc := "()V" } : Jvm.MethodName) prog_16_method_35_code (6 : Nat) (Option.none : Option Jvm.ClassFile.FieldType)) ∈ lw_all := lw_g (lw_at lw_m8 118 rfl) rfl
theorem q1878 : (Jvm.Cond.instanceMethod ({ cls := "CandleStatuteModel", name := "part", desc := "(I)I" } : Jvm.MethodName)) ∈ lw_all := lw_g (lw_at lw_m8 120 rfl) rfl
theorem q1879 : (Jvm.Cond.selects "CandleStatuteModel" ({ cls := "CandleStatuteModel", name := "part", desc := "(I)I" } : Jvm.MethodName) ({ cls := "CandleStatuteModel", name := "part", desc := "(I)I" } : Jvm.MethodName)) ∈ lw_all := lw_g (lw_at lw_m8 121 rfl) rfl
theorem q1880 : (Jvm.Cond.code ({ cls := "CandleStatuteModel", name := "part", desc := "(I)I" } : Jvm.MethodName) prog_16_method_38_code (2 : Nat) (Option.some Jvm.ClassFile.FieldType.int)) ∈ lw_all := lw_g (lw_at lw_m8 122 rfl) rfl
theorem q1882 : (Jvm.Cond.instanceMethod ({ cls := "CandleStatuteModel", name := "partAgain", desc := "(I)I" } : Jvm.MethodName)) ∈ lw_all := lw_g (lw_at lw_m8 124 rfl) rfl
theorem q1883 : (Jvm.Cond.selects "CandleStatuteModel" ({ cls := "CandleStatuteModel", name := "partAgain", desc := "(I)I" } : Jvm.MethodName) ({ cls := "CandleStatuteModel", name := "partAgain", desc := "(I)I" } : Jvm.MethodName)) ∈ lw_all := lw_g (lw_at lw_m8 125 rfl) rfl
theorem q1884 : (Jvm.Cond.code ({ cls := "CandleStatuteModel", name := "partAgain", desc := "(I)I" } : Jvm.MethodName) prog_16_method_39_code (2 : Nat) (Option.some Jvm.ClassFile.FieldType.int)) ∈ lw_all := lw_g (lw_at lw_m8 126 rfl) rfl
theorem q1885 : (Jvm.Cond.methodLink "CandleStatuteModel" (152 : Nat) ({ cls := "CandleStatuteModel", name := "part", desc := "(I)I" } : Jvm.MethodName)) ∈ lw_all := lw_g (lw_at lw_m8 127 rfl) rfl
theorem q1887 : (Jvm.Cond.instanceMethod ({ cls := "CandleStatuteModel", name := "mould", desc := "(III)I" } : Jvm.MethodName)) ∈ lw_all := lw_g (lw_at lw_m8 129 rfl) rfl
theorem q1888 : (Jvm.Cond.selects "CandleStatuteModel" ({ cls := "CandleStatuteModel", name := "mould", desc := "(III)I" } : Jvm.MethodName) ({ cls := "CandleStatuteModel", name := "mould", desc := "(III)I" } : Jvm.MethodName)) ∈ lw_all := lw_g (lw_at lw_m8 130 rfl) rfl
theorem q1889 : (Jvm.Cond.code ({ cls := "CandleStatuteModel", name := "mould", desc := "(III)I" } : Jvm.MethodName) prog_16_method_41_code (4 : Nat) (Option.some Jvm.ClassFile.FieldType.int)) ∈ lw_all := lw_g (lw_at lw_m8 131 rfl) rfl
theorem q1890 : (Jvm.Cond.methodLink "CandleStatuteModel" (155 : Nat) ({ cls := "CandleStatuteModel", name := "moulds", desc := "(III)I" } : Jvm.MethodName)) ∈ lw_all := lw_g (lw_at lw_m8 132 rfl) rfl
theorem q1891 : (Jvm.Cond.privateMethod ({ cls := "CandleStatuteModel", name := "moulds", desc := "(III)I" } : Jvm.MethodName)) ∈ lw_tbl := lw_at lw_m8 133 rfl
theorem q1892 : (Jvm.Cond.instanceMethod ({ cls := "CandleStatuteModel", name := "moulds", desc := "(III)I" } : Jvm.MethodName)) ∈ lw_all := lw_g (lw_at lw_m8 134 rfl) rfl
theorem q1893 : (Jvm.Cond.code ({ cls := "CandleStatuteModel", name := "moulds", desc := "(III)I" } : Jvm.MethodName) prog_16_method_40_code (4 : Nat) (Option.some Jvm.ClassFile.FieldType.int)) ∈ lw_all := lw_g (lw_at lw_m8 135 rfl) rfl
theorem q1895 : (Jvm.Cond.instanceMethod ({ cls := "CandleStatuteModel", name := "heir", desc := "(II)I" } : Jvm.MethodName)) ∈ lw_all := lw_g (lw_at lw_m8 137 rfl) rfl
theorem q1896 : (Jvm.Cond.selects "CandleStatuteModel" ({ cls := "CandleStatuteModel", name := "heir", desc := "(II)I" } : Jvm.MethodName) ({ cls := "CandleStatuteModel", name := "heir", desc := "(II)I" } : Jvm.MethodName)) ∈ lw_all := lw_g (lw_at lw_m8 138 rfl) rfl
theorem q1897 : (Jvm.Cond.code ({ cls := "CandleStatuteModel", name := "heir", desc := "(II)I" } : Jvm.MethodName) prog_16_method_43_code (3 : Nat) (Option.some Jvm.ClassFile.FieldType.int)) ∈ lw_all := lw_g (lw_at lw_m8 139 rfl) rfl
theorem q1898 : (Jvm.Cond.methodLink "CandleStatuteModel" (158 : Nat) ({ cls := "CandleStatuteModel", name := "tellsHeir", desc := "(II)I" } : Jvm.MethodName)) ∈ lw_all := lw_g (lw_at lw_m8 140 rfl) rfl
theorem q1899 : (Jvm.Cond.privateMethod ({ cls := "CandleStatuteModel", name := "tellsHeir", desc := "(II)I" } : Jvm.MethodName)) ∈ lw_tbl := lw_at lw_m8 141 rfl
theorem q1900 : (Jvm.Cond.instanceMethod ({ cls := "CandleStatuteModel", name := "tellsHeir", desc := "(II)I" } : Jvm.MethodName)) ∈ lw_all := lw_g (lw_at lw_m8 142 rfl) rfl
theorem q1901 : (Jvm.Cond.code ({ cls := "CandleStatuteModel", name := "tellsHeir", desc := "(II)I" } : Jvm.MethodName) prog_16_method_42_code (4 : Nat) (Option.some Jvm.ClassFile.FieldType.int)) ∈ lw_all := lw_g (lw_at lw_m8 143 rfl) rfl
theorem q1903 : (Jvm.Cond.instanceMethod ({ cls := "CandleStatuteModel", name := "end", desc := "(I)I" } : Jvm.MethodName)) ∈ lw_all := lw_g (lw_at lw_m8 145 rfl) rfl
theorem q1904 : (Jvm.Cond.selects "CandleStatuteModel" ({ cls := "CandleStatuteModel", name := "end", desc := "(I)I" } : Jvm.MethodName) ({ cls := "CandleStatuteModel", name := "end", desc := "(I)I" } : Jvm.MethodName)) ∈ lw_all := lw_g (lw_at lw_m8 146 rfl) rfl
theorem q1905 : (Jvm.Cond.code ({ cls := "CandleStatuteModel", name := "end", desc := "(I)I" } : Jvm.MethodName) prog_16_method_48_code (2 : Nat) (Option.some Jvm.ClassFile.FieldType.int)) ∈ lw_all := lw_g (lw_at lw_m8 147 rfl) rfl
theorem q1906 : (Jvm.Cond.methodLink "CandleStatuteModel" (176 : Nat) ({ cls := "CandleStatuteModel", name := "closes", desc := "(I)I" } : Jvm.MethodName)) ∈ lw_all := lw_g (lw_at lw_m8 148 rfl) rfl
theorem q1907 : (Jvm.Cond.privateMethod ({ cls := "CandleStatuteModel", name := "closes", desc := "(I)I" } : Jvm.MethodName)) ∈ lw_tbl := lw_at lw_m8 149 rfl
theorem q1908 : (Jvm.Cond.instanceMethod ({ cls := "CandleStatuteModel", name := "closes", desc := "(I)I" } : Jvm.MethodName)) ∈ lw_all := lw_g (lw_at lw_m8 150 rfl) rfl
theorem q1909 : (Jvm.Cond.code ({ cls := "CandleStatuteModel", name := "closes", desc := "(I)I" } : Jvm.MethodName) prog_16_method_47_code (4 : Nat) (Option.some Jvm.ClassFile.FieldType.int)) ∈ lw_all := lw_g (lw_at lw_m8 151 rfl) rfl
theorem q1910 : (Jvm.Cond.methodLink "CandleStatuteModel" (161 : Nat) ({ cls := "CandleStatuteModel", name := "opens", desc := "()I" } : Jvm.MethodName)) ∈ lw_all := lw_g (lw_at lw_m8 152 rfl) rfl
theorem q1911 : (Jvm.Cond.privateMethod ({ cls := "CandleStatuteModel", name := "opens", desc := "()I" } : Jvm.MethodName)) ∈ lw_tbl := lw_at lw_m8 153 rfl
theorem q1912 : (Jvm.Cond.instanceMethod ({ cls := "CandleStatuteModel", name := "opens", desc := "()I" } : Jvm.MethodName)) ∈ lw_all := lw_g (lw_at lw_m8 154 rfl) rfl
theorem q1913 : (Jvm.Cond.code ({ cls := "CandleStatuteModel", name := "opens", desc := "()I" } : Jvm.MethodName) prog_16_method_13_code (3 : Nat) (Option.some Jvm.ClassFile.FieldType.int)) ∈ lw_all := lw_g (lw_at lw_m8 155 rfl) rfl
theorem q1914 : (Jvm.Cond.methodLink "CandleStatuteModel" (164 : Nat) ({ cls := "CandleStatuteModel", name := "inForce", desc := "(I)I" } : Jvm.MethodName)) ∈ lw_all := lw_g (lw_at lw_m8 156 rfl) rfl
theorem q1915 : (Jvm.Cond.privateMethod ({ cls := "CandleStatuteModel", name := "inForce", desc := "(I)I" } : Jvm.MethodName)) ∈ lw_tbl := lw_at lw_m8 157 rfl
theorem q1916 : (Jvm.Cond.instanceMethod ({ cls := "CandleStatuteModel", name := "inForce", desc := "(I)I" } : Jvm.MethodName)) ∈ lw_all := lw_g (lw_at lw_m8 158 rfl) rfl
theorem q1917 : (Jvm.Cond.code ({ cls := "CandleStatuteModel", name := "inForce", desc := "(I)I" } : Jvm.MethodName) prog_16_method_44_code (4 : Nat) (Option.some Jvm.ClassFile.FieldType.int)) ∈ lw_all := lw_g (lw_at lw_m8 159 rfl) rfl
theorem q1918 : (Jvm.Cond.methodLink "CandleStatuteModel" (167 : Nat) ({ cls := "CandleStatuteModel", name := "inheritsStubs", desc := "(II)I" } : Jvm.MethodName)) ∈ lw_all := lw_g (lw_at lw_m8 160 rfl) rfl
theorem q1919 : (Jvm.Cond.privateMethod ({ cls := "CandleStatuteModel", name := "inheritsStubs", desc := "(II)I" } : Jvm.MethodName)) ∈ lw_tbl := lw_at lw_m8 161 rfl
theorem q1920 : (Jvm.Cond.instanceMethod ({ cls := "CandleStatuteModel", name := "inheritsStubs", desc := "(II)I" } : Jvm.MethodName)) ∈ lw_all := lw_g (lw_at lw_m8 162 rfl) rfl
theorem q1921 : (Jvm.Cond.code ({ cls := "CandleStatuteModel", name := "inheritsStubs", desc := "(II)I" } : Jvm.MethodName) prog_16_method_45_code (6 : Nat) (Option.some Jvm.ClassFile.FieldType.int)) ∈ lw_all := lw_g (lw_at lw_m8 163 rfl) rfl
theorem q1922 : (Jvm.Cond.methodLink "CandleStatuteModel" (173 : Nat) ({ cls := "CandleStatuteModel", name := "frees", desc := "(I)V" } : Jvm.MethodName)) ∈ lw_all := lw_g (lw_at lw_m8 164 rfl) rfl
theorem q1923 : (Jvm.Cond.privateMethod ({ cls := "CandleStatuteModel", name := "frees", desc := "(I)V" } : Jvm.MethodName)) ∈ lw_tbl := lw_at lw_m8 165 rfl
theorem q1924 : (Jvm.Cond.instanceMethod ({ cls := "CandleStatuteModel", name := "frees", desc := "(I)V" } : Jvm.MethodName)) ∈ lw_all := lw_g (lw_at lw_m8 166 rfl) rfl
theorem q1925 : (Jvm.Cond.code ({ cls := "CandleStatuteModel", name := "frees", desc := "(I)V" } : Jvm.MethodName) prog_16_method_46_code (5 : Nat) (Option.none : Option Jvm.ClassFile.FieldType)) ∈ lw_all := lw_g (lw_at lw_m8 167 rfl) rfl
theorem q1927 : (Jvm.Cond.instanceMethod ({ cls := "CandleStatuteModel", name := "pass", desc := "(I)I" } : Jvm.MethodName)) ∈ lw_all := lw_g (lw_at lw_m8 169 rfl) rfl
theorem q1928 : (Jvm.Cond.selects "CandleStatuteModel" ({ cls := "CandleStatuteModel", name := "pass", desc := "(I)I" } : Jvm.MethodName) ({ cls := "CandleStatuteModel", name := "pass", desc := "(I)I" } : Jvm.MethodName)) ∈ lw_all := lw_g (lw_at lw_m8 170 rfl) rfl
theorem q1929 : (Jvm.Cond.code ({ cls := "CandleStatuteModel", name := "pass", desc := "(I)I" } : Jvm.MethodName) prog_16_method_50_code (2 : Nat) (Option.some Jvm.ClassFile.FieldType.int)) ∈ lw_all := lw_g (lw_at lw_m8 171 rfl) rfl
theorem q1930 : (Jvm.Cond.methodLink "CandleStatuteModel" (179 : Nat) ({ cls := "CandleStatuteModel", name := "passes", desc := "(I)I" } : Jvm.MethodName)) ∈ lw_all := lw_g (lw_at lw_m8 172 rfl) rfl
theorem q1931 : (Jvm.Cond.privateMethod ({ cls := "CandleStatuteModel", name := "passes", desc := "(I)I" } : Jvm.MethodName)) ∈ lw_tbl := lw_at lw_m8 173 rfl
theorem q1932 : (Jvm.Cond.instanceMethod ({ cls := "CandleStatuteModel", name := "passes", desc := "(I)I" } : Jvm.MethodName)) ∈ lw_all := lw_g (lw_at lw_m8 174 rfl) rfl
theorem q1933 : (Jvm.Cond.code ({ cls := "CandleStatuteModel", name := "passes", desc := "(I)I" } : Jvm.MethodName) prog_16_method_49_code (5 : Nat) (Option.some Jvm.ClassFile.FieldType.int)) ∈ lw_all := lw_g (lw_at lw_m8 175 rfl) rfl
theorem q1935 : (Jvm.Cond.instanceMethod ({ cls := "CandleStatuteModel", name := "houseOf", desc := "(II)I" } : Jvm.MethodName)) ∈ lw_all := lw_g (lw_at lw_m8 177 rfl) rfl
theorem q1936 : (Jvm.Cond.selects "CandleStatuteModel" ({ cls := "CandleStatuteModel", name := "houseOf", desc := "(II)I" } : Jvm.MethodName) ({ cls := "CandleStatuteModel", name := "houseOf", desc := "(II)I" } : Jvm.MethodName)) ∈ lw_all := lw_g (lw_at lw_m8 178 rfl) rfl
theorem q1937 : (Jvm.Cond.code ({ cls := "CandleStatuteModel", name := "houseOf", desc := "(II)I" } : Jvm.MethodName) prog_16_method_52_code (3 : Nat) (Option.some Jvm.ClassFile.FieldType.int)) ∈ lw_all := lw_g (lw_at lw_m8 179 rfl) rfl
theorem q1938 : (Jvm.Cond.methodLink "CandleStatuteModel" (182 : Nat) ({ cls := "CandleStatuteModel", name := "ofStubs", desc := "(II)I" } : Jvm.MethodName)) ∈ lw_all := lw_g (lw_at lw_m8 180 rfl) rfl
theorem q1939 : (Jvm.Cond.privateMethod ({ cls := "CandleStatuteModel", name := "ofStubs", desc := "(II)I" } : Jvm.MethodName)) ∈ lw_tbl := lw_at lw_m8 181 rfl
theorem q1940 : (Jvm.Cond.instanceMethod ({ cls := "CandleStatuteModel", name := "ofStubs", desc := "(II)I" } : Jvm.MethodName)) ∈ lw_all := lw_g (lw_at lw_m8 182 rfl) rfl
theorem q1941 : (Jvm.Cond.code ({ cls := "CandleStatuteModel", name := "ofStubs", desc := "(II)I" } : Jvm.MethodName) prog_16_method_51_code (5 : Nat) (Option.some Jvm.ClassFile.FieldType.int)) ∈ lw_all := lw_g (lw_at lw_m8 183 rfl) rfl
theorem q1943 : (Jvm.Cond.instanceMethod ({ cls := "CandleStatuteModel", name := "inherits", desc := "(I)I" } : Jvm.MethodName)) ∈ lw_all := lw_g (lw_at lw_m8 185 rfl) rfl
theorem q1944 : (Jvm.Cond.selects "CandleStatuteModel" ({ cls := "CandleStatuteModel", name := "inherits", desc := "(I)I" } : Jvm.MethodName) ({ cls := "CandleStatuteModel", name := "inherits", desc := "(I)I" } : Jvm.MethodName)) ∈ lw_all := lw_g (lw_at lw_m8 186 rfl) rfl
theorem q1945 : (Jvm.Cond.code ({ cls := "CandleStatuteModel", name := "inherits", desc := "(I)I" } : Jvm.MethodName) prog_16_method_53_code (2 : Nat) (Option.some Jvm.ClassFile.FieldType.int)) ∈ lw_all := lw_g (lw_at lw_m8 187 rfl) rfl
theorem q1947 : (Jvm.Cond.instanceMethod ({ cls := "CandleStatuteModel", name := "wouldMelt", desc := "(I)I" } : Jvm.MethodName)) ∈ lw_all := lw_g (lw_at lw_m8 189 rfl) rfl
theorem q1948 : (Jvm.Cond.selects "CandleStatuteModel" ({ cls := "CandleStatuteModel", name := "wouldMelt", desc := "(I)I" } : Jvm.MethodName) ({ cls := "CandleStatuteModel", name := "wouldMelt", desc := "(I)I" } : Jvm.MethodName)) ∈ lw_all := lw_g (lw_at lw_m8 190 rfl) rfl
theorem q1949 : (Jvm.Cond.code ({ cls := "CandleStatuteModel", name := "wouldMelt", desc := "(I)I" } : Jvm.MethodName) prog_16_method_54_code (3 : Nat) (Option.some Jvm.ClassFile.FieldType.int)) ∈ lw_all := lw_g (lw_at lw_m8 191 rfl) rfl
theorem q1951 : (Jvm.Cond.instanceMethod ({ cls := "CandleStatuteModel", name := "weight", desc := "(I)I" } : Jvm.MethodName)) ∈ lw_all := lw_g (lw_at lw_m8 193 rfl) rfl
theorem q1952 : (Jvm.Cond.selects "CandleStatuteModel" ({ cls := "CandleStatuteModel", name := "weight", desc := "(I)I" } : Jvm.MethodName) ({ cls := "CandleStatuteModel", name := "weight", desc := "(I)I" } : Jvm.MethodName)) ∈ lw_all := lw_g (lw_at lw_m8 194 rfl) rfl
theorem q1953 : (Jvm.Cond.code ({ cls := "CandleStatuteModel", name := "weight", desc := "(I)I" } : Jvm.MethodName) prog_16_method_55_code (2 : Nat) (Option.some Jvm.ClassFile.FieldType.int)) ∈ lw_all := lw_g (lw_at lw_m8 195 rfl) rfl
theorem q1955 : (Jvm.Cond.instanceMethod ({ cls := "CandleStatuteModel", name := "weightAgain", desc := "(I)I" } : Jvm.MethodName)) ∈ lw_all := lw_g (lw_at lw_m8 197 rfl) rfl
theorem q1956 : (Jvm.Cond.selects "CandleStatuteModel" ({ cls := "CandleStatuteModel", name := "weightAgain", desc := "(I)I" } : Jvm.MethodName) ({ cls := "CandleStatuteModel", name := "weightAgain", desc := "(I)I" } : Jvm.MethodName)) ∈ lw_all := lw_g (lw_at lw_m8 198 rfl) rfl
theorem q1957 : (Jvm.Cond.code ({ cls := "CandleStatuteModel", name := "weightAgain", desc := "(I)I" } : Jvm.MethodName) prog_16_method_56_code (2 : Nat) (Option.some Jvm.ClassFile.FieldType.int)) ∈ lw_all := lw_g (lw_at lw_m8 199 rfl) rfl
theorem q1958 : (Jvm.Cond.methodLink "CandleStatuteModel" (185 : Nat) ({ cls := "CandleStatuteModel", name := "weight", desc := "(I)I" } : Jvm.MethodName)) ∈ lw_all := lw_g (lw_at lw_m8 200 rfl) rfl
theorem q1960 : (Jvm.Cond.instanceMethod ({ cls := "CandleStatuteModel", name := "ranked", desc := "(I)I" } : Jvm.MethodName)) ∈ lw_all := lw_g (lw_at lw_m8 202 rfl) rfl
theorem q1961 : (Jvm.Cond.selects "CandleStatuteModel" ({ cls := "CandleStatuteModel", name := "ranked", desc := "(I)I" } : Jvm.MethodName) ({ cls := "CandleStatuteModel", name := "ranked", desc := "(I)I" } : Jvm.MethodName)) ∈ lw_all := lw_g (lw_at lw_m8 203 rfl) rfl
theorem q1962 : (Jvm.Cond.code ({ cls := "CandleStatuteModel", name := "ranked", desc := "(I)I" } : Jvm.MethodName) prog_16_method_57_code (6 : Nat) (Option.some Jvm.ClassFile.FieldType.int)) ∈ lw_all := lw_g (lw_at lw_m8 204 rfl) rfl
theorem q1964 : (Jvm.Cond.instanceMethod ({ cls := "CandleStatuteModel", name := "brightest", desc := "(I)I" } : Jvm.MethodName)) ∈ lw_all := lw_g (lw_at lw_m8 206 rfl) rfl
theorem q1965 : (Jvm.Cond.selects "CandleStatuteModel" ({ cls := "CandleStatuteModel", name := "brightest", desc := "(I)I" } : Jvm.MethodName) ({ cls := "CandleStatuteModel", name := "brightest", desc := "(I)I" } : Jvm.MethodName)) ∈ lw_all := lw_g (lw_at lw_m8 207 rfl) rfl
theorem q1966 : (Jvm.Cond.code ({ cls := "CandleStatuteModel", name := "brightest", desc := "(I)I" } : Jvm.MethodName) prog_16_method_58_code (6 : Nat) (Option.some Jvm.ClassFile.FieldType.int)) ∈ lw_all := lw_g (lw_at lw_m8 208 rfl) rfl
theorem q1968 : (Jvm.Cond.instanceMethod ({ cls := "CandleStatuteModel", name := "append", desc := "(I)I" } : Jvm.MethodName)) ∈ lw_all := lw_g (lw_at lw_m8 210 rfl) rfl
theorem q1969 : (Jvm.Cond.selects "CandleStatuteModel" ({ cls := "CandleStatuteModel", name := "append", desc := "(I)I" } : Jvm.MethodName) ({ cls := "CandleStatuteModel", name := "append", desc := "(I)I" } : Jvm.MethodName)) ∈ lw_all := lw_g (lw_at lw_m8 211 rfl) rfl
theorem q1970 : (Jvm.Cond.code ({ cls := "CandleStatuteModel", name := "append", desc := "(I)I" } : Jvm.MethodName) prog_16_method_61_code (2 : Nat) (Option.some Jvm.ClassFile.FieldType.int)) ∈ lw_all := lw_g (lw_at lw_m8 212 rfl) rfl
theorem q1972 : (Jvm.Cond.instanceMethod ({ cls := "CandleStatuteModel", name := "run", desc := "()I" } : Jvm.MethodName)) ∈ lw_all := lw_g (lw_at lw_m8 214 rfl) rfl
theorem q1973 : (Jvm.Cond.selects "CandleStatuteModel" ({ cls := "CandleStatuteModel", name := "run", desc := "()I" } : Jvm.MethodName) ({ cls := "CandleStatuteModel", name := "run", desc := "()I" } : Jvm.MethodName)) ∈ lw_all := lw_g (lw_at lw_m8 215 rfl) rfl
theorem q1974 : (Jvm.Cond.code ({ cls := "CandleStatuteModel", name := "run", desc := "()I" } : Jvm.MethodName) prog_16_method_71_code (2 : Nat) (Option.some Jvm.ClassFile.FieldType.int)) ∈ lw_all := lw_g (lw_at lw_m8 216 rfl) rfl
theorem q1975 : (Jvm.Cond.methodLink "CandleStatuteModel" (235 : Nat) ({ cls := "CandleStatuteModel", name := "orders", desc := "()I" } : Jvm.MethodName)) ∈ lw_all := lw_g (lw_at lw_m8 217 rfl) rfl
theorem q1976 : (Jvm.Cond.privateMethod ({ cls := "CandleStatuteModel", name := "orders", desc := "()I" } : Jvm.MethodName)) ∈ lw_tbl := lw_at lw_m8 218 rfl
theorem q1977 : (Jvm.Cond.instanceMethod ({ cls := "CandleStatuteModel", name := "orders", desc := "()I" } : Jvm.MethodName)) ∈ lw_all := lw_g (lw_at lw_m8 219 rfl) rfl
theorem q1978 : (Jvm.Cond.code ({ cls := "CandleStatuteModel", name := "orders", desc := "()I" } : Jvm.MethodName) prog_16_method_69_code (2 : Nat) (Option.some Jvm.ClassFile.FieldType.int)) ∈ lw_all := lw_g (lw_at lw_m8 220 rfl) rfl
theorem q1979 : (Jvm.Cond.methodLink "CandleStatuteModel" (229 : Nat) ({ cls := "CandleStatuteModel", name := "order", desc := "()V" } : Jvm.MethodName)) ∈ lw_all := lw_g (lw_at lw_m8 221 rfl) rfl
theorem q1980 : (Jvm.Cond.privateMethod ({ cls := "CandleStatuteModel", name := "order", desc := "()V" } : Jvm.MethodName)) ∈ lw_tbl := lw_at lw_m8 222 rfl
theorem q1981 : (Jvm.Cond.instanceMethod ({ cls := "CandleStatuteModel", name := "order", desc := "()V" } : Jvm.MethodName)) ∈ lw_all := lw_g (lw_at lw_m8 223 rfl) rfl
theorem q1982 : (Jvm.Cond.code ({ cls := "CandleStatuteModel", name := "order", desc := "()V" } : Jvm.MethodName) prog_16_method_68_code (7 : Nat) (Option.none : Option Jvm.ClassFile.FieldType)) ∈ lw_all := lw_g (lw_at lw_m8 224 rfl) rfl
theorem q1983 : (Jvm.Cond.methodLink "CandleStatuteModel" (207 : Nat) ({ cls := "CandleStatuteModel", name := "sign", desc := "()I" } : Jvm.MethodName)) ∈ lw_all := lw_g (lw_at lw_m8 225 rfl) rfl
theorem q1984 : (Jvm.Cond.privateMethod ({ cls := "CandleStatuteModel", name := "sign", desc := "()I" } : Jvm.MethodName)) ∈ lw_tbl := lw_at lw_m8 226 rfl
theorem q1985 : (Jvm.Cond.instanceMethod ({ cls := "CandleStatuteModel", name := "sign", desc := "()I" } : Jvm.MethodName)) ∈ lw_all := lw_g (lw_at lw_m8 227 rfl) rfl
theorem q1986 : (Jvm.Cond.code ({ cls := "CandleStatuteModel", name := "sign", desc := "()I" } : Jvm.MethodName) prog_16_method_62_code (1 : Nat) (Option.some Jvm.ClassFile.FieldType.int)) ∈ lw_all := lw_g (lw_at lw_m8 228 rfl) rfl
theorem q1987 : (Jvm.Cond.methodLink "CandleStatuteModel" (216 : Nat) ({ cls := "CandleStatuteModel", name := "isKnown", desc := "(I)Z" } : Jvm.MethodName)) ∈ lw_all := lw_g (lw_at lw_m8 229 rfl) rfl
theorem q1988 : (Jvm.Cond.static ({ cls := "CandleStatuteModel", name := "isKnown", desc := "(I)Z" } : Jvm.MethodName)) ∈ lw_all := lw_g (lw_at lw_m8 230 rfl) rfl
theorem q1989 : (Jvm.Cond.code ({ cls := "CandleStatuteModel", name := "isKnown", desc := "(I)Z" } : Jvm.MethodName) prog_16_method_67_code (1 : Nat) (Option.some Jvm.ClassFile.FieldType.boolean)) ∈ lw_all := lw_g (lw_at lw_m8 231 rfl) rfl
theorem q1990 : (Jvm.Cond.methodLink "CandleStatuteModel" (213 : Nat) ({ cls := "CandleStatuteModel", name := "digits", desc := "(I)I" } : Jvm.MethodName)) ∈ lw_all := lw_g (lw_at lw_m8 232 rfl) rfl
theorem q1991 : (Jvm.Cond.privateMethod ({ cls := "CandleStatuteModel", name := "digits", desc := "(I)I" } : Jvm.MethodName)) ∈ lw_tbl := lw_at lw_m8 233 rfl
theorem q1992 : (Jvm.Cond.instanceMethod ({ cls := "CandleStatuteModel", name := "digits", desc := "(I)I" } : Jvm.MethodName)) ∈ lw_all := lw_g (lw_at lw_m8 234 rfl) rfl
theorem q1993 : (Jvm.Cond.code ({ cls := "CandleStatuteModel", name := "digits", desc := "(I)I" } : Jvm.MethodName) prog_16_method_64_code (4 : Nat) (Option.some Jvm.ClassFile.FieldType.int)) ∈ lw_all := lw_g (lw_at lw_m8 235 rfl) rfl
theorem q1994 : (Jvm.Cond.methodLink "CandleStatuteModel" (219 : Nat) ({ cls := "CandleStatuteModel", name := "behind", desc := "(II)I" } : Jvm.MethodName)) ∈ lw_all := lw_g (lw_at lw_m8 236 rfl) rfl
theorem q1995 : (Jvm.Cond.privateMethod ({ cls := "CandleStatuteModel", name := "behind", desc := "(II)I" } : Jvm.MethodName)) ∈ lw_tbl := lw_at lw_m8 237 rfl
theorem q1996 : (Jvm.Cond.instanceMethod ({ cls := "CandleStatuteModel", name := "behind", desc := "(II)I" } : Jvm.MethodName)) ∈ lw_all := lw_g (lw_at lw_m8 238 rfl) rfl
theorem q1997 : (Jvm.Cond.code ({ cls := "CandleStatuteModel", name := "behind", desc := "(II)I" } : Jvm.MethodName) prog_16_method_65_code (3 : Nat) (Option.some Jvm.ClassFile.FieldType.int)) ∈ lw_all := lw_g (lw_at lw_m8 239 rfl) rfl
theorem q1998 : (Jvm.Cond.methodLink "CandleStatuteModel" (210 : Nat) ({ cls := "CandleStatuteModel", name := "mark", desc := "(I)V" } : Jvm.MethodName)) ∈ lw_all := lw_g (lw_at lw_m9 0 rfl) rfl
theorem q1999 : (Jvm.Cond.privateMethod ({ cls := "CandleStatuteModel", name := "mark", desc := "(I)V" } : Jvm.MethodName)) ∈ lw_tbl := lw_at lw_m9 1 rfl
theorem q2000 : (Jvm.Cond.instanceMethod ({ cls := "CandleStatuteModel", name := "mark", desc := "(I)V" } : Jvm.MethodName)) ∈ lw_all := lw_g (lw_at lw_m9 2 rfl) rfl
theorem q2001 : (Jvm.Cond.code ({ cls := "CandleStatuteModel", name := "mark", desc := "(I)V" } : Jvm.MethodName) prog_16_method_63_code (2 : Nat) (Option.none : Option Jvm.ClassFile.FieldType)) ∈ lw_all := lw_g (lw_at lw_m9 3 rfl) rfl
theorem q2002 : (Jvm.Cond.methodLink "CandleStatuteModel" (225 : Nat) ({ cls := "CandleStatuteModel", name := "does", desc := "(IIII)I" } : Jvm.MethodName)) ∈ lw_all := lw_g (lw_at lw_m9 4 rfl) rfl
theorem q2003 : (Jvm.Cond.privateMethod ({ cls := "CandleStatuteModel", name := "does", desc := "(IIII)I" } : Jvm.MethodName)) ∈ lw_tbl := lw_at lw_m9 5 rfl
theorem q2004 : (Jvm.Cond.instanceMethod ({ cls := "CandleStatuteModel", name := "does", desc := "(IIII)I" } : Jvm.MethodName)) ∈ lw_all := lw_g (lw_at lw_m9 6 rfl) rfl
theorem q2005 : (Jvm.Cond.code ({ cls := "CandleStatuteModel", name := "does", desc := "(IIII)I" } : Jvm.MethodName) prog_16_method_66_code (5 : Nat) (Option.some Jvm.ClassFile.FieldType.int)) ∈ lw_all := lw_g (lw_at lw_m9 7 rfl) rfl
theorem q2006 : (Jvm.Cond.methodLink "CandleStatuteModel" (238 : Nat) ({ cls := "CandleStatuteModel", name := "refusesOrder", desc := "(I)I" } : Jvm.MethodName)) ∈ lw_all := lw_g (lw_at lw_m9 8 rfl) rfl
theorem q2007 : (Jvm.Cond.privateMethod ({ cls := "CandleStatuteModel", name := "refusesOrder", desc := "(I)I" } : Jvm.MethodName)) ∈ lw_tbl := lw_at lw_m9 9 rfl
theorem q2008 : (Jvm.Cond.instanceMethod ({ cls := "CandleStatuteModel", name := "refusesOrder", desc := "(I)I" } : Jvm.MethodName)) ∈ lw_all := lw_g (lw_at lw_m9 10 rfl) rfl
theorem q2009 : (Jvm.Cond.code ({ cls := "CandleStatuteModel", name := "refusesOrder", desc := "(I)I" } : Jvm.MethodName) prog_16_method_70_code (8 : Nat) (Option.some Jvm.ClassFile.FieldType.int)) ∈ lw_all := lw_g (lw_at lw_m9 11 rfl) rfl
theorem q2011 : (Jvm.Cond.instanceMethod ({ cls := "CandleStatuteModel", name := "tell", desc := "(I)I" } : Jvm.MethodName)) ∈ lw_all := lw_g (lw_at lw_m9 13 rfl) rfl
theorem q2012 : (Jvm.Cond.selects "CandleStatuteModel" ({ cls := "CandleStatuteModel", name := "tell", desc := "(I)I" } : Jvm.MethodName) ({ cls := "CandleStatuteModel", name := "tell", desc := "(I)I" } : Jvm.MethodName)) ∈ lw_all := lw_g (lw_at lw_m9 14 rfl) rfl
theorem q2013 : (Jvm.Cond.code ({ cls := "CandleStatuteModel", name := "tell", desc := "(I)I" } : Jvm.MethodName) prog_16_method_72_code (2 : Nat) (Option.some Jvm.ClassFile.FieldType.int)) ∈ lw_all := lw_g (lw_at lw_m9 15 rfl) rfl
theorem q2014 : (Jvm.Cond.methodLink "CandleStatuteModel" (241 : Nat) ({ cls := "CandleStatuteModel", name := "writesNumber", desc := "(I)V" } : Jvm.MethodName)) ∈ lw_all := lw_g (lw_at lw_m9 16 rfl) rfl
theorem q2015 : (Jvm.Cond.privateMethod ({ cls := "CandleStatuteModel", name := "writesNumber", desc := "(I)V" } : Jvm.MethodName)) ∈ lw_tbl := lw_at lw_m9 17 rfl
theorem q2016 : (Jvm.Cond.instanceMethod ({ cls := "CandleStatuteModel", name := "writesNumber", desc := "(I)V" } : Jvm.MethodName)) ∈ lw_all := lw_g (lw_at lw_m9 18 rfl) rfl
theorem q2017 : (Jvm.Cond.code ({ cls := "CandleStatuteModel", name := "writesNumber", desc := "(I)V" } : Jvm.MethodName) prog_16_method_60_code (3 : Nat) (Option.none : Option Jvm.ClassFile.FieldType)) ∈ lw_all := lw_g (lw_at lw_m9 19 rfl) rfl
theorem q2018 : (Jvm.Cond.methodLink "CandleStatuteModel" (191 : Nat) ({ cls := "CandleStatuteModel", name := "writes", desc := "(I)V" } : Jvm.MethodName)) ∈ lw_all := lw_g (lw_at lw_m9 20 rfl) rfl
theorem q2019 : (Jvm.Cond.privateMethod ({ cls := "CandleStatuteModel", name := "writes", desc := "(I)V" } : Jvm.MethodName)) ∈ lw_tbl := lw_at lw_m9 21 rfl
theorem q2020 : (Jvm.Cond.instanceMethod ({ cls := "CandleStatuteModel", name := "writes", desc := "(I)V" } : Jvm.MethodName)) ∈ lw_all := lw_g (lw_at lw_m9 22 rfl) rfl
theorem q2021 : (Jvm.Cond.code ({ cls := "CandleStatuteModel", name := "writes", desc := "(I)V" } : Jvm.MethodName) prog_16_method_59_code (2 : Nat) (Option.none : Option Jvm.ClassFile.FieldType)) ∈ lw_all := lw_g (lw_at lw_m9 23 rfl) rfl
theorem q2023 : (Jvm.Cond.instanceMethod ({ cls := "CandleStatuteModel", name := "tellHouses", desc := "()I" } : Jvm.MethodName)) ∈ lw_all := lw_g (lw_at lw_m9 25 rfl) rfl
theorem q2024 : (Jvm.Cond.selects "CandleStatuteModel" ({ cls := "CandleStatuteModel", name := "tellHouses", desc := "()I" } : Jvm.MethodName) ({ cls := "CandleStatuteModel", name := "tellHouses", desc := "()I" } : Jvm.MethodName)) ∈ lw_all := lw_g (lw_at lw_m9 26 rfl) rfl
theorem q2025 : (Jvm.Cond.code ({ cls := "CandleStatuteModel", name := "tellHouses", desc := "()I" } : Jvm.MethodName) prog_16_method_73_code (2 : Nat) (Option.some Jvm.ClassFile.FieldType.int)) ∈ lw_all := lw_g (lw_at lw_m9 27 rfl) rfl
theorem q2027 : (Jvm.Cond.instanceMethod ({ cls := "CandleStatuteModel", name := "character", desc := "(I)I" } : Jvm.MethodName)) ∈ lw_all := lw_g (lw_at lw_m9 29 rfl) rfl
theorem q2028 : (Jvm.Cond.selects "CandleStatuteModel" ({ cls := "CandleStatuteModel", name := "character", desc := "(I)I" } : Jvm.MethodName) ({ cls := "CandleStatuteModel", name := "character", desc := "(I)I" } : Jvm.MethodName)) ∈ lw_all := lw_g (lw_at lw_m9 30 rfl) rfl
theorem q2029 : (Jvm.Cond.code ({ cls := "CandleStatuteModel", name := "character", desc := "(I)I" } : Jvm.MethodName) prog_16_method_74_code (2 : Nat) (Option.some Jvm.ClassFile.FieldType.int)) ∈ lw_all := lw_g (lw_at lw_m9 31 rfl) rfl
theorem q2031 : (Jvm.Cond.instanceMethod ({ cls := "CandleStatuteModel", name := "reason", desc := "(IZ)I" } : Jvm.MethodName)) ∈ lw_all := lw_g (lw_at lw_m9 33 rfl) rfl
theorem q2032 : (Jvm.Cond.selects "CandleStatuteModel" ({ cls := "CandleStatuteModel", name := "reason", desc := "(IZ)I" } : Jvm.MethodName) ({ cls := "CandleStatuteModel", name := "reason", desc := "(IZ)I" } : Jvm.MethodName)) ∈ lw_all := lw_g (lw_at lw_m9 34 rfl) rfl
theorem q2033 : (Jvm.Cond.code ({ cls := "CandleStatuteModel", name := "reason", desc := "(IZ)I" } : Jvm.MethodName) prog_16_method_75_code (4 : Nat) (Option.some Jvm.ClassFile.FieldType.int)) ∈ lw_all := lw_g (lw_at lw_m9 35 rfl) rfl
theorem q2035 : (Jvm.Cond.instanceMethod ({ cls := "CandleStatuteModel", name := "account", desc := "(I)I" } : Jvm.MethodName)) ∈ lw_all := lw_g (lw_at lw_m9 37 rfl) rfl
theorem q2036 : (Jvm.Cond.selects "CandleStatuteModel" ({ cls := "CandleStatuteModel", name := "account", desc := "(I)I" } : Jvm.MethodName) ({ cls := "CandleStatuteModel", name := "account", desc := "(I)I" } : Jvm.MethodName)) ∈ lw_all := lw_g (lw_at lw_m9 38 rfl) rfl
theorem q2037 : (Jvm.Cond.code ({ cls := "CandleStatuteModel", name := "account", desc := "(I)I" } : Jvm.MethodName) prog_16_method_78_code (2 : Nat) (Option.some Jvm.ClassFile.FieldType.int)) ∈ lw_all := lw_g (lw_at lw_m9 39 rfl) rfl
theorem q2038 : (Jvm.Cond.methodLink "CandleStatuteModel" (244 : Nat) ({ cls := "CandleStatuteModel", name := "ofAll", desc := "(I)I" } : Jvm.MethodName)) ∈ lw_all := lw_g (lw_at lw_m9 40 rfl) rfl
theorem q2039 : (Jvm.Cond.privateMethod ({ cls := "CandleStatuteModel", name := "ofAll", desc := "(I)I" } : Jvm.MethodName)) ∈ lw_tbl := lw_at lw_m9 41 rfl
theorem q2040 : (Jvm.Cond.instanceMethod ({ cls := "CandleStatuteModel", name := "ofAll", desc := "(I)I" } : Jvm.MethodName)) ∈ lw_all := lw_g (lw_at lw_m9 42 rfl) rfl
theorem q2041 : (Jvm.Cond.code ({ cls := "CandleStatuteModel", name := "ofAll", desc := "(I)I" } : Jvm.MethodName) prog_16_method_76_code (4 : Nat) (Option.some Jvm.ClassFile.FieldType.int)) ∈ lw_all := lw_g (lw_at lw_m9 43 rfl) rfl
theorem q2042 : (Jvm.Cond.methodLink "CandleStatuteModel" (247 : Nat) ({ cls := "CandleStatuteModel", name := "stores", desc := "()I" } : Jvm.MethodName)) ∈ lw_all := lw_g (lw_at lw_m9 44 rfl) rfl
theorem q2043 : (Jvm.Cond.privateMethod ({ cls := "CandleStatuteModel", name := "stores", desc := "()I" } : Jvm.MethodName)) ∈ lw_tbl := lw_at lw_m9 45 rfl
theorem q2044 : (Jvm.Cond.instanceMethod ({ cls := "CandleStatuteModel", name := "stores", desc := "()I" } : Jvm.MethodName)) ∈ lw_all := lw_g (lw_at lw_m9 46 rfl) rfl
theorem q2045 : (Jvm.Cond.code ({ cls := "CandleStatuteModel", name := "stores", desc := "()I" } : Jvm.MethodName) prog_16_method_77_code (3 : Nat) (Option.some Jvm.ClassFile.FieldType.int)) ∈ lw_all := lw_g (lw_at lw_m9 47 rfl) rfl
theorem q2047 : (Jvm.Cond.instanceMethod ({ cls := "CandleStatuteModel", name := "isBalanced", desc := "()I" } : Jvm.MethodName)) ∈ lw_all := lw_g (lw_at lw_m9 49 rfl) rfl
theorem q2048 : (Jvm.Cond.selects "CandleStatuteModel" ({ cls := "CandleStatuteModel", name := "isBalanced", desc := "()I" } : Jvm.MethodName) ({ cls := "CandleStatuteModel", name := "isBalanced", desc := "()I" } : Jvm.MethodName)) ∈ lw_all := lw_g (lw_at lw_m9 50 rfl) rfl
theorem q2049 : (Jvm.Cond.code ({ cls := "CandleStatuteModel", name := "isBalanced", desc := "()I" } : Jvm.MethodName) prog_16_method_79_code (1 : Nat) (Option.some Jvm.ClassFile.FieldType.int)) ∈ lw_all := lw_g (lw_at lw_m9 51 rfl) rfl
theorem q2051 : (Jvm.Cond.instanceMethod ({ cls := "CandleStatuteModel", name := "meanWax", desc := "()D" } : Jvm.MethodName)) ∈ lw_all := lw_g (lw_at lw_m9 53 rfl) rfl
theorem q2052 : (Jvm.Cond.selects "CandleStatuteModel" ({ cls := "CandleStatuteModel", name := "meanWax", desc := "()D" } : Jvm.MethodName) ({ cls := "CandleStatuteModel", name := "meanWax", desc := "()D" } : Jvm.MethodName)) ∈ lw_all := lw_g (lw_at lw_m9 54 rfl) rfl
theorem q2053 : (Jvm.Cond.code ({ cls := "CandleStatuteModel", name := "meanWax", desc := "()D" } : Jvm.MethodName) prog_16_method_80_code (1 : Nat) (Option.some Jvm.ClassFile.FieldType.double)) ∈ lw_all := lw_g (lw_at lw_m9 55 rfl) rfl
theorem q2055 : (Jvm.Cond.instanceMethod ({ cls := "CandleStatuteModel", name := "snuffedShare", desc := "()F" } : Jvm.MethodName)) ∈ lw_all := lw_g (lw_at lw_m9 57 rfl) rfl
theorem q2056 : (Jvm.Cond.selects "CandleStatuteModel" ({ cls := "CandleStatuteModel", name := "snuffedShare", desc := "()F" } : Jvm.MethodName) ({ cls := "CandleStatuteModel", name := "snuffedShare", desc := "()F" } : Jvm.MethodName)) ∈ lw_all := lw_g (lw_at lw_m9 58 rfl) rfl
theorem q2057 : (Jvm.Cond.code ({ cls := "CandleStatuteModel", name := "snuffedShare", desc := "()F" } : Jvm.MethodName) prog_16_method_81_code (1 : Nat) (Option.some Jvm.ClassFile.FieldType.float)) ∈ lw_all := lw_g (lw_at lw_m9 59 rfl) rfl
theorem q2059 : (Jvm.Cond.instanceMethod ({ cls := "CandleStatuteModel", name := "undo", desc := "()I" } : Jvm.MethodName)) ∈ lw_all := lw_g (lw_at lw_m9 61 rfl) rfl
theorem q2060 : (Jvm.Cond.selects "CandleStatuteModel" ({ cls := "CandleStatuteModel", name := "undo", desc := "()I" } : Jvm.MethodName) ({ cls := "CandleStatuteModel", name := "undo", desc := "()I" } : Jvm.MethodName)) ∈ lw_all := lw_g (lw_at lw_m9 62 rfl) rfl
theorem q2061 : (Jvm.Cond.code ({ cls := "CandleStatuteModel", name := "undo", desc := "()I" } : Jvm.MethodName) prog_16_method_82_code (2 : Nat) (Option.some Jvm.ClassFile.FieldType.int)) ∈ lw_all := lw_g (lw_at lw_m9 63 rfl) rfl
theorem q2063 : (Jvm.Cond.instanceMethod ({ cls := "CandleStatuteModel", name := "save", desc := "()I" } : Jvm.MethodName)) ∈ lw_all := lw_g (lw_at lw_m9 65 rfl) rfl
theorem q2064 : (Jvm.Cond.selects "CandleStatuteModel" ({ cls := "CandleStatuteModel", name := "save", desc := "()I" } : Jvm.MethodName) ({ cls := "CandleStatuteModel", name := "save", desc := "()I" } : Jvm.MethodName)) ∈ lw_all := lw_g (lw_at lw_m9 66 rfl) rfl
theorem q2065 : (Jvm.Cond.code ({ cls := "CandleStatuteModel", name := "save", desc := "()I" } : Jvm.MethodName) prog_16_method_83_code (1 : Nat) (Option.some Jvm.ClassFile.FieldType.int)) ∈ lw_all := lw_g (lw_at lw_m9 67 rfl) rfl
theorem q2067 : (Jvm.Cond.instanceMethod ({ cls := "CandleStatuteModel", name := "restore", desc := "()I" } : Jvm.MethodName)) ∈ lw_all := lw_g (lw_at lw_m9 69 rfl) rfl
theorem q2068 : (Jvm.Cond.selects "CandleStatuteModel" ({ cls := "CandleStatuteModel", name := "restore", desc := "()I" } : Jvm.MethodName) ({ cls := "CandleStatuteModel", name := "restore", desc := "()I" } : Jvm.MethodName)) ∈ lw_all := lw_g (lw_at lw_m9 70 rfl) rfl
theorem q2069 : (Jvm.Cond.code ({ cls := "CandleStatuteModel", name := "restore", desc := "()I" } : Jvm.MethodName) prog_16_method_84_code (1 : Nat) (Option.some Jvm.ClassFile.FieldType.int)) ∈ lw_all := lw_g (lw_at lw_m9 71 rfl) rfl
theorem q2094 : (Jvm.Cond.castable "CandleStatuteModel" "java/lang/Object") ∈ lw_tbl := lw_at lw_m9 96 rfl
theorem in_X4 : ∀ w ∈ wsX40, w ∈ lw_all := lw_in wsX40 [1695, 1697, 1699, 1701, 1703, 1705, 1707, 1709, 1711, 1713, 1715, 1717, 1719, 1721, 1723, 1725, 1727, 1729, 1731, 1733, 1735, 1737, 1739, 1741, 1743] (by decide +kernel) (by decide +kernel)

