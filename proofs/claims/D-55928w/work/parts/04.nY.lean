/-! CandleStatute$Row -/
set_option maxRecDepth 100000
def RX2 : String := "CandleStatute$Row"
def TX2 : u_T := fun k => match k with
  | 0 => ("CandleStatute$Row", "own", "Ljava/util/ArrayList;", true)
  | _ => ("CandleStatute$Row", "most", "I", true)
def tyX2 : Nat → FieldType := fun k => match k with
  | 0 => .object "java/util/ArrayList"
  | _ => .int
abbrev wsX20 : List Cond := u_ws RX2 TX2 2
theorem nmX2 : ∀ a, a < 2 → ∀ b, b < 2 → a ≠ b → (TX2 a).2.1 ≠ (TX2 b).2.1 := by decide +kernel
theorem tyX2_ok : ∀ k, k < 2 → parseFieldDescriptor (TX2 k).2.2.1 = some (tyX2 k) := by decide +kernel
abbrev cX2_init : ByteArray := prog_10_method_1_code
def yX2_init : MethodName := ⟨RX2, "<init>", "(I)V"⟩
def dkwX2_init_0 : List UInt8 := [42, 183, 0, 3, 42, 27, 181, 0, 9, 42, 187, 0, 15, 89, 27, 183, 0, 17, 181, 0, 20, 177]
abbrev dktX2_init_0 : List UInt8 := dkwX2_init_0 ++ []
theorem dksX2_init_0 : cX2_init.data.toList.drop 0 = dktX2_init_0 := by decide +kernel
theorem dX2_init_0 : decode cX2_init 0 = .ok (.aload_n 0, 1) := dk_42 (dk_at dksX2_init_0 0 rfl rfl)
theorem dX2_init_1 : decode cX2_init 1 = .ok (.invokespecial 3, 3) := dk_183 0 3 (dk_at dksX2_init_0 1 rfl rfl)
theorem dX2_init_4 : decode cX2_init 4 = .ok (.aload_n 0, 1) := dk_42 (dk_at dksX2_init_0 4 rfl rfl)
theorem dX2_init_5 : decode cX2_init 5 = .ok (.iload_n 1, 1) := dk_27 (dk_at dksX2_init_0 5 rfl rfl)
theorem dX2_init_6 : decode cX2_init 6 = .ok (.putfield 9, 3) := dk_181 0 9 (dk_at dksX2_init_0 6 rfl rfl)
theorem dX2_init_9 : decode cX2_init 9 = .ok (.aload_n 0, 1) := dk_42 (dk_at dksX2_init_0 9 rfl rfl)
theorem dX2_init_10 : decode cX2_init 10 = .ok (.new 15, 3) := dk_187 0 15 (dk_at dksX2_init_0 10 rfl rfl)
theorem dX2_init_13 : decode cX2_init 13 = .ok (.dup, 1) := dk_89 (dk_at dksX2_init_0 13 rfl rfl)
theorem dX2_init_14 : decode cX2_init 14 = .ok (.iload_n 1, 1) := dk_27 (dk_at dksX2_init_0 14 rfl rfl)
theorem dX2_init_15 : decode cX2_init 15 = .ok (.invokespecial 17, 3) := dk_183 0 17 (dk_at dksX2_init_0 15 rfl rfl)
theorem dX2_init_18 : decode cX2_init 18 = .ok (.putfield 20, 3) := dk_181 0 20 (dk_at dksX2_init_0 18 rfl rfl)
theorem dX2_init_21 : decode cX2_init 21 = .ok (.return_, 1) := dk_177 (dk_at dksX2_init_0 21 rfl rfl)
abbrev cX2_puts : ByteArray := prog_10_method_6_code
def yX2_puts : MethodName := ⟨RX2, "puts", "(LCandleStatute$Copied;)I"⟩
def dkwX2_puts_0 : List UInt8 := [42, 180, 0, 20, 43, 182, 0, 45, 87, 42, 182, 0, 28, 4, 100, 172]
abbrev dktX2_puts_0 : List UInt8 := dkwX2_puts_0 ++ []
theorem dksX2_puts_0 : cX2_puts.data.toList.drop 0 = dktX2_puts_0 := by decide +kernel
theorem dX2_puts_0 : decode cX2_puts 0 = .ok (.aload_n 0, 1) := dk_42 (dk_at dksX2_puts_0 0 rfl rfl)
theorem dX2_puts_1 : decode cX2_puts 1 = .ok (.getfield 20, 3) := dk_180 0 20 (dk_at dksX2_puts_0 1 rfl rfl)
theorem dX2_puts_4 : decode cX2_puts 4 = .ok (.aload_n 1, 1) := dk_43 (dk_at dksX2_puts_0 4 rfl rfl)
theorem dX2_puts_5 : decode cX2_puts 5 = .ok (.invokevirtual 45, 3) := dk_182 0 45 (dk_at dksX2_puts_0 5 rfl rfl)
theorem dX2_puts_8 : decode cX2_puts 8 = .ok (.pop, 1) := dk_87 (dk_at dksX2_puts_0 8 rfl rfl)
theorem dX2_puts_9 : decode cX2_puts 9 = .ok (.aload_n 0, 1) := dk_42 (dk_at dksX2_puts_0 9 rfl rfl)
theorem dX2_puts_10 : decode cX2_puts 10 = .ok (.invokevirtual 28, 3) := dk_182 0 28 (dk_at dksX2_puts_0 10 rfl rfl)
theorem dX2_puts_13 : decode cX2_puts 13 = .ok (.iconst 1, 1) := dk_4 (dk_at dksX2_puts_0 13 rfl rfl)
theorem dX2_puts_14 : decode cX2_puts 14 = .ok (.isub, 1) := dk_100 (dk_at dksX2_puts_0 14 rfl rfl)
theorem dX2_puts_15 : decode cX2_puts 15 = .ok (.ireturn, 1) := dk_172 (dk_at dksX2_puts_0 15 rfl rfl)
abbrev cX2_many : ByteArray := prog_10_method_2_code
def yX2_many : MethodName := ⟨RX2, "many", "()I"⟩
def dkwX2_many_0 : List UInt8 := [42, 180, 0, 20, 182, 0, 24, 172]
abbrev dktX2_many_0 : List UInt8 := dkwX2_many_0 ++ []
theorem dksX2_many_0 : cX2_many.data.toList.drop 0 = dktX2_many_0 := by decide +kernel
theorem dX2_many_0 : decode cX2_many 0 = .ok (.aload_n 0, 1) := dk_42 (dk_at dksX2_many_0 0 rfl rfl)
theorem dX2_many_1 : decode cX2_many 1 = .ok (.getfield 20, 3) := dk_180 0 20 (dk_at dksX2_many_0 1 rfl rfl)
theorem dX2_many_4 : decode cX2_many 4 = .ok (.invokevirtual 24, 3) := dk_182 0 24 (dk_at dksX2_many_0 4 rfl rfl)
theorem dX2_many_7 : decode cX2_many 7 = .ok (.ireturn, 1) := dk_172 (dk_at dksX2_many_0 7 rfl rfl)
abbrev cX2_copy : ByteArray := prog_10_method_8_code
def yX2_copy : MethodName := ⟨RX2, "copy", "()LCandleStatute$Row;"⟩
def dkwX2_copy_2 : List UInt8 := [185, 0, 71, 1, 0, 192, 0, 39, 182, 0, 74, 54, 4, 167, 255, 222, 43, 176]
abbrev dktX2_copy_2 : List UInt8 := dkwX2_copy_2 ++ []
def dkwX2_copy_1 : List UInt8 := [185, 0, 61, 1, 0, 153, 0, 31, 44, 185, 0, 67, 1, 0, 192, 0, 39, 78, 43, 45]
abbrev dktX2_copy_1 : List UInt8 := dkwX2_copy_1 ++ dktX2_copy_2
def dkwX2_copy_0 : List UInt8 := [187, 0, 10, 89, 42, 180, 0, 9, 183, 0, 56, 76, 42, 180, 0, 20, 182, 0, 57, 77, 44]
abbrev dktX2_copy_0 : List UInt8 := dkwX2_copy_0 ++ dktX2_copy_1
theorem dksX2_copy_0 : cX2_copy.data.toList.drop 0 = dktX2_copy_0 := by decide +kernel
theorem dksX2_copy_1 : cX2_copy.data.toList.drop 21 = dktX2_copy_1 := dk_seg dksX2_copy_0 21 rfl rfl
theorem dksX2_copy_2 : cX2_copy.data.toList.drop 41 = dktX2_copy_2 := dk_seg dksX2_copy_1 20 rfl rfl
theorem dX2_copy_0 : decode cX2_copy 0 = .ok (.new 10, 3) := dk_187 0 10 (dk_at dksX2_copy_0 0 rfl rfl)
theorem dX2_copy_3 : decode cX2_copy 3 = .ok (.dup, 1) := dk_89 (dk_at dksX2_copy_0 3 rfl rfl)
theorem dX2_copy_4 : decode cX2_copy 4 = .ok (.aload_n 0, 1) := dk_42 (dk_at dksX2_copy_0 4 rfl rfl)
theorem dX2_copy_5 : decode cX2_copy 5 = .ok (.getfield 9, 3) := dk_180 0 9 (dk_at dksX2_copy_0 5 rfl rfl)
theorem dX2_copy_8 : decode cX2_copy 8 = .ok (.invokespecial 56, 3) := dk_183 0 56 (dk_at dksX2_copy_0 8 rfl rfl)
theorem dX2_copy_11 : decode cX2_copy 11 = .ok (.astore_n 1, 1) := dk_76 (dk_at dksX2_copy_0 11 rfl rfl)
theorem dX2_copy_12 : decode cX2_copy 12 = .ok (.aload_n 0, 1) := dk_42 (dk_at dksX2_copy_0 12 rfl rfl)
theorem dX2_copy_13 : decode cX2_copy 13 = .ok (.getfield 20, 3) := dk_180 0 20 (dk_at dksX2_copy_0 13 rfl rfl)
theorem dX2_copy_16 : decode cX2_copy 16 = .ok (.invokevirtual 57, 3) := dk_182 0 57 (dk_at dksX2_copy_0 16 rfl rfl)
theorem dX2_copy_19 : decode cX2_copy 19 = .ok (.astore_n 2, 1) := dk_77 (dk_at dksX2_copy_0 19 rfl rfl)
theorem dX2_copy_20 : decode cX2_copy 20 = .ok (.aload_n 2, 1) := dk_44 (dk_at dksX2_copy_0 20 rfl rfl)
theorem dX2_copy_21 : decode cX2_copy 21 = .ok (.invokeinterface 61 1, 5) := by decide +kernel
theorem dX2_copy_26 : decode cX2_copy 26 = .ok (.ifCond .eq 31, 3) := dk_153 0 31 (dk_at dksX2_copy_1 5 rfl rfl)
theorem dX2_copy_29 : decode cX2_copy 29 = .ok (.aload_n 2, 1) := dk_44 (dk_at dksX2_copy_1 8 rfl rfl)
theorem dX2_copy_30 : decode cX2_copy 30 = .ok (.invokeinterface 67 1, 5) := by decide +kernel
theorem dX2_copy_35 : decode cX2_copy 35 = .ok (.checkcast 39, 3) := dk_192 0 39 (dk_at dksX2_copy_1 14 rfl rfl)
theorem dX2_copy_38 : decode cX2_copy 38 = .ok (.astore_n 3, 1) := dk_78 (dk_at dksX2_copy_1 17 rfl rfl)
theorem dX2_copy_39 : decode cX2_copy 39 = .ok (.aload_n 1, 1) := dk_43 (dk_at dksX2_copy_1 18 rfl rfl)
theorem dX2_copy_40 : decode cX2_copy 40 = .ok (.aload_n 3, 1) := dk_45 (dk_at dksX2_copy_1 19 rfl rfl)
theorem dX2_copy_41 : decode cX2_copy 41 = .ok (.invokeinterface 71 1, 5) := by decide +kernel
theorem dX2_copy_46 : decode cX2_copy 46 = .ok (.checkcast 39, 3) := dk_192 0 39 (dk_at dksX2_copy_2 5 rfl rfl)
theorem dX2_copy_49 : decode cX2_copy 49 = .ok (.invokevirtual 74, 3) := dk_182 0 74 (dk_at dksX2_copy_2 8 rfl rfl)
theorem dX2_copy_52 : decode cX2_copy 52 = .ok (.istore 4, 2) := dk_54 4 (dk_at dksX2_copy_2 11 rfl rfl)
theorem dX2_copy_54 : decode cX2_copy 54 = .ok (.goto (-34), 3) := dk_167 255 222 (dk_at dksX2_copy_2 13 rfl rfl)
theorem dX2_copy_57 : decode cX2_copy 57 = .ok (.aload_n 1, 1) := dk_43 (dk_at dksX2_copy_2 16 rfl rfl)
theorem dX2_copy_58 : decode cX2_copy 58 = .ok (.areturn, 1) := dk_176 (dk_at dksX2_copy_2 17 rfl rfl)
abbrev cX2_get : ByteArray := prog_10_method_4_code
def yX2_get : MethodName := ⟨RX2, "get", "(I)LCandleStatute$Copied;"⟩
def dkwX2_get_0 : List UInt8 := [42, 180, 0, 20, 27, 182, 0, 35, 192, 0, 39, 176]
abbrev dktX2_get_0 : List UInt8 := dkwX2_get_0 ++ []
theorem dksX2_get_0 : cX2_get.data.toList.drop 0 = dktX2_get_0 := by decide +kernel
theorem dX2_get_0 : decode cX2_get 0 = .ok (.aload_n 0, 1) := dk_42 (dk_at dksX2_get_0 0 rfl rfl)
theorem dX2_get_1 : decode cX2_get 1 = .ok (.getfield 20, 3) := dk_180 0 20 (dk_at dksX2_get_0 1 rfl rfl)
theorem dX2_get_4 : decode cX2_get 4 = .ok (.iload_n 1, 1) := dk_27 (dk_at dksX2_get_0 4 rfl rfl)
theorem dX2_get_5 : decode cX2_get 5 = .ok (.invokevirtual 35, 3) := dk_182 0 35 (dk_at dksX2_get_0 5 rfl rfl)
theorem dX2_get_8 : decode cX2_get 8 = .ok (.checkcast 39, 3) := dk_192 0 39 (dk_at dksX2_get_0 8 rfl rfl)
theorem dX2_get_11 : decode cX2_get 11 = .ok (.areturn, 1) := dk_176 (dk_at dksX2_get_0 11 rfl rfl)
abbrev cX2_iterator : ByteArray := prog_10_method_9_code
def yX2_iterator : MethodName := ⟨RX2, "iterator", "()Ljava/util/Iterator;"⟩
def dkwX2_iterator_0 : List UInt8 := [42, 180, 0, 20, 182, 0, 57, 176]
abbrev dktX2_iterator_0 : List UInt8 := dkwX2_iterator_0 ++ []
theorem dksX2_iterator_0 : cX2_iterator.data.toList.drop 0 = dktX2_iterator_0 := by decide +kernel
theorem dX2_iterator_0 : decode cX2_iterator 0 = .ok (.aload_n 0, 1) := dk_42 (dk_at dksX2_iterator_0 0 rfl rfl)
theorem dX2_iterator_1 : decode cX2_iterator 1 = .ok (.getfield 20, 3) := dk_180 0 20 (dk_at dksX2_iterator_0 1 rfl rfl)
theorem dX2_iterator_4 : decode cX2_iterator 4 = .ok (.invokevirtual 57, 3) := dk_182 0 57 (dk_at dksX2_iterator_0 4 rfl rfl)
theorem dX2_iterator_7 : decode cX2_iterator 7 = .ok (.areturn, 1) := dk_176 (dk_at dksX2_iterator_0 7 rfl rfl)
abbrev cX2_checksRoom : ByteArray := prog_10_method_5_code
def yX2_checksRoom : MethodName := ⟨RX2, "checksRoom", "()V"⟩
def dkwX2_checksRoom_1 : List UInt8 := [177]
abbrev dktX2_checksRoom_1 : List UInt8 := dkwX2_checksRoom_1 ++ []
def dkwX2_checksRoom_0 : List UInt8 := [42, 182, 0, 28, 42, 180, 0, 9, 160, 0, 7, 4, 167, 0, 4, 3, 4, 42, 180, 0, 9, 184, 0, 41]
abbrev dktX2_checksRoom_0 : List UInt8 := dkwX2_checksRoom_0 ++ dktX2_checksRoom_1
theorem dksX2_checksRoom_0 : cX2_checksRoom.data.toList.drop 0 = dktX2_checksRoom_0 := by decide +kernel
theorem dksX2_checksRoom_1 : cX2_checksRoom.data.toList.drop 24 = dktX2_checksRoom_1 := dk_seg dksX2_checksRoom_0 24 rfl rfl
theorem dX2_checksRoom_0 : decode cX2_checksRoom 0 = .ok (.aload_n 0, 1) := dk_42 (dk_at dksX2_checksRoom_0 0 rfl rfl)
theorem dX2_checksRoom_1 : decode cX2_checksRoom 1 = .ok (.invokevirtual 28, 3) := dk_182 0 28 (dk_at dksX2_checksRoom_0 1 rfl rfl)
theorem dX2_checksRoom_4 : decode cX2_checksRoom 4 = .ok (.aload_n 0, 1) := dk_42 (dk_at dksX2_checksRoom_0 4 rfl rfl)
theorem dX2_checksRoom_5 : decode cX2_checksRoom 5 = .ok (.getfield 9, 3) := dk_180 0 9 (dk_at dksX2_checksRoom_0 5 rfl rfl)
theorem dX2_checksRoom_8 : decode cX2_checksRoom 8 = .ok (.if_icmp .ne 7, 3) := dk_160 0 7 (dk_at dksX2_checksRoom_0 8 rfl rfl)
theorem dX2_checksRoom_11 : decode cX2_checksRoom 11 = .ok (.iconst 1, 1) := dk_4 (dk_at dksX2_checksRoom_0 11 rfl rfl)
theorem dX2_checksRoom_12 : decode cX2_checksRoom 12 = .ok (.goto 4, 3) := dk_167 0 4 (dk_at dksX2_checksRoom_0 12 rfl rfl)
theorem dX2_checksRoom_15 : decode cX2_checksRoom 15 = .ok (.iconst 0, 1) := dk_3 (dk_at dksX2_checksRoom_0 15 rfl rfl)
theorem dX2_checksRoom_16 : decode cX2_checksRoom 16 = .ok (.iconst 1, 1) := dk_4 (dk_at dksX2_checksRoom_0 16 rfl rfl)
theorem dX2_checksRoom_17 : decode cX2_checksRoom 17 = .ok (.aload_n 0, 1) := dk_42 (dk_at dksX2_checksRoom_0 17 rfl rfl)
theorem dX2_checksRoom_18 : decode cX2_checksRoom 18 = .ok (.getfield 9, 3) := dk_180 0 9 (dk_at dksX2_checksRoom_0 18 rfl rfl)
theorem dX2_checksRoom_21 : decode cX2_checksRoom 21 = .ok (.invokestatic 41, 3) := dk_184 0 41 (dk_at dksX2_checksRoom_0 21 rfl rfl)
theorem dX2_checksRoom_24 : decode cX2_checksRoom 24 = .ok (.return_, 1) := dk_177 (dk_at dksX2_checksRoom_1 0 rfl rfl)
abbrev cX2_has : ByteArray := prog_10_method_3_code
def yX2_has : MethodName := ⟨RX2, "has", "(I)Z"⟩
def dkwX2_has_0 : List UInt8 := [27, 3, 42, 182, 0, 28, 4, 100, 184, 0, 31, 172]
abbrev dktX2_has_0 : List UInt8 := dkwX2_has_0 ++ []
theorem dksX2_has_0 : cX2_has.data.toList.drop 0 = dktX2_has_0 := by decide +kernel
theorem dX2_has_0 : decode cX2_has 0 = .ok (.iload_n 1, 1) := dk_27 (dk_at dksX2_has_0 0 rfl rfl)
theorem dX2_has_1 : decode cX2_has 1 = .ok (.iconst 0, 1) := dk_3 (dk_at dksX2_has_0 1 rfl rfl)
theorem dX2_has_2 : decode cX2_has 2 = .ok (.aload_n 0, 1) := dk_42 (dk_at dksX2_has_0 2 rfl rfl)
theorem dX2_has_3 : decode cX2_has 3 = .ok (.invokevirtual 28, 3) := dk_182 0 28 (dk_at dksX2_has_0 3 rfl rfl)
theorem dX2_has_6 : decode cX2_has 6 = .ok (.iconst 1, 1) := dk_4 (dk_at dksX2_has_0 6 rfl rfl)
theorem dX2_has_7 : decode cX2_has 7 = .ok (.isub, 1) := dk_100 (dk_at dksX2_has_0 7 rfl rfl)
theorem dX2_has_8 : decode cX2_has 8 = .ok (.invokestatic 31, 3) := dk_184 0 31 (dk_at dksX2_has_0 8 rfl rfl)
theorem dX2_has_11 : decode cX2_has 11 = .ok (.ireturn, 1) := dk_172 (dk_at dksX2_has_0 11 rfl rfl)
abbrev cX2_drops : ByteArray := prog_10_method_7_code
def yX2_drops : MethodName := ⟨RX2, "drops", "(I)LCandleStatute$Copied;"⟩
def dkwX2_drops_3 : List UInt8 := [78, 44, 176]
abbrev dktX2_drops_3 : List UInt8 := dkwX2_drops_3 ++ []
def dkwX2_drops_2 : List UInt8 := [58, 4, 132, 3, 1, 167, 255, 217, 42, 180, 0, 20, 42, 182, 0, 28, 4, 100, 182, 0, 53, 192, 0, 39]
abbrev dktX2_drops_2 : List UInt8 := dkwX2_drops_2 ++ dktX2_drops_3
def dkwX2_drops_1 : List UInt8 := [42, 180, 0, 20, 29, 42, 180, 0, 20, 29, 4, 96, 182, 0, 35, 192, 0, 39, 182, 0, 49, 192, 0, 39]
abbrev dktX2_drops_1 : List UInt8 := dkwX2_drops_1 ++ dktX2_drops_2
def dkwX2_drops_0 : List UInt8 := [42, 180, 0, 20, 27, 182, 0, 35, 192, 0, 39, 77, 27, 62, 29, 4, 96, 42, 182, 0, 28, 162, 0, 35]
abbrev dktX2_drops_0 : List UInt8 := dkwX2_drops_0 ++ dktX2_drops_1
theorem dksX2_drops_0 : cX2_drops.data.toList.drop 0 = dktX2_drops_0 := by decide +kernel
theorem dksX2_drops_1 : cX2_drops.data.toList.drop 24 = dktX2_drops_1 := dk_seg dksX2_drops_0 24 rfl rfl
theorem dksX2_drops_2 : cX2_drops.data.toList.drop 48 = dktX2_drops_2 := dk_seg dksX2_drops_1 24 rfl rfl
theorem dksX2_drops_3 : cX2_drops.data.toList.drop 72 = dktX2_drops_3 := dk_seg dksX2_drops_2 24 rfl rfl
theorem dX2_drops_0 : decode cX2_drops 0 = .ok (.aload_n 0, 1) := dk_42 (dk_at dksX2_drops_0 0 rfl rfl)
theorem dX2_drops_1 : decode cX2_drops 1 = .ok (.getfield 20, 3) := dk_180 0 20 (dk_at dksX2_drops_0 1 rfl rfl)
theorem dX2_drops_4 : decode cX2_drops 4 = .ok (.iload_n 1, 1) := dk_27 (dk_at dksX2_drops_0 4 rfl rfl)
theorem dX2_drops_5 : decode cX2_drops 5 = .ok (.invokevirtual 35, 3) := dk_182 0 35 (dk_at dksX2_drops_0 5 rfl rfl)
theorem dX2_drops_8 : decode cX2_drops 8 = .ok (.checkcast 39, 3) := dk_192 0 39 (dk_at dksX2_drops_0 8 rfl rfl)
theorem dX2_drops_11 : decode cX2_drops 11 = .ok (.astore_n 2, 1) := dk_77 (dk_at dksX2_drops_0 11 rfl rfl)
theorem dX2_drops_12 : decode cX2_drops 12 = .ok (.iload_n 1, 1) := dk_27 (dk_at dksX2_drops_0 12 rfl rfl)
theorem dX2_drops_13 : decode cX2_drops 13 = .ok (.istore_n 3, 1) := dk_62 (dk_at dksX2_drops_0 13 rfl rfl)
theorem dX2_drops_14 : decode cX2_drops 14 = .ok (.iload_n 3, 1) := dk_29 (dk_at dksX2_drops_0 14 rfl rfl)
theorem dX2_drops_15 : decode cX2_drops 15 = .ok (.iconst 1, 1) := dk_4 (dk_at dksX2_drops_0 15 rfl rfl)
theorem dX2_drops_16 : decode cX2_drops 16 = .ok (.iadd, 1) := dk_96 (dk_at dksX2_drops_0 16 rfl rfl)
theorem dX2_drops_17 : decode cX2_drops 17 = .ok (.aload_n 0, 1) := dk_42 (dk_at dksX2_drops_0 17 rfl rfl)
theorem dX2_drops_18 : decode cX2_drops 18 = .ok (.invokevirtual 28, 3) := dk_182 0 28 (dk_at dksX2_drops_0 18 rfl rfl)
theorem dX2_drops_21 : decode cX2_drops 21 = .ok (.if_icmp .ge 35, 3) := dk_162 0 35 (dk_at dksX2_drops_0 21 rfl rfl)
theorem dX2_drops_24 : decode cX2_drops 24 = .ok (.aload_n 0, 1) := dk_42 (dk_at dksX2_drops_1 0 rfl rfl)
theorem dX2_drops_25 : decode cX2_drops 25 = .ok (.getfield 20, 3) := dk_180 0 20 (dk_at dksX2_drops_1 1 rfl rfl)
theorem dX2_drops_28 : decode cX2_drops 28 = .ok (.iload_n 3, 1) := dk_29 (dk_at dksX2_drops_1 4 rfl rfl)
theorem dX2_drops_29 : decode cX2_drops 29 = .ok (.aload_n 0, 1) := dk_42 (dk_at dksX2_drops_1 5 rfl rfl)
theorem dX2_drops_30 : decode cX2_drops 30 = .ok (.getfield 20, 3) := dk_180 0 20 (dk_at dksX2_drops_1 6 rfl rfl)
theorem dX2_drops_33 : decode cX2_drops 33 = .ok (.iload_n 3, 1) := dk_29 (dk_at dksX2_drops_1 9 rfl rfl)
theorem dX2_drops_34 : decode cX2_drops 34 = .ok (.iconst 1, 1) := dk_4 (dk_at dksX2_drops_1 10 rfl rfl)
theorem dX2_drops_35 : decode cX2_drops 35 = .ok (.iadd, 1) := dk_96 (dk_at dksX2_drops_1 11 rfl rfl)
theorem dX2_drops_36 : decode cX2_drops 36 = .ok (.invokevirtual 35, 3) := dk_182 0 35 (dk_at dksX2_drops_1 12 rfl rfl)
theorem dX2_drops_39 : decode cX2_drops 39 = .ok (.checkcast 39, 3) := dk_192 0 39 (dk_at dksX2_drops_1 15 rfl rfl)
theorem dX2_drops_42 : decode cX2_drops 42 = .ok (.invokevirtual 49, 3) := dk_182 0 49 (dk_at dksX2_drops_1 18 rfl rfl)
theorem dX2_drops_45 : decode cX2_drops 45 = .ok (.checkcast 39, 3) := dk_192 0 39 (dk_at dksX2_drops_1 21 rfl rfl)
theorem dX2_drops_48 : decode cX2_drops 48 = .ok (.astore 4, 2) := dk_58 4 (dk_at dksX2_drops_2 0 rfl rfl)
theorem dX2_drops_50 : decode cX2_drops 50 = .ok (.iinc 3 1, 3) := dk_132 3 1 (dk_at dksX2_drops_2 2 rfl rfl)
theorem dX2_drops_53 : decode cX2_drops 53 = .ok (.goto (-39), 3) := dk_167 255 217 (dk_at dksX2_drops_2 5 rfl rfl)
theorem dX2_drops_56 : decode cX2_drops 56 = .ok (.aload_n 0, 1) := dk_42 (dk_at dksX2_drops_2 8 rfl rfl)
theorem dX2_drops_57 : decode cX2_drops 57 = .ok (.getfield 20, 3) := dk_180 0 20 (dk_at dksX2_drops_2 9 rfl rfl)
theorem dX2_drops_60 : decode cX2_drops 60 = .ok (.aload_n 0, 1) := dk_42 (dk_at dksX2_drops_2 12 rfl rfl)
theorem dX2_drops_61 : decode cX2_drops 61 = .ok (.invokevirtual 28, 3) := dk_182 0 28 (dk_at dksX2_drops_2 13 rfl rfl)
theorem dX2_drops_64 : decode cX2_drops 64 = .ok (.iconst 1, 1) := dk_4 (dk_at dksX2_drops_2 16 rfl rfl)
theorem dX2_drops_65 : decode cX2_drops 65 = .ok (.isub, 1) := dk_100 (dk_at dksX2_drops_2 17 rfl rfl)
theorem dX2_drops_66 : decode cX2_drops 66 = .ok (.invokevirtual 53, 3) := dk_182 0 53 (dk_at dksX2_drops_2 18 rfl rfl)
theorem dX2_drops_69 : decode cX2_drops 69 = .ok (.checkcast 39, 3) := dk_192 0 39 (dk_at dksX2_drops_2 21 rfl rfl)
theorem dX2_drops_72 : decode cX2_drops 72 = .ok (.astore_n 3, 1) := dk_78 (dk_at dksX2_drops_3 0 rfl rfl)
theorem dX2_drops_73 : decode cX2_drops 73 = .ok (.aload_n 2, 1) := dk_44 (dk_at dksX2_drops_3 1 rfl rfl)
theorem dX2_drops_74 : decode cX2_drops 74 = .ok (.areturn, 1) := dk_176 (dk_at dksX2_drops_3 2 rfl rfl)
theorem q81 : (Jvm.Cond.initialized "CandleStatute$Row") ∈ lw_all := lw_g (lw_at lw_m1 3 rfl) rfl
theorem q129 : (Jvm.Cond.instantiable "CandleStatute$Row" (2 : Nat)) ∈ lw_all := lw_g (lw_at lw_m1 51 rfl) rfl
theorem q131 : (Jvm.Cond.instanceMethod ({ cls := "CandleStatute$Row", name := "<init>", desc := "(I)V" } : Jvm.MethodName)) ∈ lw_all := lw_g (lw_at lw_m1 53 rfl) rfl
theorem q132 : (Jvm.Cond.code ({ cls := "CandleStatute$Row", name := "<init>", desc := "(I)V" } : Jvm.MethodName) prog_10_method_1_code (2 : Nat) (Option.none : Option Jvm.ClassFile.FieldType)) ∈ lw_all := lw_g (lw_at lw_m1 54 rfl) rfl
theorem q133 : (Jvm.Cond.methodLink "CandleStatute$Row" (3 : Nat) ({ cls := "java/lang/Object", name := "<init>", desc := "()V" } : Jvm.MethodName)) ∈ lw_all := lw_g (lw_at lw_m1 55 rfl) rfl
theorem q134 : (Jvm.Cond.classLink "CandleStatute$Row" (15 : Nat) "java/util/ArrayList") ∈ lw_all := lw_g (lw_at lw_m1 56 rfl) rfl
theorem q136 : (Jvm.Cond.methodLink "CandleStatute$Row" (17 : Nat) ({ cls := "java/util/ArrayList", name := "<init>", desc := "(I)V" } : Jvm.MethodName)) ∈ lw_all := lw_g (lw_at lw_m1 58 rfl) rfl
theorem q167 : (Jvm.Cond.fieldLink "CandleStatute$Row" (20 : Nat) "CandleStatute$Row" "own" "Ljava/util/ArrayList;") ∈ lw_all := lw_g (lw_at lw_m1 89 rfl) rfl
theorem q168 : (Jvm.Cond.fieldLink "CandleStatute$Row" (9 : Nat) "CandleStatute$Row" "most" "I") ∈ lw_all := lw_g (lw_at lw_m1 90 rfl) rfl
theorem q169 : (Jvm.Cond.laysFinal "CandleStatute$Row" "CandleStatute$Row" "own" "Ljava/util/ArrayList;") ∈ lw_all := lw_g (lw_at lw_m1 91 rfl) rfl
theorem q170 : (Jvm.Cond.soleField "CandleStatute$Row" "own") ∈ lw_all := lw_g (lw_at lw_m1 92 rfl) rfl
theorem q171 : (Jvm.Cond.laysFinal "CandleStatute$Row" "CandleStatute$Row" "most" "I") ∈ lw_all := lw_g (lw_at lw_m1 93 rfl) rfl
theorem q172 : (Jvm.Cond.soleField "CandleStatute$Row" "most") ∈ lw_all := lw_g (lw_at lw_m1 94 rfl) rfl
theorem q173 : (Jvm.Cond.superclass "CandleStatute$Row" "java/lang/Object") ∈ lw_all := lw_g (lw_at lw_m1 95 rfl) rfl
theorem q231 : (Jvm.Cond.instanceMethod ({ cls := "CandleStatute$Row", name := "puts", desc := "(LCandleStatute$Copied;)I" } : Jvm.MethodName)) ∈ lw_all := lw_g (lw_at lw_m1 153 rfl) rfl
theorem q232 : (Jvm.Cond.selects "CandleStatute$Row" ({ cls := "CandleStatute$Row", name := "puts", desc := "(LCandleStatute$Copied;)I" } : Jvm.MethodName) ({ cls := "CandleStatute$Row", name := "puts", desc := "(LCandleStatute$Copied;)I" } : Jvm.MethodName)) ∈ lw_all := lw_g (lw_at lw_m1 154 rfl) rfl
theorem q233 : (Jvm.Cond.code ({ cls := "CandleStatute$Row", name := "puts", desc := "(LCandleStatute$Copied;)I" } : Jvm.MethodName) prog_10_method_6_code (2 : Nat) (Option.some Jvm.ClassFile.FieldType.int)) ∈ lw_all := lw_g (lw_at lw_m1 155 rfl) rfl
theorem q234 : (Jvm.Cond.methodLink "CandleStatute$Row" (45 : Nat) ({ cls := "java/util/ArrayList", name := "add", desc := "(Ljava/lang/Object;)Z" } : Jvm.MethodName)) ∈ lw_all := lw_g (lw_at lw_m1 156 rfl) rfl
theorem q275 : (Jvm.Cond.selects "CandleStatute$Row" ({ cls := "java/lang/Object", name := "getClass", desc := "()Ljava/lang/Class;" } : Jvm.MethodName) ({ cls := "java/lang/Object", name := "getClass", desc := "()Ljava/lang/Class;" } : Jvm.MethodName)) ∈ lw_all := lw_g (lw_at lw_m1 197 rfl) rfl
theorem q301 : (Jvm.Cond.methodLink "CandleStatute$Row" (28 : Nat) ({ cls := "CandleStatute$Row", name := "many", desc := "()I" } : Jvm.MethodName)) ∈ lw_all := lw_g (lw_at lw_m1 223 rfl) rfl
theorem q302 : (Jvm.Cond.instanceMethod ({ cls := "CandleStatute$Row", name := "many", desc := "()I" } : Jvm.MethodName)) ∈ lw_all := lw_g (lw_at lw_m1 224 rfl) rfl
theorem q303 : (Jvm.Cond.selects "CandleStatute$Row" ({ cls := "CandleStatute$Row", name := "many", desc := "()I" } : Jvm.MethodName) ({ cls := "CandleStatute$Row", name := "many", desc := "()I" } : Jvm.MethodName)) ∈ lw_all := lw_g (lw_at lw_m1 225 rfl) rfl
theorem q304 : (Jvm.Cond.code ({ cls := "CandleStatute$Row", name := "many", desc := "()I" } : Jvm.MethodName) prog_10_method_2_code (1 : Nat) (Option.some Jvm.ClassFile.FieldType.int)) ∈ lw_all := lw_g (lw_at lw_m1 226 rfl) rfl
theorem q305 : (Jvm.Cond.methodLink "CandleStatute$Row" (24 : Nat) ({ cls := "java/util/ArrayList", name := "size", desc := "()I" } : Jvm.MethodName)) ∈ lw_all := lw_g (lw_at lw_m1 227 rfl) rfl
theorem q407 : (Jvm.Cond.instanceMethod ({ cls := "CandleStatute$Row", name := "copy", desc := "()LCandleStatute$Row;" } : Jvm.MethodName)) ∈ lw_all := lw_g (lw_at lw_m2 89 rfl) rfl
theorem q408 : (Jvm.Cond.selects "CandleStatute$Row" ({ cls := "CandleStatute$Row", name := "copy", desc := "()LCandleStatute$Row;" } : Jvm.MethodName) ({ cls := "CandleStatute$Row", name := "copy", desc := "()LCandleStatute$Row;" } : Jvm.MethodName)) ∈ lw_all := lw_g (lw_at lw_m2 90 rfl) rfl
theorem q409 : (Jvm.Cond.code ({ cls := "CandleStatute$Row", name := "copy", desc := "()LCandleStatute$Row;" } : Jvm.MethodName) prog_10_method_8_code (5 : Nat) (Option.some (Jvm.ClassFile.FieldType.object "CandleStatute$Row"))) ∈ lw_all := lw_g (lw_at lw_m2 91 rfl) rfl
theorem q410 : (Jvm.Cond.classLink "CandleStatute$Row" (10 : Nat) "CandleStatute$Row") ∈ lw_all := lw_g (lw_at lw_m2 92 rfl) rfl
theorem q411 : (Jvm.Cond.methodLink "CandleStatute$Row" (56 : Nat) ({ cls := "CandleStatute$Row", name := "<init>", desc := "(I)V" } : Jvm.MethodName)) ∈ lw_all := lw_g (lw_at lw_m2 93 rfl) rfl
theorem q412 : (Jvm.Cond.methodLink "CandleStatute$Row" (57 : Nat) ({ cls := "java/util/ArrayList", name := "iterator", desc := "()Ljava/util/Iterator;" } : Jvm.MethodName)) ∈ lw_all := lw_g (lw_at lw_m2 94 rfl) rfl
theorem q435 : (Jvm.Cond.interfaceEntry "CandleStatute$Row" (61 : Nat)) ∈ lw_tbl := lw_at lw_m2 117 rfl
theorem q436 : (Jvm.Cond.methodLink "CandleStatute$Row" (61 : Nat) ({ cls := "java/util/Iterator", name := "hasNext", desc := "()Z" } : Jvm.MethodName)) ∈ lw_all := lw_g (lw_at lw_m2 118 rfl) rfl
theorem q445 : (Jvm.Cond.interfaceEntry "CandleStatute$Row" (67 : Nat)) ∈ lw_tbl := lw_at lw_m2 127 rfl
theorem q446 : (Jvm.Cond.methodLink "CandleStatute$Row" (67 : Nat) ({ cls := "java/util/Iterator", name := "next", desc := "()Ljava/lang/Object;" } : Jvm.MethodName)) ∈ lw_all := lw_g (lw_at lw_m2 128 rfl) rfl
theorem q458 : (Jvm.Cond.classLink "CandleStatute$Row" (39 : Nat) "CandleStatute$Copied") ∈ lw_all := lw_g (lw_at lw_m2 140 rfl) rfl
theorem q459 : (Jvm.Cond.interfaceEntry "CandleStatute$Row" (71 : Nat)) ∈ lw_tbl := lw_at lw_m2 141 rfl
theorem q460 : (Jvm.Cond.methodLink "CandleStatute$Row" (71 : Nat) ({ cls := "CandleStatute$Copied", name := "copy", desc := "()Ljava/lang/Object;" } : Jvm.MethodName)) ∈ lw_all := lw_g (lw_at lw_m2 142 rfl) rfl
theorem q547 : (Jvm.Cond.methodLink "CandleStatute$Row" (74 : Nat) ({ cls := "CandleStatute$Row", name := "puts", desc := "(LCandleStatute$Copied;)I" } : Jvm.MethodName)) ∈ lw_all := lw_g (lw_at lw_m2 229 rfl) rfl
theorem q559 : (Jvm.Cond.instanceMethod ({ cls := "CandleStatute$Row", name := "get", desc := "(I)LCandleStatute$Copied;" } : Jvm.MethodName)) ∈ lw_all := lw_g (lw_at lw_m3 1 rfl) rfl
theorem q560 : (Jvm.Cond.selects "CandleStatute$Row" ({ cls := "CandleStatute$Row", name := "get", desc := "(I)LCandleStatute$Copied;" } : Jvm.MethodName) ({ cls := "CandleStatute$Row", name := "get", desc := "(I)LCandleStatute$Copied;" } : Jvm.MethodName)) ∈ lw_all := lw_g (lw_at lw_m3 2 rfl) rfl
theorem q561 : (Jvm.Cond.code ({ cls := "CandleStatute$Row", name := "get", desc := "(I)LCandleStatute$Copied;" } : Jvm.MethodName) prog_10_method_4_code (2 : Nat) (Option.some (Jvm.ClassFile.FieldType.object "CandleStatute$Copied"))) ∈ lw_all := lw_g (lw_at lw_m3 3 rfl) rfl
theorem q562 : (Jvm.Cond.methodLink "CandleStatute$Row" (35 : Nat) ({ cls := "java/util/ArrayList", name := "get", desc := "(I)Ljava/lang/Object;" } : Jvm.MethodName)) ∈ lw_all := lw_g (lw_at lw_m3 4 rfl) rfl
theorem q660 : (Jvm.Cond.instanceMethod ({ cls := "CandleStatute$Row", name := "iterator", desc := "()Ljava/util/Iterator;" } : Jvm.MethodName)) ∈ lw_all := lw_g (lw_at lw_m3 102 rfl) rfl
theorem q661 : (Jvm.Cond.selects "CandleStatute$Row" ({ cls := "CandleStatute$Row", name := "iterator", desc := "()Ljava/util/Iterator;" } : Jvm.MethodName) ({ cls := "CandleStatute$Row", name := "iterator", desc := "()Ljava/util/Iterator;" } : Jvm.MethodName)) ∈ lw_all := lw_g (lw_at lw_m3 103 rfl) rfl
theorem q662 : (Jvm.Cond.code ({ cls := "CandleStatute$Row", name := "iterator", desc := "()Ljava/util/Iterator;" } : Jvm.MethodName) prog_10_method_9_code (1 : Nat) (Option.some (Jvm.ClassFile.FieldType.object "java/util/Iterator"))) ∈ lw_all := lw_g (lw_at lw_m3 104 rfl) rfl
theorem q673 : (Jvm.Cond.instanceMethod ({ cls := "CandleStatute$Row", name := "checksRoom", desc := "()V" } : Jvm.MethodName)) ∈ lw_all := lw_g (lw_at lw_m3 115 rfl) rfl
theorem q674 : (Jvm.Cond.selects "CandleStatute$Row" ({ cls := "CandleStatute$Row", name := "checksRoom", desc := "()V" } : Jvm.MethodName) ({ cls := "CandleStatute$Row", name := "checksRoom", desc := "()V" } : Jvm.MethodName)) ∈ lw_all := lw_g (lw_at lw_m3 116 rfl) rfl
theorem q675 : (Jvm.Cond.code ({ cls := "CandleStatute$Row", name := "checksRoom", desc := "()V" } : Jvm.MethodName) prog_10_method_5_code (1 : Nat) (Option.none : Option Jvm.ClassFile.FieldType)) ∈ lw_all := lw_g (lw_at lw_m3 117 rfl) rfl
theorem q676 : (Jvm.Cond.methodLinkNest "CandleStatute$Row" (41 : Nat) ({ cls := "CandleStatute", name := "refuse", desc := "(ZII)V" } : Jvm.MethodName) "CandleStatute") ∈ lw_tbl := lw_at lw_m3 118 rfl
theorem q735 : (Jvm.Cond.instanceMethod ({ cls := "CandleStatute$Row", name := "has", desc := "(I)Z" } : Jvm.MethodName)) ∈ lw_all := lw_g (lw_at lw_m3 177 rfl) rfl
theorem q736 : (Jvm.Cond.selects "CandleStatute$Row" ({ cls := "CandleStatute$Row", name := "has", desc := "(I)Z" } : Jvm.MethodName) ({ cls := "CandleStatute$Row", name := "has", desc := "(I)Z" } : Jvm.MethodName)) ∈ lw_all := lw_g (lw_at lw_m3 178 rfl) rfl
theorem q737 : (Jvm.Cond.code ({ cls := "CandleStatute$Row", name := "has", desc := "(I)Z" } : Jvm.MethodName) prog_10_method_3_code (2 : Nat) (Option.some Jvm.ClassFile.FieldType.boolean)) ∈ lw_all := lw_g (lw_at lw_m3 179 rfl) rfl
theorem q738 : (Jvm.Cond.methodLinkNest "CandleStatute$Row" (31 : Nat) ({ cls := "CandleStatute", name := "isIn", desc := "(III)Z" } : Jvm.MethodName) "CandleStatute") ∈ lw_tbl := lw_at lw_m3 180 rfl
theorem q796 : (Jvm.Cond.instanceMethod ({ cls := "CandleStatute$Row", name := "drops", desc := "(I)LCandleStatute$Copied;" } : Jvm.MethodName)) ∈ lw_all := lw_g (lw_at lw_m3 238 rfl) rfl
theorem q797 : (Jvm.Cond.selects "CandleStatute$Row" ({ cls := "CandleStatute$Row", name := "drops", desc := "(I)LCandleStatute$Copied;" } : Jvm.MethodName) ({ cls := "CandleStatute$Row", name := "drops", desc := "(I)LCandleStatute$Copied;" } : Jvm.MethodName)) ∈ lw_all := lw_g (lw_at lw_m3 239 rfl) rfl
theorem q798 : (Jvm.Cond.code ({ cls := "CandleStatute$Row", name := "drops", desc := "(I)LCandleStatute$Copied;" } : Jvm.MethodName) prog_10_method_7_code (5 : Nat) (Option.some (Jvm.ClassFile.FieldType.object "CandleStatute$Copied"))) ∈ lw_all := lw_g (lw_at lw_m4 0 rfl) rfl
theorem q799 : (Jvm.Cond.methodLink "CandleStatute$Row" (49 : Nat) ({ cls := "java/util/ArrayList", name := "set", desc := "(ILjava/lang/Object;)Ljava/lang/Object;" } : Jvm.MethodName)) ∈ lw_all := lw_g (lw_at lw_m4 1 rfl) rfl
theorem q803 : (Jvm.Cond.methodLink "CandleStatute$Row" (53 : Nat) ({ cls := "java/util/ArrayList", name := "remove", desc := "(I)Ljava/lang/Object;" } : Jvm.MethodName)) ∈ lw_all := lw_g (lw_at lw_m4 5 rfl) rfl
theorem q2089 : (Jvm.Cond.castable "CandleStatute$Row" "java/lang/Object") ∈ lw_tbl := lw_at lw_m9 91 rfl
theorem in_X2 : ∀ w ∈ wsX20, w ∈ lw_all := lw_in wsX20 [169, 171] (by decide +kernel) (by decide +kernel)

/-! CandleStatute$House -/
set_option maxRecDepth 100000
def RX3 : String := "CandleStatute$House"
def TX3 : u_T := fun k => match k with
  | 0 => ("CandleStatute$House", "isOpen", "Z", false)
  | 1 => ("CandleStatute$House", "heir", "I", false)
  | 2 => ("CandleStatute$House", "store", "I", false)
  | _ => ("CandleStatute$House", "pooled", "I", false)
def tyX3 : Nat → FieldType := fun k => match k with
  | 0 => .boolean
  | 1 => .int
  | 2 => .int
  | _ => .int
abbrev wsX30 : List Cond := u_ws RX3 TX3 4
theorem nmX3 : ∀ a, a < 4 → ∀ b, b < 4 → a ≠ b → (TX3 a).2.1 ≠ (TX3 b).2.1 := by decide +kernel
theorem tyX3_ok : ∀ k, k < 4 → parseFieldDescriptor (TX3 k).2.2.1 = some (tyX3 k) := by decide +kernel
abbrev cX3_init : ByteArray := prog_6_method_1_code
def yX3_init : MethodName := ⟨RX3, "<init>", "(I)V"⟩
def dkwX3_init_0 : List UInt8 := [42, 183, 0, 1, 42, 4, 181, 0, 7, 42, 27, 181, 0, 13, 177]
abbrev dktX3_init_0 : List UInt8 := dkwX3_init_0 ++ []
theorem dksX3_init_0 : cX3_init.data.toList.drop 0 = dktX3_init_0 := by decide +kernel
theorem dX3_init_0 : decode cX3_init 0 = .ok (.aload_n 0, 1) := dk_42 (dk_at dksX3_init_0 0 rfl rfl)
theorem dX3_init_1 : decode cX3_init 1 = .ok (.invokespecial 1, 3) := dk_183 0 1 (dk_at dksX3_init_0 1 rfl rfl)
theorem dX3_init_4 : decode cX3_init 4 = .ok (.aload_n 0, 1) := dk_42 (dk_at dksX3_init_0 4 rfl rfl)
theorem dX3_init_5 : decode cX3_init 5 = .ok (.iconst 1, 1) := dk_4 (dk_at dksX3_init_0 5 rfl rfl)
theorem dX3_init_6 : decode cX3_init 6 = .ok (.putfield 7, 3) := dk_181 0 7 (dk_at dksX3_init_0 6 rfl rfl)
theorem dX3_init_9 : decode cX3_init 9 = .ok (.aload_n 0, 1) := dk_42 (dk_at dksX3_init_0 9 rfl rfl)
theorem dX3_init_10 : decode cX3_init 10 = .ok (.iload_n 1, 1) := dk_27 (dk_at dksX3_init_0 10 rfl rfl)
theorem dX3_init_11 : decode cX3_init 11 = .ok (.putfield 13, 3) := dk_181 0 13 (dk_at dksX3_init_0 11 rfl rfl)
theorem dX3_init_14 : decode cX3_init 14 = .ok (.return_, 1) := dk_177 (dk_at dksX3_init_0 14 rfl rfl)
abbrev cX3_copy : ByteArray := prog_6_method_4_code
def yX3_copy : MethodName := ⟨RX3, "copy", "()Ljava/lang/Object;"⟩
theorem dX3_copy_0 : decode cX3_copy 0 = .ok (.aload_n 0, 1) := by decide +kernel
theorem dX3_copy_1 : decode cX3_copy 1 = .ok (.invokevirtual 46, 3) := by decide +kernel
theorem dX3_copy_4 : decode cX3_copy 4 = .ok (.areturn, 1) := by decide +kernel
abbrev cX3_copy_2 : ByteArray := prog_6_method_2_code
def yX3_copy_2 : MethodName := ⟨RX3, "copy", "()LCandleStatute$House;"⟩
def dkwX3_copy_2_1 : List UInt8 := [180, 0, 20, 181, 0, 20, 43, 42, 180, 0, 23, 181, 0, 23, 43, 176]
abbrev dktX3_copy_2_1 : List UInt8 := dkwX3_copy_2_1 ++ []
def dkwX3_copy_2_0 : List UInt8 := [187, 0, 8, 89, 42, 180, 0, 13, 183, 0, 17, 76, 43, 42, 180, 0, 7, 181, 0, 7, 43, 42]
abbrev dktX3_copy_2_0 : List UInt8 := dkwX3_copy_2_0 ++ dktX3_copy_2_1
theorem dksX3_copy_2_0 : cX3_copy_2.data.toList.drop 0 = dktX3_copy_2_0 := by decide +kernel
theorem dksX3_copy_2_1 : cX3_copy_2.data.toList.drop 22 = dktX3_copy_2_1 := dk_seg dksX3_copy_2_0 22 rfl rfl
theorem dX3_copy_2_0 : decode cX3_copy_2 0 = .ok (.new 8, 3) := dk_187 0 8 (dk_at dksX3_copy_2_0 0 rfl rfl)
theorem dX3_copy_2_3 : decode cX3_copy_2 3 = .ok (.dup, 1) := dk_89 (dk_at dksX3_copy_2_0 3 rfl rfl)
theorem dX3_copy_2_4 : decode cX3_copy_2 4 = .ok (.aload_n 0, 1) := dk_42 (dk_at dksX3_copy_2_0 4 rfl rfl)
theorem dX3_copy_2_5 : decode cX3_copy_2 5 = .ok (.getfield 13, 3) := dk_180 0 13 (dk_at dksX3_copy_2_0 5 rfl rfl)
theorem dX3_copy_2_8 : decode cX3_copy_2 8 = .ok (.invokespecial 17, 3) := dk_183 0 17 (dk_at dksX3_copy_2_0 8 rfl rfl)
theorem dX3_copy_2_11 : decode cX3_copy_2 11 = .ok (.astore_n 1, 1) := dk_76 (dk_at dksX3_copy_2_0 11 rfl rfl)
theorem dX3_copy_2_12 : decode cX3_copy_2 12 = .ok (.aload_n 1, 1) := dk_43 (dk_at dksX3_copy_2_0 12 rfl rfl)
theorem dX3_copy_2_13 : decode cX3_copy_2 13 = .ok (.aload_n 0, 1) := dk_42 (dk_at dksX3_copy_2_0 13 rfl rfl)
theorem dX3_copy_2_14 : decode cX3_copy_2 14 = .ok (.getfield 7, 3) := dk_180 0 7 (dk_at dksX3_copy_2_0 14 rfl rfl)
theorem dX3_copy_2_17 : decode cX3_copy_2 17 = .ok (.putfield 7, 3) := dk_181 0 7 (dk_at dksX3_copy_2_0 17 rfl rfl)
theorem dX3_copy_2_20 : decode cX3_copy_2 20 = .ok (.aload_n 1, 1) := dk_43 (dk_at dksX3_copy_2_0 20 rfl rfl)
theorem dX3_copy_2_21 : decode cX3_copy_2 21 = .ok (.aload_n 0, 1) := dk_42 (dk_at dksX3_copy_2_0 21 rfl rfl)
theorem dX3_copy_2_22 : decode cX3_copy_2 22 = .ok (.getfield 20, 3) := dk_180 0 20 (dk_at dksX3_copy_2_1 0 rfl rfl)
theorem dX3_copy_2_25 : decode cX3_copy_2 25 = .ok (.putfield 20, 3) := dk_181 0 20 (dk_at dksX3_copy_2_1 3 rfl rfl)
theorem dX3_copy_2_28 : decode cX3_copy_2 28 = .ok (.aload_n 1, 1) := dk_43 (dk_at dksX3_copy_2_1 6 rfl rfl)
theorem dX3_copy_2_29 : decode cX3_copy_2 29 = .ok (.aload_n 0, 1) := dk_42 (dk_at dksX3_copy_2_1 7 rfl rfl)
theorem dX3_copy_2_30 : decode cX3_copy_2 30 = .ok (.getfield 23, 3) := dk_180 0 23 (dk_at dksX3_copy_2_1 8 rfl rfl)
theorem dX3_copy_2_33 : decode cX3_copy_2 33 = .ok (.putfield 23, 3) := dk_181 0 23 (dk_at dksX3_copy_2_1 11 rfl rfl)
theorem dX3_copy_2_36 : decode cX3_copy_2 36 = .ok (.aload_n 1, 1) := dk_43 (dk_at dksX3_copy_2_1 14 rfl rfl)
theorem dX3_copy_2_37 : decode cX3_copy_2 37 = .ok (.areturn, 1) := dk_176 (dk_at dksX3_copy_2_1 15 rfl rfl)
abbrev cX3_text : ByteArray := prog_6_method_3_code
def yX3_text : MethodName := ⟨RX3, "text", "()Ljava/lang/String;"⟩
def dkwX3_text_3 : List UInt8 := [182, 0, 35, 182, 0, 38, 167, 0, 5, 18, 29, 182, 0, 31, 182, 0, 38, 176]
abbrev dktX3_text_3 : List UInt8 := dkwX3_text_3 ++ []
def dkwX3_text_2 : List UInt8 := [180, 0, 23, 158, 0, 28, 187, 0, 26, 89, 183, 0, 28, 18, 44, 182, 0, 31, 42, 180, 0, 23]
abbrev dktX3_text_2 : List UInt8 := dkwX3_text_2 ++ dktX3_text_3
def dkwX3_text_1 : List UInt8 := [182, 0, 31, 42, 180, 0, 20, 182, 0, 35, 182, 0, 38, 167, 0, 5, 18, 42, 182, 0, 31, 42]
abbrev dktX3_text_1 : List UInt8 := dkwX3_text_1 ++ dktX3_text_2
def dkwX3_text_0 : List UInt8 := [187, 0, 26, 89, 183, 0, 28, 42, 180, 0, 7, 153, 0, 28, 187, 0, 26, 89, 183, 0, 28, 18, 29]
abbrev dktX3_text_0 : List UInt8 := dkwX3_text_0 ++ dktX3_text_1
theorem dksX3_text_0 : cX3_text.data.toList.drop 0 = dktX3_text_0 := by decide +kernel
theorem dksX3_text_1 : cX3_text.data.toList.drop 23 = dktX3_text_1 := dk_seg dksX3_text_0 23 rfl rfl
theorem dksX3_text_2 : cX3_text.data.toList.drop 45 = dktX3_text_2 := dk_seg dksX3_text_1 22 rfl rfl
theorem dksX3_text_3 : cX3_text.data.toList.drop 67 = dktX3_text_3 := dk_seg dksX3_text_2 22 rfl rfl
theorem dX3_text_0 : decode cX3_text 0 = .ok (.new 26, 3) := dk_187 0 26 (dk_at dksX3_text_0 0 rfl rfl)
theorem dX3_text_3 : decode cX3_text 3 = .ok (.dup, 1) := dk_89 (dk_at dksX3_text_0 3 rfl rfl)
theorem dX3_text_4 : decode cX3_text 4 = .ok (.invokespecial 28, 3) := dk_183 0 28 (dk_at dksX3_text_0 4 rfl rfl)
theorem dX3_text_7 : decode cX3_text 7 = .ok (.aload_n 0, 1) := dk_42 (dk_at dksX3_text_0 7 rfl rfl)
theorem dX3_text_8 : decode cX3_text 8 = .ok (.getfield 7, 3) := dk_180 0 7 (dk_at dksX3_text_0 8 rfl rfl)
theorem dX3_text_11 : decode cX3_text 11 = .ok (.ifCond .eq 28, 3) := dk_153 0 28 (dk_at dksX3_text_0 11 rfl rfl)
theorem dX3_text_14 : decode cX3_text 14 = .ok (.new 26, 3) := dk_187 0 26 (dk_at dksX3_text_0 14 rfl rfl)
theorem dX3_text_17 : decode cX3_text 17 = .ok (.dup, 1) := dk_89 (dk_at dksX3_text_0 17 rfl rfl)
theorem dX3_text_18 : decode cX3_text 18 = .ok (.invokespecial 28, 3) := dk_183 0 28 (dk_at dksX3_text_0 18 rfl rfl)
theorem dX3_text_21 : decode cX3_text 21 = .ok (.ldc 29, 2) := dk_18 29 (dk_at dksX3_text_0 21 rfl rfl)
theorem dX3_text_23 : decode cX3_text 23 = .ok (.invokevirtual 31, 3) := dk_182 0 31 (dk_at dksX3_text_1 0 rfl rfl)
theorem dX3_text_26 : decode cX3_text 26 = .ok (.aload_n 0, 1) := dk_42 (dk_at dksX3_text_1 3 rfl rfl)
theorem dX3_text_27 : decode cX3_text 27 = .ok (.getfield 20, 3) := dk_180 0 20 (dk_at dksX3_text_1 4 rfl rfl)
theorem dX3_text_30 : decode cX3_text 30 = .ok (.invokevirtual 35, 3) := dk_182 0 35 (dk_at dksX3_text_1 7 rfl rfl)
theorem dX3_text_33 : decode cX3_text 33 = .ok (.invokevirtual 38, 3) := dk_182 0 38 (dk_at dksX3_text_1 10 rfl rfl)
theorem dX3_text_36 : decode cX3_text 36 = .ok (.goto 5, 3) := dk_167 0 5 (dk_at dksX3_text_1 13 rfl rfl)
theorem dX3_text_39 : decode cX3_text 39 = .ok (.ldc 42, 2) := dk_18 42 (dk_at dksX3_text_1 16 rfl rfl)
theorem dX3_text_41 : decode cX3_text 41 = .ok (.invokevirtual 31, 3) := dk_182 0 31 (dk_at dksX3_text_1 18 rfl rfl)
theorem dX3_text_44 : decode cX3_text 44 = .ok (.aload_n 0, 1) := dk_42 (dk_at dksX3_text_1 21 rfl rfl)
theorem dX3_text_45 : decode cX3_text 45 = .ok (.getfield 23, 3) := dk_180 0 23 (dk_at dksX3_text_2 0 rfl rfl)
theorem dX3_text_48 : decode cX3_text 48 = .ok (.ifCond .le 28, 3) := dk_158 0 28 (dk_at dksX3_text_2 3 rfl rfl)
theorem dX3_text_51 : decode cX3_text 51 = .ok (.new 26, 3) := dk_187 0 26 (dk_at dksX3_text_2 6 rfl rfl)
theorem dX3_text_54 : decode cX3_text 54 = .ok (.dup, 1) := dk_89 (dk_at dksX3_text_2 9 rfl rfl)
theorem dX3_text_55 : decode cX3_text 55 = .ok (.invokespecial 28, 3) := dk_183 0 28 (dk_at dksX3_text_2 10 rfl rfl)
theorem dX3_text_58 : decode cX3_text 58 = .ok (.ldc 44, 2) := dk_18 44 (dk_at dksX3_text_2 13 rfl rfl)
theorem dX3_text_60 : decode cX3_text 60 = .ok (.invokevirtual 31, 3) := dk_182 0 31 (dk_at dksX3_text_2 15 rfl rfl)
theorem dX3_text_63 : decode cX3_text 63 = .ok (.aload_n 0, 1) := dk_42 (dk_at dksX3_text_2 18 rfl rfl)
theorem dX3_text_64 : decode cX3_text 64 = .ok (.getfield 23, 3) := dk_180 0 23 (dk_at dksX3_text_2 19 rfl rfl)
theorem dX3_text_67 : decode cX3_text 67 = .ok (.invokevirtual 35, 3) := dk_182 0 35 (dk_at dksX3_text_3 0 rfl rfl)
theorem dX3_text_70 : decode cX3_text 70 = .ok (.invokevirtual 38, 3) := dk_182 0 38 (dk_at dksX3_text_3 3 rfl rfl)
theorem dX3_text_73 : decode cX3_text 73 = .ok (.goto 5, 3) := dk_167 0 5 (dk_at dksX3_text_3 6 rfl rfl)
theorem dX3_text_76 : decode cX3_text 76 = .ok (.ldc 29, 2) := dk_18 29 (dk_at dksX3_text_3 9 rfl rfl)
theorem dX3_text_78 : decode cX3_text 78 = .ok (.invokevirtual 31, 3) := dk_182 0 31 (dk_at dksX3_text_3 11 rfl rfl)
theorem dX3_text_81 : decode cX3_text 81 = .ok (.invokevirtual 38, 3) := dk_182 0 38 (dk_at dksX3_text_3 14 rfl rfl)
theorem dX3_text_84 : decode cX3_text 84 = .ok (.areturn, 1) := dk_176 (dk_at dksX3_text_3 17 rfl rfl)
theorem q85 : (Jvm.Cond.initialized "CandleStatute$House") ∈ lw_all := lw_g (lw_at lw_m1 7 rfl) rfl
theorem q208 : (Jvm.Cond.instantiable "CandleStatute$House" (4 : Nat)) ∈ lw_all := lw_g (lw_at lw_m1 130 rfl) rfl
theorem q210 : (Jvm.Cond.instanceMethod ({ cls := "CandleStatute$House", name := "<init>", desc := "(I)V" } : Jvm.MethodName)) ∈ lw_all := lw_g (lw_at lw_m1 132 rfl) rfl
theorem q211 : (Jvm.Cond.code ({ cls := "CandleStatute$House", name := "<init>", desc := "(I)V" } : Jvm.MethodName) prog_6_method_1_code (2 : Nat) (Option.none : Option Jvm.ClassFile.FieldType)) ∈ lw_all := lw_g (lw_at lw_m1 133 rfl) rfl
theorem q212 : (Jvm.Cond.methodLink "CandleStatute$House" (1 : Nat) ({ cls := "java/lang/Object", name := "<init>", desc := "()V" } : Jvm.MethodName)) ∈ lw_all := lw_g (lw_at lw_m1 134 rfl) rfl
theorem q213 : (Jvm.Cond.fieldLink "CandleStatute$House" (7 : Nat) "CandleStatute$House" "isOpen" "Z") ∈ lw_all := lw_g (lw_at lw_m1 135 rfl) rfl
theorem q215 : (Jvm.Cond.fieldLink "CandleStatute$House" (13 : Nat) "CandleStatute$House" "heir" "I") ∈ lw_all := lw_g (lw_at lw_m1 137 rfl) rfl
theorem q217 : (Jvm.Cond.fieldLink "CandleStatute$House" (20 : Nat) "CandleStatute$House" "store" "I") ∈ lw_all := lw_g (lw_at lw_m1 139 rfl) rfl
theorem q219 : (Jvm.Cond.fieldLink "CandleStatute$House" (23 : Nat) "CandleStatute$House" "pooled" "I") ∈ lw_all := lw_g (lw_at lw_m1 141 rfl) rfl
theorem q221 : (Jvm.Cond.lays "CandleStatute$House" "CandleStatute$House" "isOpen" "Z") ∈ lw_all := lw_g (lw_at lw_m1 143 rfl) rfl
theorem q222 : (Jvm.Cond.soleField "CandleStatute$House" "isOpen") ∈ lw_all := lw_g (lw_at lw_m1 144 rfl) rfl
theorem q223 : (Jvm.Cond.lays "CandleStatute$House" "CandleStatute$House" "heir" "I") ∈ lw_all := lw_g (lw_at lw_m1 145 rfl) rfl
theorem q224 : (Jvm.Cond.soleField "CandleStatute$House" "heir") ∈ lw_all := lw_g (lw_at lw_m1 146 rfl) rfl
theorem q225 : (Jvm.Cond.lays "CandleStatute$House" "CandleStatute$House" "store" "I") ∈ lw_all := lw_g (lw_at lw_m1 147 rfl) rfl
theorem q226 : (Jvm.Cond.soleField "CandleStatute$House" "store") ∈ lw_all := lw_g (lw_at lw_m1 148 rfl) rfl
theorem q227 : (Jvm.Cond.lays "CandleStatute$House" "CandleStatute$House" "pooled" "I") ∈ lw_all := lw_g (lw_at lw_m1 149 rfl) rfl
theorem q228 : (Jvm.Cond.soleField "CandleStatute$House" "pooled") ∈ lw_all := lw_g (lw_at lw_m1 150 rfl) rfl
theorem q229 : (Jvm.Cond.superclass "CandleStatute$House" "java/lang/Object") ∈ lw_all := lw_g (lw_at lw_m1 151 rfl) rfl
theorem q272 : (Jvm.Cond.selects "CandleStatute$House" ({ cls := "java/lang/Object", name := "getClass", desc := "()Ljava/lang/Class;" } : Jvm.MethodName) ({ cls := "java/lang/Object", name := "getClass", desc := "()Ljava/lang/Class;" } : Jvm.MethodName)) ∈ lw_all := lw_g (lw_at lw_m1 194 rfl) rfl
theorem q486 : (Jvm.Cond.castable "CandleStatute$House" "CandleStatute$Copied") ∈ lw_tbl := lw_at lw_m2 168 rfl
theorem q487 : (Jvm.Cond.selects "CandleStatute$House" ({ cls := "CandleStatute$Copied", name := "copy", desc := "()Ljava/lang/Object;" } : Jvm.MethodName) ({ cls := "CandleStatute$House", name := "copy", desc := "()Ljava/lang/Object;" } : Jvm.MethodName)) ∈ lw_all := lw_g (lw_at lw_m2 169 rfl) rfl
theorem q488 : (Jvm.Cond.unhidden "CandleStatute$House" "copy" "()Ljava/lang/Object;") ∈ lw_tbl := lw_at lw_m2 170 rfl
theorem q489 : (Jvm.Cond.instanceMethod ({ cls := "CandleStatute$House", name := "copy", desc := "()Ljava/lang/Object;" } : Jvm.MethodName)) ∈ lw_all := lw_g (lw_at lw_m2 171 rfl) rfl
theorem q490 : (Jvm.Cond.publicMethod ({ cls := "CandleStatute$House", name := "copy", desc := "()Ljava/lang/Object;" } : Jvm.MethodName)) ∈ lw_tbl := lw_at lw_m2 172 rfl
theorem q491 : (Jvm.Cond.code ({ cls := "CandleStatute$House", name := "copy", desc := "()Ljava/lang/Object;" } : Jvm.MethodName) prog_6_method_4_code (1 : Nat) (Option.some (Jvm.ClassFile.FieldType.object "java/lang/Object"))) ∈ lw_all := lw_g (lw_at lw_m2 173 rfl) rfl
theorem q492 : (Jvm.Cond.methodLink "CandleStatute$House" (46 : Nat) ({ cls := "CandleStatute$House", name := "copy", desc := "()LCandleStatute$House;" } : Jvm.MethodName)) ∈ lw_all := lw_g (lw_at lw_m2 174 rfl) rfl
theorem q493 : (Jvm.Cond.instanceMethod ({ cls := "CandleStatute$House", name := "copy", desc := "()LCandleStatute$House;" } : Jvm.MethodName)) ∈ lw_all := lw_g (lw_at lw_m2 175 rfl) rfl
theorem q494 : (Jvm.Cond.selects "CandleStatute$House" ({ cls := "CandleStatute$House", name := "copy", desc := "()LCandleStatute$House;" } : Jvm.MethodName) ({ cls := "CandleStatute$House", name := "copy", desc := "()LCandleStatute$House;" } : Jvm.MethodName)) ∈ lw_all := lw_g (lw_at lw_m2 176 rfl) rfl
theorem q495 : (Jvm.Cond.code ({ cls := "CandleStatute$House", name := "copy", desc := "()LCandleStatute$House;" } : Jvm.MethodName) prog_6_method_2_code (2 : Nat) (Option.some (Jvm.ClassFile.FieldType.object "CandleStatute$House"))) ∈ lw_all := lw_g (lw_at lw_m2 177 rfl) rfl
theorem q496 : (Jvm.Cond.classLink "CandleStatute$House" (8 : Nat) "CandleStatute$House") ∈ lw_all := lw_g (lw_at lw_m2 178 rfl) rfl
theorem q497 : (Jvm.Cond.methodLink "CandleStatute$House" (17 : Nat) ({ cls := "CandleStatute$House", name := "<init>", desc := "(I)V" } : Jvm.MethodName)) ∈ lw_all := lw_g (lw_at lw_m2 179 rfl) rfl
theorem q1549 : (Jvm.Cond.instanceMethod ({ cls := "CandleStatute$House", name := "text", desc := "()Ljava/lang/String;" } : Jvm.MethodName)) ∈ lw_all := lw_g (lw_at lw_m7 31 rfl) rfl
theorem q1550 : (Jvm.Cond.selects "CandleStatute$House" ({ cls := "CandleStatute$House", name := "text", desc := "()Ljava/lang/String;" } : Jvm.MethodName) ({ cls := "CandleStatute$House", name := "text", desc := "()Ljava/lang/String;" } : Jvm.MethodName)) ∈ lw_all := lw_g (lw_at lw_m7 32 rfl) rfl
theorem q1551 : (Jvm.Cond.code ({ cls := "CandleStatute$House", name := "text", desc := "()Ljava/lang/String;" } : Jvm.MethodName) prog_6_method_3_code (1 : Nat) (Option.some (Jvm.ClassFile.FieldType.object "java/lang/String"))) ∈ lw_all := lw_g (lw_at lw_m7 33 rfl) rfl
theorem q1552 : (Jvm.Cond.classLink "CandleStatute$House" (26 : Nat) "java/lang/StringBuilder") ∈ lw_all := lw_g (lw_at lw_m7 34 rfl) rfl
theorem q1553 : (Jvm.Cond.methodLink "CandleStatute$House" (28 : Nat) ({ cls := "java/lang/StringBuilder", name := "<init>", desc := "()V" } : Jvm.MethodName)) ∈ lw_all := lw_g (lw_at lw_m7 35 rfl) rfl
theorem q1554 : (Jvm.Cond.stringRef "CandleStatute$House" (29 : Nat) "") ∈ lw_tbl := lw_at lw_m7 36 rfl
theorem q1555 : (Jvm.Cond.methodLink "CandleStatute$House" (31 : Nat) ({ cls := "java/lang/StringBuilder", name := "append", desc := "(Ljava/lang/String;)Ljava/lang/StringBuilder;" } : Jvm.MethodName)) ∈ lw_all := lw_g (lw_at lw_m7 37 rfl) rfl
theorem q1556 : (Jvm.Cond.methodLink "CandleStatute$House" (35 : Nat) ({ cls := "java/lang/StringBuilder", name := "append", desc := "(I)Ljava/lang/StringBuilder;" } : Jvm.MethodName)) ∈ lw_all := lw_g (lw_at lw_m7 38 rfl) rfl
theorem q1557 : (Jvm.Cond.methodLink "CandleStatute$House" (38 : Nat) ({ cls := "java/lang/StringBuilder", name := "toString", desc := "()Ljava/lang/String;" } : Jvm.MethodName)) ∈ lw_all := lw_g (lw_at lw_m7 39 rfl) rfl
theorem q1558 : (Jvm.Cond.stringRef "CandleStatute$House" (42 : Nat) "x") ∈ lw_tbl := lw_at lw_m7 40 rfl
theorem q1559 : (Jvm.Cond.stringRef "CandleStatute$House" (44 : Nat) "+") ∈ lw_tbl := lw_at lw_m7 41 rfl
theorem q2091 : (Jvm.Cond.castable "CandleStatute$House" "java/lang/Object") ∈ lw_tbl := lw_at lw_m9 93 rfl
theorem in_X3 : ∀ w ∈ wsX30, w ∈ lw_all := lw_in wsX30 [221, 223, 225, 227] (by decide +kernel) (by decide +kernel)

/-! CandleStatute$Claim -/
set_option maxRecDepth 100000
def RX5 : String := "CandleStatute$Claim"
def TX5 : u_T := fun k => match k with
  | 0 => ("CandleStatute$Claim", "claim", "I", true)
  | _ => ("CandleStatute$Claim", "store", "I", true)
def tyX5 : Nat → FieldType := fun k => match k with
  | 0 => .int
  | _ => .int
abbrev wsX50 : List Cond := u_ws RX5 TX5 2
theorem nmX5 : ∀ a, a < 2 → ∀ b, b < 2 → a ≠ b → (TX5 a).2.1 ≠ (TX5 b).2.1 := by decide +kernel
theorem tyX5_ok : ∀ k, k < 2 → parseFieldDescriptor (TX5 k).2.2.1 = some (tyX5 k) := by decide +kernel
abbrev cX5_copy : ByteArray := prog_2_method_4_code
def yX5_copy : MethodName := ⟨RX5, "copy", "()Ljava/lang/Object;"⟩
theorem dX5_copy_0 : decode cX5_copy 0 = .ok (.aload_n 0, 1) := by decide +kernel
theorem dX5_copy_1 : decode cX5_copy 1 = .ok (.invokevirtual 19, 3) := by decide +kernel
theorem dX5_copy_4 : decode cX5_copy 4 = .ok (.areturn, 1) := by decide +kernel
abbrev cX5_copy_2 : ByteArray := prog_2_method_2_code
def yX5_copy_2 : MethodName := ⟨RX5, "copy", "()LCandleStatute$Claim;"⟩
def dkwX5_copy_2_0 : List UInt8 := [187, 0, 8, 89, 42, 180, 0, 7, 42, 180, 0, 13, 183, 0, 16, 176]
abbrev dktX5_copy_2_0 : List UInt8 := dkwX5_copy_2_0 ++ []
theorem dksX5_copy_2_0 : cX5_copy_2.data.toList.drop 0 = dktX5_copy_2_0 := by decide +kernel
theorem dX5_copy_2_0 : decode cX5_copy_2 0 = .ok (.new 8, 3) := dk_187 0 8 (dk_at dksX5_copy_2_0 0 rfl rfl)
theorem dX5_copy_2_3 : decode cX5_copy_2 3 = .ok (.dup, 1) := dk_89 (dk_at dksX5_copy_2_0 3 rfl rfl)
theorem dX5_copy_2_4 : decode cX5_copy_2 4 = .ok (.aload_n 0, 1) := dk_42 (dk_at dksX5_copy_2_0 4 rfl rfl)
theorem dX5_copy_2_5 : decode cX5_copy_2 5 = .ok (.getfield 7, 3) := dk_180 0 7 (dk_at dksX5_copy_2_0 5 rfl rfl)
theorem dX5_copy_2_8 : decode cX5_copy_2 8 = .ok (.aload_n 0, 1) := dk_42 (dk_at dksX5_copy_2_0 8 rfl rfl)
theorem dX5_copy_2_9 : decode cX5_copy_2 9 = .ok (.getfield 13, 3) := dk_180 0 13 (dk_at dksX5_copy_2_0 9 rfl rfl)
theorem dX5_copy_2_12 : decode cX5_copy_2 12 = .ok (.invokespecial 16, 3) := dk_183 0 16 (dk_at dksX5_copy_2_0 12 rfl rfl)
theorem dX5_copy_2_15 : decode cX5_copy_2 15 = .ok (.areturn, 1) := dk_176 (dk_at dksX5_copy_2_0 15 rfl rfl)
abbrev cX5_init : ByteArray := prog_2_method_1_code
def yX5_init : MethodName := ⟨RX5, "<init>", "(II)V"⟩
def dkwX5_init_0 : List UInt8 := [42, 183, 0, 1, 42, 27, 181, 0, 7, 42, 28, 181, 0, 13, 177]
abbrev dktX5_init_0 : List UInt8 := dkwX5_init_0 ++ []
theorem dksX5_init_0 : cX5_init.data.toList.drop 0 = dktX5_init_0 := by decide +kernel
theorem dX5_init_0 : decode cX5_init 0 = .ok (.aload_n 0, 1) := dk_42 (dk_at dksX5_init_0 0 rfl rfl)
theorem dX5_init_1 : decode cX5_init 1 = .ok (.invokespecial 1, 3) := dk_183 0 1 (dk_at dksX5_init_0 1 rfl rfl)
theorem dX5_init_4 : decode cX5_init 4 = .ok (.aload_n 0, 1) := dk_42 (dk_at dksX5_init_0 4 rfl rfl)
theorem dX5_init_5 : decode cX5_init 5 = .ok (.iload_n 1, 1) := dk_27 (dk_at dksX5_init_0 5 rfl rfl)
theorem dX5_init_6 : decode cX5_init 6 = .ok (.putfield 7, 3) := dk_181 0 7 (dk_at dksX5_init_0 6 rfl rfl)
theorem dX5_init_9 : decode cX5_init 9 = .ok (.aload_n 0, 1) := dk_42 (dk_at dksX5_init_0 9 rfl rfl)
theorem dX5_init_10 : decode cX5_init 10 = .ok (.iload_n 2, 1) := dk_28 (dk_at dksX5_init_0 10 rfl rfl)
theorem dX5_init_11 : decode cX5_init 11 = .ok (.putfield 13, 3) := dk_181 0 13 (dk_at dksX5_init_0 11 rfl rfl)
theorem dX5_init_14 : decode cX5_init 14 = .ok (.return_, 1) := dk_177 (dk_at dksX5_init_0 14 rfl rfl)
abbrev cX5_aheadOf : ByteArray := prog_2_method_5_code
def yX5_aheadOf : MethodName := ⟨RX5, "aheadOf", "(Ljava/lang/Object;)I"⟩
def dkwX5_aheadOf_0 : List UInt8 := [42, 43, 192, 0, 8, 182, 0, 23, 172]
abbrev dktX5_aheadOf_0 : List UInt8 := dkwX5_aheadOf_0 ++ []
theorem dksX5_aheadOf_0 : cX5_aheadOf.data.toList.drop 0 = dktX5_aheadOf_0 := by decide +kernel
theorem dX5_aheadOf_0 : decode cX5_aheadOf 0 = .ok (.aload_n 0, 1) := dk_42 (dk_at dksX5_aheadOf_0 0 rfl rfl)
theorem dX5_aheadOf_1 : decode cX5_aheadOf 1 = .ok (.aload_n 1, 1) := dk_43 (dk_at dksX5_aheadOf_0 1 rfl rfl)
theorem dX5_aheadOf_2 : decode cX5_aheadOf 2 = .ok (.checkcast 8, 3) := dk_192 0 8 (dk_at dksX5_aheadOf_0 2 rfl rfl)
theorem dX5_aheadOf_5 : decode cX5_aheadOf 5 = .ok (.invokevirtual 23, 3) := dk_182 0 23 (dk_at dksX5_aheadOf_0 5 rfl rfl)
theorem dX5_aheadOf_8 : decode cX5_aheadOf 8 = .ok (.ireturn, 1) := dk_172 (dk_at dksX5_aheadOf_0 8 rfl rfl)
abbrev cX5_aheadOf_2 : ByteArray := prog_2_method_3_code
def yX5_aheadOf_2 : MethodName := ⟨RX5, "aheadOf", "(LCandleStatute$Claim;)I"⟩
def dkwX5_aheadOf_2_1 : List UInt8 := [180, 0, 13, 43, 180, 0, 13, 100, 172]
abbrev dktX5_aheadOf_2_1 : List UInt8 := dkwX5_aheadOf_2_1 ++ []
def dkwX5_aheadOf_2_0 : List UInt8 := [42, 180, 0, 7, 43, 180, 0, 7, 159, 0, 15, 42, 180, 0, 7, 43, 180, 0, 7, 100, 167, 0, 12, 42]
abbrev dktX5_aheadOf_2_0 : List UInt8 := dkwX5_aheadOf_2_0 ++ dktX5_aheadOf_2_1
theorem dksX5_aheadOf_2_0 : cX5_aheadOf_2.data.toList.drop 0 = dktX5_aheadOf_2_0 := by decide +kernel
theorem dksX5_aheadOf_2_1 : cX5_aheadOf_2.data.toList.drop 24 = dktX5_aheadOf_2_1 := dk_seg dksX5_aheadOf_2_0 24 rfl rfl
theorem dX5_aheadOf_2_0 : decode cX5_aheadOf_2 0 = .ok (.aload_n 0, 1) := dk_42 (dk_at dksX5_aheadOf_2_0 0 rfl rfl)
theorem dX5_aheadOf_2_1 : decode cX5_aheadOf_2 1 = .ok (.getfield 7, 3) := dk_180 0 7 (dk_at dksX5_aheadOf_2_0 1 rfl rfl)
theorem dX5_aheadOf_2_4 : decode cX5_aheadOf_2 4 = .ok (.aload_n 1, 1) := dk_43 (dk_at dksX5_aheadOf_2_0 4 rfl rfl)
theorem dX5_aheadOf_2_5 : decode cX5_aheadOf_2 5 = .ok (.getfield 7, 3) := dk_180 0 7 (dk_at dksX5_aheadOf_2_0 5 rfl rfl)
theorem dX5_aheadOf_2_8 : decode cX5_aheadOf_2 8 = .ok (.if_icmp .eq 15, 3) := dk_159 0 15 (dk_at dksX5_aheadOf_2_0 8 rfl rfl)
theorem dX5_aheadOf_2_11 : decode cX5_aheadOf_2 11 = .ok (.aload_n 0, 1) := dk_42 (dk_at dksX5_aheadOf_2_0 11 rfl rfl)
theorem dX5_aheadOf_2_12 : decode cX5_aheadOf_2 12 = .ok (.getfield 7, 3) := dk_180 0 7 (dk_at dksX5_aheadOf_2_0 12 rfl rfl)
theorem dX5_aheadOf_2_15 : decode cX5_aheadOf_2 15 = .ok (.aload_n 1, 1) := dk_43 (dk_at dksX5_aheadOf_2_0 15 rfl rfl)
theorem dX5_aheadOf_2_16 : decode cX5_aheadOf_2 16 = .ok (.getfield 7, 3) := dk_180 0 7 (dk_at dksX5_aheadOf_2_0 16 rfl rfl)
theorem dX5_aheadOf_2_19 : decode cX5_aheadOf_2 19 = .ok (.isub, 1) := dk_100 (dk_at dksX5_aheadOf_2_0 19 rfl rfl)
theorem dX5_aheadOf_2_20 : decode cX5_aheadOf_2 20 = .ok (.goto 12, 3) := dk_167 0 12 (dk_at dksX5_aheadOf_2_0 20 rfl rfl)
theorem dX5_aheadOf_2_23 : decode cX5_aheadOf_2 23 = .ok (.aload_n 0, 1) := dk_42 (dk_at dksX5_aheadOf_2_0 23 rfl rfl)
theorem dX5_aheadOf_2_24 : decode cX5_aheadOf_2 24 = .ok (.getfield 13, 3) := dk_180 0 13 (dk_at dksX5_aheadOf_2_1 0 rfl rfl)
theorem dX5_aheadOf_2_27 : decode cX5_aheadOf_2 27 = .ok (.aload_n 1, 1) := dk_43 (dk_at dksX5_aheadOf_2_1 3 rfl rfl)
theorem dX5_aheadOf_2_28 : decode cX5_aheadOf_2 28 = .ok (.getfield 13, 3) := dk_180 0 13 (dk_at dksX5_aheadOf_2_1 4 rfl rfl)
theorem dX5_aheadOf_2_31 : decode cX5_aheadOf_2 31 = .ok (.isub, 1) := dk_100 (dk_at dksX5_aheadOf_2_1 7 rfl rfl)
theorem dX5_aheadOf_2_32 : decode cX5_aheadOf_2 32 = .ok (.ireturn, 1) := dk_172 (dk_at dksX5_aheadOf_2_1 8 rfl rfl)
theorem q97 : (Jvm.Cond.initialized "CandleStatute$Claim") ∈ lw_all := lw_g (lw_at lw_m1 19 rfl) rfl
theorem q269 : (Jvm.Cond.selects "CandleStatute$Claim" ({ cls := "java/lang/Object", name := "getClass", desc := "()Ljava/lang/Class;" } : Jvm.MethodName) ({ cls := "java/lang/Object", name := "getClass", desc := "()Ljava/lang/Class;" } : Jvm.MethodName)) ∈ lw_all := lw_g (lw_at lw_m1 191 rfl) rfl
theorem q463 : (Jvm.Cond.castable "CandleStatute$Claim" "CandleStatute$Copied") ∈ lw_tbl := lw_at lw_m2 145 rfl
theorem q464 : (Jvm.Cond.selects "CandleStatute$Claim" ({ cls := "CandleStatute$Copied", name := "copy", desc := "()Ljava/lang/Object;" } : Jvm.MethodName) ({ cls := "CandleStatute$Claim", name := "copy", desc := "()Ljava/lang/Object;" } : Jvm.MethodName)) ∈ lw_all := lw_g (lw_at lw_m2 146 rfl) rfl
theorem q465 : (Jvm.Cond.unhidden "CandleStatute$Claim" "copy" "()Ljava/lang/Object;") ∈ lw_tbl := lw_at lw_m2 147 rfl
theorem q466 : (Jvm.Cond.instanceMethod ({ cls := "CandleStatute$Claim", name := "copy", desc := "()Ljava/lang/Object;" } : Jvm.MethodName)) ∈ lw_all := lw_g (lw_at lw_m2 148 rfl) rfl
theorem q467 : (Jvm.Cond.publicMethod ({ cls := "CandleStatute$Claim", name := "copy", desc := "()Ljava/lang/Object;" } : Jvm.MethodName)) ∈ lw_tbl := lw_at lw_m2 149 rfl
theorem q468 : (Jvm.Cond.code ({ cls := "CandleStatute$Claim", name := "copy", desc := "()Ljava/lang/Object;" } : Jvm.MethodName) prog_2_method_4_code (1 : Nat) (Option.some (Jvm.ClassFile.FieldType.object "java/lang/Object"))) ∈ lw_all := lw_g (lw_at lw_m2 150 rfl) rfl
theorem q469 : (Jvm.Cond.methodLink "CandleStatute$Claim" (19 : Nat) ({ cls := "CandleStatute$Claim", name := "copy", desc := "()LCandleStatute$Claim;" } : Jvm.MethodName)) ∈ lw_all := lw_g (lw_at lw_m2 151 rfl) rfl
theorem q470 : (Jvm.Cond.instanceMethod ({ cls := "CandleStatute$Claim", name := "copy", desc := "()LCandleStatute$Claim;" } : Jvm.MethodName)) ∈ lw_all := lw_g (lw_at lw_m2 152 rfl) rfl
theorem q471 : (Jvm.Cond.selects "CandleStatute$Claim" ({ cls := "CandleStatute$Claim", name := "copy", desc := "()LCandleStatute$Claim;" } : Jvm.MethodName) ({ cls := "CandleStatute$Claim", name := "copy", desc := "()LCandleStatute$Claim;" } : Jvm.MethodName)) ∈ lw_all := lw_g (lw_at lw_m2 153 rfl) rfl
theorem q472 : (Jvm.Cond.code ({ cls := "CandleStatute$Claim", name := "copy", desc := "()LCandleStatute$Claim;" } : Jvm.MethodName) prog_2_method_2_code (1 : Nat) (Option.some (Jvm.ClassFile.FieldType.object "CandleStatute$Claim"))) ∈ lw_all := lw_g (lw_at lw_m2 154 rfl) rfl
theorem q473 : (Jvm.Cond.classLink "CandleStatute$Claim" (8 : Nat) "CandleStatute$Claim") ∈ lw_all := lw_g (lw_at lw_m2 155 rfl) rfl
theorem q474 : (Jvm.Cond.instantiable "CandleStatute$Claim" (2 : Nat)) ∈ lw_all := lw_g (lw_at lw_m2 156 rfl) rfl
theorem q475 : (Jvm.Cond.methodLink "CandleStatute$Claim" (16 : Nat) ({ cls := "CandleStatute$Claim", name := "<init>", desc := "(II)V" } : Jvm.MethodName)) ∈ lw_all := lw_g (lw_at lw_m2 157 rfl) rfl
theorem q476 : (Jvm.Cond.instanceMethod ({ cls := "CandleStatute$Claim", name := "<init>", desc := "(II)V" } : Jvm.MethodName)) ∈ lw_all := lw_g (lw_at lw_m2 158 rfl) rfl
theorem q477 : (Jvm.Cond.code ({ cls := "CandleStatute$Claim", name := "<init>", desc := "(II)V" } : Jvm.MethodName) prog_2_method_1_code (3 : Nat) (Option.none : Option Jvm.ClassFile.FieldType)) ∈ lw_all := lw_g (lw_at lw_m2 159 rfl) rfl
theorem q478 : (Jvm.Cond.methodLink "CandleStatute$Claim" (1 : Nat) ({ cls := "java/lang/Object", name := "<init>", desc := "()V" } : Jvm.MethodName)) ∈ lw_all := lw_g (lw_at lw_m2 160 rfl) rfl
theorem q479 : (Jvm.Cond.fieldLink "CandleStatute$Claim" (7 : Nat) "CandleStatute$Claim" "claim" "I") ∈ lw_all := lw_g (lw_at lw_m2 161 rfl) rfl
theorem q480 : (Jvm.Cond.fieldLink "CandleStatute$Claim" (13 : Nat) "CandleStatute$Claim" "store" "I") ∈ lw_all := lw_g (lw_at lw_m2 162 rfl) rfl
theorem q481 : (Jvm.Cond.laysFinal "CandleStatute$Claim" "CandleStatute$Claim" "claim" "I") ∈ lw_all := lw_g (lw_at lw_m2 163 rfl) rfl
theorem q482 : (Jvm.Cond.soleField "CandleStatute$Claim" "claim") ∈ lw_all := lw_g (lw_at lw_m2 164 rfl) rfl
theorem q483 : (Jvm.Cond.laysFinal "CandleStatute$Claim" "CandleStatute$Claim" "store" "I") ∈ lw_all := lw_g (lw_at lw_m2 165 rfl) rfl
theorem q484 : (Jvm.Cond.soleField "CandleStatute$Claim" "store") ∈ lw_all := lw_g (lw_at lw_m2 166 rfl) rfl
theorem q485 : (Jvm.Cond.superclass "CandleStatute$Claim" "java/lang/Object") ∈ lw_all := lw_g (lw_at lw_m2 167 rfl) rfl
theorem q1043 : (Jvm.Cond.castable "CandleStatute$Claim" "CandleStatute$Ordered") ∈ lw_tbl := lw_at lw_m5 5 rfl
theorem q1044 : (Jvm.Cond.selects "CandleStatute$Claim" ({ cls := "CandleStatute$Ordered", name := "aheadOf", desc := "(Ljava/lang/Object;)I" } : Jvm.MethodName) ({ cls := "CandleStatute$Claim", name := "aheadOf", desc := "(Ljava/lang/Object;)I" } : Jvm.MethodName)) ∈ lw_all := lw_g (lw_at lw_m5 6 rfl) rfl
theorem q1045 : (Jvm.Cond.unhidden "CandleStatute$Claim" "aheadOf" "(Ljava/lang/Object;)I") ∈ lw_tbl := lw_at lw_m5 7 rfl
theorem q1046 : (Jvm.Cond.instanceMethod ({ cls := "CandleStatute$Claim", name := "aheadOf", desc := "(Ljava/lang/Object;)I" } : Jvm.MethodName)) ∈ lw_all := lw_g (lw_at lw_m5 8 rfl) rfl
theorem q1047 : (Jvm.Cond.publicMethod ({ cls := "CandleStatute$Claim", name := "aheadOf", desc := "(Ljava/lang/Object;)I" } : Jvm.MethodName)) ∈ lw_tbl := lw_at lw_m5 9 rfl
theorem q1048 : (Jvm.Cond.code ({ cls := "CandleStatute$Claim", name := "aheadOf", desc := "(Ljava/lang/Object;)I" } : Jvm.MethodName) prog_2_method_5_code (2 : Nat) (Option.some Jvm.ClassFile.FieldType.int)) ∈ lw_all := lw_g (lw_at lw_m5 10 rfl) rfl
theorem q1049 : (Jvm.Cond.methodLink "CandleStatute$Claim" (23 : Nat) ({ cls := "CandleStatute$Claim", name := "aheadOf", desc := "(LCandleStatute$Claim;)I" } : Jvm.MethodName)) ∈ lw_all := lw_g (lw_at lw_m5 11 rfl) rfl
theorem q1050 : (Jvm.Cond.instanceMethod ({ cls := "CandleStatute$Claim", name := "aheadOf", desc := "(LCandleStatute$Claim;)I" } : Jvm.MethodName)) ∈ lw_all := lw_g (lw_at lw_m5 12 rfl) rfl
theorem q1051 : (Jvm.Cond.selects "CandleStatute$Claim" ({ cls := "CandleStatute$Claim", name := "aheadOf", desc := "(LCandleStatute$Claim;)I" } : Jvm.MethodName) ({ cls := "CandleStatute$Claim", name := "aheadOf", desc := "(LCandleStatute$Claim;)I" } : Jvm.MethodName)) ∈ lw_all := lw_g (lw_at lw_m5 13 rfl) rfl
theorem q1052 : (Jvm.Cond.code ({ cls := "CandleStatute$Claim", name := "aheadOf", desc := "(LCandleStatute$Claim;)I" } : Jvm.MethodName) prog_2_method_3_code (2 : Nat) (Option.some Jvm.ClassFile.FieldType.int)) ∈ lw_all := lw_g (lw_at lw_m5 14 rfl) rfl
theorem q2100 : (Jvm.Cond.castable "CandleStatute$Claim" "java/lang/Object") ∈ lw_tbl := lw_at lw_m9 102 rfl
theorem in_X5 : ∀ w ∈ wsX50, w ∈ lw_all := lw_in wsX50 [481, 483] (by decide +kernel) (by decide +kernel)

/-! CandleStatute$Stub -/
set_option maxRecDepth 100000
def RX6 : String := "CandleStatute$Stub"
def TX6 : u_T := fun k => match k with
  | 0 => ("CandleStatute$Stub", "house", "I", false)
  | 1 => ("CandleStatute$Stub", "wax", "I", false)
  | 2 => ("CandleStatute$Stub", "wick", "I", true)
  | 3 => ("CandleStatute$Stub", "owedTo", "I", false)
  | 4 => ("CandleStatute$Stub", "owes", "I", false)
  | 5 => ("CandleStatute$Stub", "snuffed", "I", false)
  | 6 => ("CandleStatute$Stub", "by", "I", false)
  | _ => ("CandleStatute$Stub", "given", "I", false)
def tyX6 : Nat → FieldType := fun k => match k with
  | 0 => .int
  | 1 => .int
  | 2 => .int
  | 3 => .int
  | 4 => .int
  | 5 => .int
  | 6 => .int
  | _ => .int
abbrev wsX60 : List Cond := u_ws RX6 TX6 8
theorem nmX6 : ∀ a, a < 8 → ∀ b, b < 8 → a ≠ b → (TX6 a).2.1 ≠ (TX6 b).2.1 := by decide +kernel
theorem tyX6_ok : ∀ k, k < 8 → parseFieldDescriptor (TX6 k).2.2.1 = some (tyX6 k) := by decide +kernel
abbrev cX6_copy : ByteArray := prog_12_method_11_code
def yX6_copy : MethodName := ⟨RX6, "copy", "()Ljava/lang/Object;"⟩
theorem dX6_copy_0 : decode cX6_copy 0 = .ok (.aload_n 0, 1) := by decide +kernel
theorem dX6_copy_1 : decode cX6_copy 1 = .ok (.invokevirtual 76, 3) := by decide +kernel
theorem dX6_copy_4 : decode cX6_copy 4 = .ok (.areturn, 1) := by decide +kernel
abbrev cX6_copy_2 : ByteArray := prog_12_method_2_code
def yX6_copy_2 : MethodName := ⟨RX6, "copy", "()LCandleStatute$Stub;"⟩
def dkwX6_copy_2_2 : List UInt8 := [180, 0, 15, 181, 0, 15, 43, 42, 180, 0, 36, 181, 0, 36, 43, 176]
abbrev dktX6_copy_2_2 : List UInt8 := dkwX6_copy_2_2 ++ []
def dkwX6_copy_2_1 : List UInt8 := [180, 0, 9, 181, 0, 9, 43, 42, 180, 0, 30, 181, 0, 30, 43, 42, 180, 0, 33, 181, 0, 33, 43, 42]
abbrev dktX6_copy_2_1 : List UInt8 := dkwX6_copy_2_1 ++ dktX6_copy_2_2
def dkwX6_copy_2_0 : List UInt8 := [187, 0, 10, 89, 42, 180, 0, 18, 42, 180, 0, 21, 42, 180, 0, 24, 183, 0, 27, 76, 43, 42]
abbrev dktX6_copy_2_0 : List UInt8 := dkwX6_copy_2_0 ++ dktX6_copy_2_1
theorem dksX6_copy_2_0 : cX6_copy_2.data.toList.drop 0 = dktX6_copy_2_0 := by decide +kernel
theorem dksX6_copy_2_1 : cX6_copy_2.data.toList.drop 22 = dktX6_copy_2_1 := dk_seg dksX6_copy_2_0 22 rfl rfl
theorem dksX6_copy_2_2 : cX6_copy_2.data.toList.drop 46 = dktX6_copy_2_2 := dk_seg dksX6_copy_2_1 24 rfl rfl
theorem dX6_copy_2_0 : decode cX6_copy_2 0 = .ok (.new 10, 3) := dk_187 0 10 (dk_at dksX6_copy_2_0 0 rfl rfl)
theorem dX6_copy_2_3 : decode cX6_copy_2 3 = .ok (.dup, 1) := dk_89 (dk_at dksX6_copy_2_0 3 rfl rfl)
theorem dX6_copy_2_4 : decode cX6_copy_2 4 = .ok (.aload_n 0, 1) := dk_42 (dk_at dksX6_copy_2_0 4 rfl rfl)
theorem dX6_copy_2_5 : decode cX6_copy_2 5 = .ok (.getfield 18, 3) := dk_180 0 18 (dk_at dksX6_copy_2_0 5 rfl rfl)
theorem dX6_copy_2_8 : decode cX6_copy_2 8 = .ok (.aload_n 0, 1) := dk_42 (dk_at dksX6_copy_2_0 8 rfl rfl)
theorem dX6_copy_2_9 : decode cX6_copy_2 9 = .ok (.getfield 21, 3) := dk_180 0 21 (dk_at dksX6_copy_2_0 9 rfl rfl)
theorem dX6_copy_2_12 : decode cX6_copy_2 12 = .ok (.aload_n 0, 1) := dk_42 (dk_at dksX6_copy_2_0 12 rfl rfl)
theorem dX6_copy_2_13 : decode cX6_copy_2 13 = .ok (.getfield 24, 3) := dk_180 0 24 (dk_at dksX6_copy_2_0 13 rfl rfl)
theorem dX6_copy_2_16 : decode cX6_copy_2 16 = .ok (.invokespecial 27, 3) := dk_183 0 27 (dk_at dksX6_copy_2_0 16 rfl rfl)
theorem dX6_copy_2_19 : decode cX6_copy_2 19 = .ok (.astore_n 1, 1) := dk_76 (dk_at dksX6_copy_2_0 19 rfl rfl)
theorem dX6_copy_2_20 : decode cX6_copy_2 20 = .ok (.aload_n 1, 1) := dk_43 (dk_at dksX6_copy_2_0 20 rfl rfl)
theorem dX6_copy_2_21 : decode cX6_copy_2 21 = .ok (.aload_n 0, 1) := dk_42 (dk_at dksX6_copy_2_0 21 rfl rfl)
theorem dX6_copy_2_22 : decode cX6_copy_2 22 = .ok (.getfield 9, 3) := dk_180 0 9 (dk_at dksX6_copy_2_1 0 rfl rfl)
theorem dX6_copy_2_25 : decode cX6_copy_2 25 = .ok (.putfield 9, 3) := dk_181 0 9 (dk_at dksX6_copy_2_1 3 rfl rfl)
theorem dX6_copy_2_28 : decode cX6_copy_2 28 = .ok (.aload_n 1, 1) := dk_43 (dk_at dksX6_copy_2_1 6 rfl rfl)
theorem dX6_copy_2_29 : decode cX6_copy_2 29 = .ok (.aload_n 0, 1) := dk_42 (dk_at dksX6_copy_2_1 7 rfl rfl)
theorem dX6_copy_2_30 : decode cX6_copy_2 30 = .ok (.getfield 30, 3) := dk_180 0 30 (dk_at dksX6_copy_2_1 8 rfl rfl)
theorem dX6_copy_2_33 : decode cX6_copy_2 33 = .ok (.putfield 30, 3) := dk_181 0 30 (dk_at dksX6_copy_2_1 11 rfl rfl)
theorem dX6_copy_2_36 : decode cX6_copy_2 36 = .ok (.aload_n 1, 1) := dk_43 (dk_at dksX6_copy_2_1 14 rfl rfl)
theorem dX6_copy_2_37 : decode cX6_copy_2 37 = .ok (.aload_n 0, 1) := dk_42 (dk_at dksX6_copy_2_1 15 rfl rfl)
theorem dX6_copy_2_38 : decode cX6_copy_2 38 = .ok (.getfield 33, 3) := dk_180 0 33 (dk_at dksX6_copy_2_1 16 rfl rfl)
theorem dX6_copy_2_41 : decode cX6_copy_2 41 = .ok (.putfield 33, 3) := dk_181 0 33 (dk_at dksX6_copy_2_1 19 rfl rfl)
theorem dX6_copy_2_44 : decode cX6_copy_2 44 = .ok (.aload_n 1, 1) := dk_43 (dk_at dksX6_copy_2_1 22 rfl rfl)
theorem dX6_copy_2_45 : decode cX6_copy_2 45 = .ok (.aload_n 0, 1) := dk_42 (dk_at dksX6_copy_2_1 23 rfl rfl)
theorem dX6_copy_2_46 : decode cX6_copy_2 46 = .ok (.getfield 15, 3) := dk_180 0 15 (dk_at dksX6_copy_2_2 0 rfl rfl)
theorem dX6_copy_2_49 : decode cX6_copy_2 49 = .ok (.putfield 15, 3) := dk_181 0 15 (dk_at dksX6_copy_2_2 3 rfl rfl)
theorem dX6_copy_2_52 : decode cX6_copy_2 52 = .ok (.aload_n 1, 1) := dk_43 (dk_at dksX6_copy_2_2 6 rfl rfl)
theorem dX6_copy_2_53 : decode cX6_copy_2 53 = .ok (.aload_n 0, 1) := dk_42 (dk_at dksX6_copy_2_2 7 rfl rfl)
theorem dX6_copy_2_54 : decode cX6_copy_2 54 = .ok (.getfield 36, 3) := dk_180 0 36 (dk_at dksX6_copy_2_2 8 rfl rfl)
theorem dX6_copy_2_57 : decode cX6_copy_2 57 = .ok (.putfield 36, 3) := dk_181 0 36 (dk_at dksX6_copy_2_2 11 rfl rfl)
theorem dX6_copy_2_60 : decode cX6_copy_2 60 = .ok (.aload_n 1, 1) := dk_43 (dk_at dksX6_copy_2_2 14 rfl rfl)
theorem dX6_copy_2_61 : decode cX6_copy_2 61 = .ok (.areturn, 1) := dk_176 (dk_at dksX6_copy_2_2 15 rfl rfl)
abbrev cX6_init : ByteArray := prog_12_method_1_code
def yX6_init : MethodName := ⟨RX6, "<init>", "(III)V"⟩
def dkwX6_init_1 : List UInt8 := [42, 29, 181, 0, 24, 177]
abbrev dktX6_init_1 : List UInt8 := dkwX6_init_1 ++ []
def dkwX6_init_0 : List UInt8 := [42, 183, 0, 3, 42, 2, 181, 0, 9, 42, 2, 181, 0, 15, 42, 27, 181, 0, 18, 42, 28, 181, 0, 21]
abbrev dktX6_init_0 : List UInt8 := dkwX6_init_0 ++ dktX6_init_1
theorem dksX6_init_0 : cX6_init.data.toList.drop 0 = dktX6_init_0 := by decide +kernel
theorem dksX6_init_1 : cX6_init.data.toList.drop 24 = dktX6_init_1 := dk_seg dksX6_init_0 24 rfl rfl
theorem dX6_init_0 : decode cX6_init 0 = .ok (.aload_n 0, 1) := dk_42 (dk_at dksX6_init_0 0 rfl rfl)
theorem dX6_init_1 : decode cX6_init 1 = .ok (.invokespecial 3, 3) := dk_183 0 3 (dk_at dksX6_init_0 1 rfl rfl)
theorem dX6_init_4 : decode cX6_init 4 = .ok (.aload_n 0, 1) := dk_42 (dk_at dksX6_init_0 4 rfl rfl)
theorem dX6_init_5 : decode cX6_init 5 = .ok (.iconst (-1), 1) := dk_2 (dk_at dksX6_init_0 5 rfl rfl)
theorem dX6_init_6 : decode cX6_init 6 = .ok (.putfield 9, 3) := dk_181 0 9 (dk_at dksX6_init_0 6 rfl rfl)
theorem dX6_init_9 : decode cX6_init 9 = .ok (.aload_n 0, 1) := dk_42 (dk_at dksX6_init_0 9 rfl rfl)
theorem dX6_init_10 : decode cX6_init 10 = .ok (.iconst (-1), 1) := dk_2 (dk_at dksX6_init_0 10 rfl rfl)
theorem dX6_init_11 : decode cX6_init 11 = .ok (.putfield 15, 3) := dk_181 0 15 (dk_at dksX6_init_0 11 rfl rfl)
theorem dX6_init_14 : decode cX6_init 14 = .ok (.aload_n 0, 1) := dk_42 (dk_at dksX6_init_0 14 rfl rfl)
theorem dX6_init_15 : decode cX6_init 15 = .ok (.iload_n 1, 1) := dk_27 (dk_at dksX6_init_0 15 rfl rfl)
theorem dX6_init_16 : decode cX6_init 16 = .ok (.putfield 18, 3) := dk_181 0 18 (dk_at dksX6_init_0 16 rfl rfl)
theorem dX6_init_19 : decode cX6_init 19 = .ok (.aload_n 0, 1) := dk_42 (dk_at dksX6_init_0 19 rfl rfl)
theorem dX6_init_20 : decode cX6_init 20 = .ok (.iload_n 2, 1) := dk_28 (dk_at dksX6_init_0 20 rfl rfl)
theorem dX6_init_21 : decode cX6_init 21 = .ok (.putfield 21, 3) := dk_181 0 21 (dk_at dksX6_init_0 21 rfl rfl)
theorem dX6_init_24 : decode cX6_init 24 = .ok (.aload_n 0, 1) := dk_42 (dk_at dksX6_init_1 0 rfl rfl)
theorem dX6_init_25 : decode cX6_init 25 = .ok (.iload_n 3, 1) := dk_29 (dk_at dksX6_init_1 1 rfl rfl)
theorem dX6_init_26 : decode cX6_init 26 = .ok (.putfield 24, 3) := dk_181 0 24 (dk_at dksX6_init_1 2 rfl rfl)
theorem dX6_init_29 : decode cX6_init 29 = .ok (.return_, 1) := dk_177 (dk_at dksX6_init_1 5 rfl rfl)
abbrev cX6_weight : ByteArray := prog_12_method_4_code
def yX6_weight : MethodName := ⟨RX6, "weight", "()I"⟩
def dkwX6_weight_0 : List UInt8 := [42, 180, 0, 21, 4, 96, 172]
abbrev dktX6_weight_0 : List UInt8 := dkwX6_weight_0 ++ []
theorem dksX6_weight_0 : cX6_weight.data.toList.drop 0 = dktX6_weight_0 := by decide +kernel
theorem dX6_weight_0 : decode cX6_weight 0 = .ok (.aload_n 0, 1) := dk_42 (dk_at dksX6_weight_0 0 rfl rfl)
theorem dX6_weight_1 : decode cX6_weight 1 = .ok (.getfield 21, 3) := dk_180 0 21 (dk_at dksX6_weight_0 1 rfl rfl)
theorem dX6_weight_4 : decode cX6_weight 4 = .ok (.iconst 1, 1) := dk_4 (dk_at dksX6_weight_0 4 rfl rfl)
theorem dX6_weight_5 : decode cX6_weight 5 = .ok (.iadd, 1) := dk_96 (dk_at dksX6_weight_0 5 rfl rfl)
theorem dX6_weight_6 : decode cX6_weight 6 = .ok (.ireturn, 1) := dk_172 (dk_at dksX6_weight_0 6 rfl rfl)
abbrev cX6_pays : ByteArray := prog_12_method_5_code
def yX6_pays : MethodName := ⟨RX6, "pays", "(I)I"⟩
def dkwX6_pays_1 : List UInt8 := [154, 0, 7, 2, 167, 0, 7, 42, 180, 0, 9, 181, 0, 9, 28, 172]
abbrev dktX6_pays_1 : List UInt8 := dkwX6_pays_1 ++ []
def dkwX6_pays_0 : List UInt8 := [27, 42, 180, 0, 30, 184, 0, 39, 61, 42, 89, 180, 0, 30, 28, 100, 181, 0, 30, 42, 42, 180, 0, 30]
abbrev dktX6_pays_0 : List UInt8 := dkwX6_pays_0 ++ dktX6_pays_1
theorem dksX6_pays_0 : cX6_pays.data.toList.drop 0 = dktX6_pays_0 := by decide +kernel
theorem dksX6_pays_1 : cX6_pays.data.toList.drop 24 = dktX6_pays_1 := dk_seg dksX6_pays_0 24 rfl rfl
theorem dX6_pays_0 : decode cX6_pays 0 = .ok (.iload_n 1, 1) := dk_27 (dk_at dksX6_pays_0 0 rfl rfl)
theorem dX6_pays_1 : decode cX6_pays 1 = .ok (.aload_n 0, 1) := dk_42 (dk_at dksX6_pays_0 1 rfl rfl)
theorem dX6_pays_2 : decode cX6_pays 2 = .ok (.getfield 30, 3) := dk_180 0 30 (dk_at dksX6_pays_0 2 rfl rfl)
theorem dX6_pays_5 : decode cX6_pays 5 = .ok (.invokestatic 39, 3) := dk_184 0 39 (dk_at dksX6_pays_0 5 rfl rfl)
theorem dX6_pays_8 : decode cX6_pays 8 = .ok (.istore_n 2, 1) := dk_61 (dk_at dksX6_pays_0 8 rfl rfl)
theorem dX6_pays_9 : decode cX6_pays 9 = .ok (.aload_n 0, 1) := dk_42 (dk_at dksX6_pays_0 9 rfl rfl)
theorem dX6_pays_10 : decode cX6_pays 10 = .ok (.dup, 1) := dk_89 (dk_at dksX6_pays_0 10 rfl rfl)
theorem dX6_pays_11 : decode cX6_pays 11 = .ok (.getfield 30, 3) := dk_180 0 30 (dk_at dksX6_pays_0 11 rfl rfl)
theorem dX6_pays_14 : decode cX6_pays 14 = .ok (.iload_n 2, 1) := dk_28 (dk_at dksX6_pays_0 14 rfl rfl)
theorem dX6_pays_15 : decode cX6_pays 15 = .ok (.isub, 1) := dk_100 (dk_at dksX6_pays_0 15 rfl rfl)
theorem dX6_pays_16 : decode cX6_pays 16 = .ok (.putfield 30, 3) := dk_181 0 30 (dk_at dksX6_pays_0 16 rfl rfl)
theorem dX6_pays_19 : decode cX6_pays 19 = .ok (.aload_n 0, 1) := dk_42 (dk_at dksX6_pays_0 19 rfl rfl)
theorem dX6_pays_20 : decode cX6_pays 20 = .ok (.aload_n 0, 1) := dk_42 (dk_at dksX6_pays_0 20 rfl rfl)
theorem dX6_pays_21 : decode cX6_pays 21 = .ok (.getfield 30, 3) := dk_180 0 30 (dk_at dksX6_pays_0 21 rfl rfl)
theorem dX6_pays_24 : decode cX6_pays 24 = .ok (.ifCond .ne 7, 3) := dk_154 0 7 (dk_at dksX6_pays_1 0 rfl rfl)
theorem dX6_pays_27 : decode cX6_pays 27 = .ok (.iconst (-1), 1) := dk_2 (dk_at dksX6_pays_1 3 rfl rfl)
theorem dX6_pays_28 : decode cX6_pays 28 = .ok (.goto 7, 3) := dk_167 0 7 (dk_at dksX6_pays_1 4 rfl rfl)
theorem dX6_pays_31 : decode cX6_pays 31 = .ok (.aload_n 0, 1) := dk_42 (dk_at dksX6_pays_1 7 rfl rfl)
theorem dX6_pays_32 : decode cX6_pays 32 = .ok (.getfield 9, 3) := dk_180 0 9 (dk_at dksX6_pays_1 8 rfl rfl)
theorem dX6_pays_35 : decode cX6_pays 35 = .ok (.putfield 9, 3) := dk_181 0 9 (dk_at dksX6_pays_1 11 rfl rfl)
theorem dX6_pays_38 : decode cX6_pays 38 = .ok (.iload_n 2, 1) := dk_28 (dk_at dksX6_pays_1 14 rfl rfl)
theorem dX6_pays_39 : decode cX6_pays 39 = .ok (.ireturn, 1) := dk_172 (dk_at dksX6_pays_1 15 rfl rfl)
abbrev cX6_frees : ByteArray := prog_12_method_7_code
def yX6_frees : MethodName := ⟨RX6, "frees", "()V"⟩
def dkwX6_frees_0 : List UInt8 := [42, 3, 181, 0, 33, 42, 2, 181, 0, 15, 177]
abbrev dktX6_frees_0 : List UInt8 := dkwX6_frees_0 ++ []
theorem dksX6_frees_0 : cX6_frees.data.toList.drop 0 = dktX6_frees_0 := by decide +kernel
theorem dX6_frees_0 : decode cX6_frees 0 = .ok (.aload_n 0, 1) := dk_42 (dk_at dksX6_frees_0 0 rfl rfl)
theorem dX6_frees_1 : decode cX6_frees 1 = .ok (.iconst 0, 1) := dk_3 (dk_at dksX6_frees_0 1 rfl rfl)
theorem dX6_frees_2 : decode cX6_frees 2 = .ok (.putfield 33, 3) := dk_181 0 33 (dk_at dksX6_frees_0 2 rfl rfl)
theorem dX6_frees_5 : decode cX6_frees 5 = .ok (.aload_n 0, 1) := dk_42 (dk_at dksX6_frees_0 5 rfl rfl)
theorem dX6_frees_6 : decode cX6_frees 6 = .ok (.iconst (-1), 1) := dk_2 (dk_at dksX6_frees_0 6 rfl rfl)
theorem dX6_frees_7 : decode cX6_frees 7 = .ok (.putfield 15, 3) := dk_181 0 15 (dk_at dksX6_frees_0 7 rfl rfl)
theorem dX6_frees_10 : decode cX6_frees 10 = .ok (.return_, 1) := dk_177 (dk_at dksX6_frees_0 10 rfl rfl)
abbrev cX6_forgives : ByteArray := prog_12_method_6_code
def yX6_forgives : MethodName := ⟨RX6, "forgives", "()V"⟩
def dkwX6_forgives_0 : List UInt8 := [42, 3, 181, 0, 30, 42, 2, 181, 0, 9, 177]
abbrev dktX6_forgives_0 : List UInt8 := dkwX6_forgives_0 ++ []
theorem dksX6_forgives_0 : cX6_forgives.data.toList.drop 0 = dktX6_forgives_0 := by decide +kernel
theorem dX6_forgives_0 : decode cX6_forgives 0 = .ok (.aload_n 0, 1) := dk_42 (dk_at dksX6_forgives_0 0 rfl rfl)
theorem dX6_forgives_1 : decode cX6_forgives 1 = .ok (.iconst 0, 1) := dk_3 (dk_at dksX6_forgives_0 1 rfl rfl)
theorem dX6_forgives_2 : decode cX6_forgives 2 = .ok (.putfield 30, 3) := dk_181 0 30 (dk_at dksX6_forgives_0 2 rfl rfl)
theorem dX6_forgives_5 : decode cX6_forgives 5 = .ok (.aload_n 0, 1) := dk_42 (dk_at dksX6_forgives_0 5 rfl rfl)
theorem dX6_forgives_6 : decode cX6_forgives 6 = .ok (.iconst (-1), 1) := dk_2 (dk_at dksX6_forgives_0 6 rfl rfl)
theorem dX6_forgives_7 : decode cX6_forgives 7 = .ok (.putfield 9, 3) := dk_181 0 9 (dk_at dksX6_forgives_0 7 rfl rfl)
theorem dX6_forgives_10 : decode cX6_forgives 10 = .ok (.return_, 1) := dk_177 (dk_at dksX6_forgives_0 10 rfl rfl)
abbrev cX6_comesTo : ByteArray := prog_12_method_9_code
def yX6_comesTo : MethodName := ⟨RX6, "comesTo", "(I)V"⟩
def dkwX6_comesTo_1 : List UInt8 := [160, 0, 7, 42, 182, 0, 48, 177]
abbrev dktX6_comesTo_1 : List UInt8 := dkwX6_comesTo_1 ++ []
def dkwX6_comesTo_0 : List UInt8 := [42, 27, 181, 0, 18, 42, 180, 0, 9, 27, 160, 0, 7, 42, 182, 0, 45, 42, 180, 0, 15, 27]
abbrev dktX6_comesTo_0 : List UInt8 := dkwX6_comesTo_0 ++ dktX6_comesTo_1
theorem dksX6_comesTo_0 : cX6_comesTo.data.toList.drop 0 = dktX6_comesTo_0 := by decide +kernel
theorem dksX6_comesTo_1 : cX6_comesTo.data.toList.drop 22 = dktX6_comesTo_1 := dk_seg dksX6_comesTo_0 22 rfl rfl
theorem dX6_comesTo_0 : decode cX6_comesTo 0 = .ok (.aload_n 0, 1) := dk_42 (dk_at dksX6_comesTo_0 0 rfl rfl)
theorem dX6_comesTo_1 : decode cX6_comesTo 1 = .ok (.iload_n 1, 1) := dk_27 (dk_at dksX6_comesTo_0 1 rfl rfl)
theorem dX6_comesTo_2 : decode cX6_comesTo 2 = .ok (.putfield 18, 3) := dk_181 0 18 (dk_at dksX6_comesTo_0 2 rfl rfl)
theorem dX6_comesTo_5 : decode cX6_comesTo 5 = .ok (.aload_n 0, 1) := dk_42 (dk_at dksX6_comesTo_0 5 rfl rfl)
theorem dX6_comesTo_6 : decode cX6_comesTo 6 = .ok (.getfield 9, 3) := dk_180 0 9 (dk_at dksX6_comesTo_0 6 rfl rfl)
theorem dX6_comesTo_9 : decode cX6_comesTo 9 = .ok (.iload_n 1, 1) := dk_27 (dk_at dksX6_comesTo_0 9 rfl rfl)
theorem dX6_comesTo_10 : decode cX6_comesTo 10 = .ok (.if_icmp .ne 7, 3) := dk_160 0 7 (dk_at dksX6_comesTo_0 10 rfl rfl)
theorem dX6_comesTo_13 : decode cX6_comesTo 13 = .ok (.aload_n 0, 1) := dk_42 (dk_at dksX6_comesTo_0 13 rfl rfl)
theorem dX6_comesTo_14 : decode cX6_comesTo 14 = .ok (.invokevirtual 45, 3) := dk_182 0 45 (dk_at dksX6_comesTo_0 14 rfl rfl)
theorem dX6_comesTo_17 : decode cX6_comesTo 17 = .ok (.aload_n 0, 1) := dk_42 (dk_at dksX6_comesTo_0 17 rfl rfl)
theorem dX6_comesTo_18 : decode cX6_comesTo 18 = .ok (.getfield 15, 3) := dk_180 0 15 (dk_at dksX6_comesTo_0 18 rfl rfl)
theorem dX6_comesTo_21 : decode cX6_comesTo 21 = .ok (.iload_n 1, 1) := dk_27 (dk_at dksX6_comesTo_0 21 rfl rfl)
theorem dX6_comesTo_22 : decode cX6_comesTo 22 = .ok (.if_icmp .ne 7, 3) := dk_160 0 7 (dk_at dksX6_comesTo_1 0 rfl rfl)
theorem dX6_comesTo_25 : decode cX6_comesTo 25 = .ok (.aload_n 0, 1) := dk_42 (dk_at dksX6_comesTo_1 3 rfl rfl)
theorem dX6_comesTo_26 : decode cX6_comesTo 26 = .ok (.invokevirtual 48, 3) := dk_182 0 48 (dk_at dksX6_comesTo_1 4 rfl rfl)
theorem dX6_comesTo_29 : decode cX6_comesTo 29 = .ok (.return_, 1) := dk_177 (dk_at dksX6_comesTo_1 7 rfl rfl)
abbrev cX6_passes : ByteArray := prog_12_method_8_code
def yX6_passes : MethodName := ⟨RX6, "passes", "()I"⟩
def dkwX6_passes_2 : List UInt8 := [167, 0, 4, 3, 172]
abbrev dktX6_passes_2 : List UInt8 := dkwX6_passes_2 ++ []
def dkwX6_passes_1 : List UInt8 := [154, 0, 7, 2, 167, 0, 7, 42, 180, 0, 15, 181, 0, 15, 42, 180, 0, 33, 154, 0, 7, 4]
abbrev dktX6_passes_1 : List UInt8 := dkwX6_passes_1 ++ dktX6_passes_2
def dkwX6_passes_0 : List UInt8 := [42, 180, 0, 33, 154, 0, 5, 3, 172, 42, 89, 180, 0, 33, 4, 100, 181, 0, 33, 42, 42, 180, 0, 33]
abbrev dktX6_passes_0 : List UInt8 := dkwX6_passes_0 ++ dktX6_passes_1
theorem dksX6_passes_0 : cX6_passes.data.toList.drop 0 = dktX6_passes_0 := by decide +kernel
theorem dksX6_passes_1 : cX6_passes.data.toList.drop 24 = dktX6_passes_1 := dk_seg dksX6_passes_0 24 rfl rfl
theorem dksX6_passes_2 : cX6_passes.data.toList.drop 46 = dktX6_passes_2 := dk_seg dksX6_passes_1 22 rfl rfl
theorem dX6_passes_0 : decode cX6_passes 0 = .ok (.aload_n 0, 1) := dk_42 (dk_at dksX6_passes_0 0 rfl rfl)
theorem dX6_passes_1 : decode cX6_passes 1 = .ok (.getfield 33, 3) := dk_180 0 33 (dk_at dksX6_passes_0 1 rfl rfl)
theorem dX6_passes_4 : decode cX6_passes 4 = .ok (.ifCond .ne 5, 3) := dk_154 0 5 (dk_at dksX6_passes_0 4 rfl rfl)
theorem dX6_passes_7 : decode cX6_passes 7 = .ok (.iconst 0, 1) := dk_3 (dk_at dksX6_passes_0 7 rfl rfl)
theorem dX6_passes_8 : decode cX6_passes 8 = .ok (.ireturn, 1) := dk_172 (dk_at dksX6_passes_0 8 rfl rfl)
theorem dX6_passes_9 : decode cX6_passes 9 = .ok (.aload_n 0, 1) := dk_42 (dk_at dksX6_passes_0 9 rfl rfl)
theorem dX6_passes_10 : decode cX6_passes 10 = .ok (.dup, 1) := dk_89 (dk_at dksX6_passes_0 10 rfl rfl)
theorem dX6_passes_11 : decode cX6_passes 11 = .ok (.getfield 33, 3) := dk_180 0 33 (dk_at dksX6_passes_0 11 rfl rfl)
theorem dX6_passes_14 : decode cX6_passes 14 = .ok (.iconst 1, 1) := dk_4 (dk_at dksX6_passes_0 14 rfl rfl)
theorem dX6_passes_15 : decode cX6_passes 15 = .ok (.isub, 1) := dk_100 (dk_at dksX6_passes_0 15 rfl rfl)
theorem dX6_passes_16 : decode cX6_passes 16 = .ok (.putfield 33, 3) := dk_181 0 33 (dk_at dksX6_passes_0 16 rfl rfl)
theorem dX6_passes_19 : decode cX6_passes 19 = .ok (.aload_n 0, 1) := dk_42 (dk_at dksX6_passes_0 19 rfl rfl)
theorem dX6_passes_20 : decode cX6_passes 20 = .ok (.aload_n 0, 1) := dk_42 (dk_at dksX6_passes_0 20 rfl rfl)
theorem dX6_passes_21 : decode cX6_passes 21 = .ok (.getfield 33, 3) := dk_180 0 33 (dk_at dksX6_passes_0 21 rfl rfl)
theorem dX6_passes_24 : decode cX6_passes 24 = .ok (.ifCond .ne 7, 3) := dk_154 0 7 (dk_at dksX6_passes_1 0 rfl rfl)
theorem dX6_passes_27 : decode cX6_passes 27 = .ok (.iconst (-1), 1) := dk_2 (dk_at dksX6_passes_1 3 rfl rfl)
theorem dX6_passes_28 : decode cX6_passes 28 = .ok (.goto 7, 3) := dk_167 0 7 (dk_at dksX6_passes_1 4 rfl rfl)
theorem dX6_passes_31 : decode cX6_passes 31 = .ok (.aload_n 0, 1) := dk_42 (dk_at dksX6_passes_1 7 rfl rfl)
theorem dX6_passes_32 : decode cX6_passes 32 = .ok (.getfield 15, 3) := dk_180 0 15 (dk_at dksX6_passes_1 8 rfl rfl)
theorem dX6_passes_35 : decode cX6_passes 35 = .ok (.putfield 15, 3) := dk_181 0 15 (dk_at dksX6_passes_1 11 rfl rfl)
theorem dX6_passes_38 : decode cX6_passes 38 = .ok (.aload_n 0, 1) := dk_42 (dk_at dksX6_passes_1 14 rfl rfl)
theorem dX6_passes_39 : decode cX6_passes 39 = .ok (.getfield 33, 3) := dk_180 0 33 (dk_at dksX6_passes_1 15 rfl rfl)
theorem dX6_passes_42 : decode cX6_passes 42 = .ok (.ifCond .ne 7, 3) := dk_154 0 7 (dk_at dksX6_passes_1 18 rfl rfl)
theorem dX6_passes_45 : decode cX6_passes 45 = .ok (.iconst 1, 1) := dk_4 (dk_at dksX6_passes_1 21 rfl rfl)
theorem dX6_passes_46 : decode cX6_passes 46 = .ok (.goto 4, 3) := dk_167 0 4 (dk_at dksX6_passes_2 0 rfl rfl)
theorem dX6_passes_49 : decode cX6_passes 49 = .ok (.iconst 0, 1) := dk_3 (dk_at dksX6_passes_2 3 rfl rfl)
theorem dX6_passes_50 : decode cX6_passes 50 = .ok (.ireturn, 1) := dk_172 (dk_at dksX6_passes_2 4 rfl rfl)
abbrev cX6_aheadOf : ByteArray := prog_12_method_12_code
def yX6_aheadOf : MethodName := ⟨RX6, "aheadOf", "(Ljava/lang/Object;)I"⟩
def dkwX6_aheadOf_0 : List UInt8 := [42, 43, 192, 0, 10, 182, 0, 80, 172]
abbrev dktX6_aheadOf_0 : List UInt8 := dkwX6_aheadOf_0 ++ []
theorem dksX6_aheadOf_0 : cX6_aheadOf.data.toList.drop 0 = dktX6_aheadOf_0 := by decide +kernel
theorem dX6_aheadOf_0 : decode cX6_aheadOf 0 = .ok (.aload_n 0, 1) := dk_42 (dk_at dksX6_aheadOf_0 0 rfl rfl)
theorem dX6_aheadOf_1 : decode cX6_aheadOf 1 = .ok (.aload_n 1, 1) := dk_43 (dk_at dksX6_aheadOf_0 1 rfl rfl)
theorem dX6_aheadOf_2 : decode cX6_aheadOf 2 = .ok (.checkcast 10, 3) := dk_192 0 10 (dk_at dksX6_aheadOf_0 2 rfl rfl)
theorem dX6_aheadOf_5 : decode cX6_aheadOf 5 = .ok (.invokevirtual 80, 3) := dk_182 0 80 (dk_at dksX6_aheadOf_0 5 rfl rfl)
theorem dX6_aheadOf_8 : decode cX6_aheadOf 8 = .ok (.ireturn, 1) := dk_172 (dk_at dksX6_aheadOf_0 8 rfl rfl)
abbrev cX6_aheadOf_2 : ByteArray := prog_12_method_3_code
def yX6_aheadOf_2 : MethodName := ⟨RX6, "aheadOf", "(LCandleStatute$Stub;)I"⟩
def dkwX6_aheadOf_2_1 : List UInt8 := [28, 167, 0, 12, 43, 180, 0, 30, 42, 180, 0, 30, 100, 172]
abbrev dktX6_aheadOf_2_1 : List UInt8 := dkwX6_aheadOf_2_1 ++ []
def dkwX6_aheadOf_2_0 : List UInt8 := [42, 180, 0, 21, 42, 180, 0, 24, 104, 43, 180, 0, 21, 43, 180, 0, 24, 104, 100, 61, 28, 153, 0, 7]
abbrev dktX6_aheadOf_2_0 : List UInt8 := dkwX6_aheadOf_2_0 ++ dktX6_aheadOf_2_1
theorem dksX6_aheadOf_2_0 : cX6_aheadOf_2.data.toList.drop 0 = dktX6_aheadOf_2_0 := by decide +kernel
theorem dksX6_aheadOf_2_1 : cX6_aheadOf_2.data.toList.drop 24 = dktX6_aheadOf_2_1 := dk_seg dksX6_aheadOf_2_0 24 rfl rfl
theorem dX6_aheadOf_2_0 : decode cX6_aheadOf_2 0 = .ok (.aload_n 0, 1) := dk_42 (dk_at dksX6_aheadOf_2_0 0 rfl rfl)
theorem dX6_aheadOf_2_1 : decode cX6_aheadOf_2 1 = .ok (.getfield 21, 3) := dk_180 0 21 (dk_at dksX6_aheadOf_2_0 1 rfl rfl)
theorem dX6_aheadOf_2_4 : decode cX6_aheadOf_2 4 = .ok (.aload_n 0, 1) := dk_42 (dk_at dksX6_aheadOf_2_0 4 rfl rfl)
theorem dX6_aheadOf_2_5 : decode cX6_aheadOf_2 5 = .ok (.getfield 24, 3) := dk_180 0 24 (dk_at dksX6_aheadOf_2_0 5 rfl rfl)
theorem dX6_aheadOf_2_8 : decode cX6_aheadOf_2 8 = .ok (.imul, 1) := dk_104 (dk_at dksX6_aheadOf_2_0 8 rfl rfl)
theorem dX6_aheadOf_2_9 : decode cX6_aheadOf_2 9 = .ok (.aload_n 1, 1) := dk_43 (dk_at dksX6_aheadOf_2_0 9 rfl rfl)
theorem dX6_aheadOf_2_10 : decode cX6_aheadOf_2 10 = .ok (.getfield 21, 3) := dk_180 0 21 (dk_at dksX6_aheadOf_2_0 10 rfl rfl)
theorem dX6_aheadOf_2_13 : decode cX6_aheadOf_2 13 = .ok (.aload_n 1, 1) := dk_43 (dk_at dksX6_aheadOf_2_0 13 rfl rfl)
theorem dX6_aheadOf_2_14 : decode cX6_aheadOf_2 14 = .ok (.getfield 24, 3) := dk_180 0 24 (dk_at dksX6_aheadOf_2_0 14 rfl rfl)
theorem dX6_aheadOf_2_17 : decode cX6_aheadOf_2 17 = .ok (.imul, 1) := dk_104 (dk_at dksX6_aheadOf_2_0 17 rfl rfl)
theorem dX6_aheadOf_2_18 : decode cX6_aheadOf_2 18 = .ok (.isub, 1) := dk_100 (dk_at dksX6_aheadOf_2_0 18 rfl rfl)
theorem dX6_aheadOf_2_19 : decode cX6_aheadOf_2 19 = .ok (.istore_n 2, 1) := dk_61 (dk_at dksX6_aheadOf_2_0 19 rfl rfl)
theorem dX6_aheadOf_2_20 : decode cX6_aheadOf_2 20 = .ok (.iload_n 2, 1) := dk_28 (dk_at dksX6_aheadOf_2_0 20 rfl rfl)
theorem dX6_aheadOf_2_21 : decode cX6_aheadOf_2 21 = .ok (.ifCond .eq 7, 3) := dk_153 0 7 (dk_at dksX6_aheadOf_2_0 21 rfl rfl)
theorem dX6_aheadOf_2_24 : decode cX6_aheadOf_2 24 = .ok (.iload_n 2, 1) := dk_28 (dk_at dksX6_aheadOf_2_1 0 rfl rfl)
theorem dX6_aheadOf_2_25 : decode cX6_aheadOf_2 25 = .ok (.goto 12, 3) := dk_167 0 12 (dk_at dksX6_aheadOf_2_1 1 rfl rfl)
theorem dX6_aheadOf_2_28 : decode cX6_aheadOf_2 28 = .ok (.aload_n 1, 1) := dk_43 (dk_at dksX6_aheadOf_2_1 4 rfl rfl)
theorem dX6_aheadOf_2_29 : decode cX6_aheadOf_2 29 = .ok (.getfield 30, 3) := dk_180 0 30 (dk_at dksX6_aheadOf_2_1 5 rfl rfl)
theorem dX6_aheadOf_2_32 : decode cX6_aheadOf_2 32 = .ok (.aload_n 0, 1) := dk_42 (dk_at dksX6_aheadOf_2_1 8 rfl rfl)
theorem dX6_aheadOf_2_33 : decode cX6_aheadOf_2 33 = .ok (.getfield 30, 3) := dk_180 0 30 (dk_at dksX6_aheadOf_2_1 9 rfl rfl)
theorem dX6_aheadOf_2_36 : decode cX6_aheadOf_2 36 = .ok (.isub, 1) := dk_100 (dk_at dksX6_aheadOf_2_1 12 rfl rfl)
theorem dX6_aheadOf_2_37 : decode cX6_aheadOf_2 37 = .ok (.ireturn, 1) := dk_172 (dk_at dksX6_aheadOf_2_1 13 rfl rfl)
abbrev cX6_text : ByteArray := prog_12_method_10_code
def yX6_text : MethodName := ⟨RX6, "text", "(I)Ljava/lang/String;"⟩
def dkwX6_text_6 : List UInt8 := [182, 0, 68, 176]
abbrev dktX6_text_6 : List UInt8 := dkwX6_text_6 ++ []
def dkwX6_text_5 : List UInt8 := [18, 74, 182, 0, 63, 42, 180, 0, 33, 182, 0, 54, 182, 0, 68, 167, 0, 5, 18, 72, 182, 0, 63]
abbrev dktX6_text_5 : List UInt8 := dkwX6_text_5 ++ dktX6_text_6
def dkwX6_text_4 : List UInt8 := [167, 0, 5, 18, 72, 182, 0, 63, 87, 44, 42, 180, 0, 33, 158, 0, 28, 187, 0, 51, 89, 183, 0, 53]
abbrev dktX6_text_4 : List UInt8 := dkwX6_text_4 ++ dktX6_text_5
def dkwX6_text_3 : List UInt8 := [42, 180, 0, 9, 182, 0, 54, 18, 66, 182, 0, 63, 42, 180, 0, 30, 182, 0, 54, 182, 0, 68]
abbrev dktX6_text_3 : List UInt8 := dkwX6_text_3 ++ dktX6_text_4
def dkwX6_text_2 : List UInt8 := [182, 0, 54, 87, 44, 42, 180, 0, 30, 158, 0, 40, 187, 0, 51, 89, 183, 0, 53, 18, 61, 182, 0, 63]
abbrev dktX6_text_2 : List UInt8 := dkwX6_text_2 ++ dktX6_text_3
def dkwX6_text_1 : List UInt8 := [182, 0, 54, 16, 58, 182, 0, 58, 42, 180, 0, 21, 182, 0, 54, 16, 47, 182, 0, 58, 42, 180, 0, 24]
abbrev dktX6_text_1 : List UInt8 := dkwX6_text_1 ++ dktX6_text_2
def dkwX6_text_0 : List UInt8 := [187, 0, 51, 89, 183, 0, 53, 77, 44, 27, 182, 0, 54, 16, 64, 182, 0, 58, 42, 180, 0, 18]
abbrev dktX6_text_0 : List UInt8 := dkwX6_text_0 ++ dktX6_text_1
theorem dksX6_text_0 : cX6_text.data.toList.drop 0 = dktX6_text_0 := by decide +kernel
theorem dksX6_text_1 : cX6_text.data.toList.drop 22 = dktX6_text_1 := dk_seg dksX6_text_0 22 rfl rfl
theorem dksX6_text_2 : cX6_text.data.toList.drop 46 = dktX6_text_2 := dk_seg dksX6_text_1 24 rfl rfl
theorem dksX6_text_3 : cX6_text.data.toList.drop 70 = dktX6_text_3 := dk_seg dksX6_text_2 24 rfl rfl
theorem dksX6_text_4 : cX6_text.data.toList.drop 92 = dktX6_text_4 := dk_seg dksX6_text_3 22 rfl rfl
theorem dksX6_text_5 : cX6_text.data.toList.drop 116 = dktX6_text_5 := dk_seg dksX6_text_4 24 rfl rfl
theorem dksX6_text_6 : cX6_text.data.toList.drop 139 = dktX6_text_6 := dk_seg dksX6_text_5 23 rfl rfl
theorem dX6_text_0 : decode cX6_text 0 = .ok (.new 51, 3) := dk_187 0 51 (dk_at dksX6_text_0 0 rfl rfl)
theorem dX6_text_3 : decode cX6_text 3 = .ok (.dup, 1) := dk_89 (dk_at dksX6_text_0 3 rfl rfl)
theorem dX6_text_4 : decode cX6_text 4 = .ok (.invokespecial 53, 3) := dk_183 0 53 (dk_at dksX6_text_0 4 rfl rfl)
theorem dX6_text_7 : decode cX6_text 7 = .ok (.astore_n 2, 1) := dk_77 (dk_at dksX6_text_0 7 rfl rfl)
theorem dX6_text_8 : decode cX6_text 8 = .ok (.aload_n 2, 1) := dk_44 (dk_at dksX6_text_0 8 rfl rfl)
theorem dX6_text_9 : decode cX6_text 9 = .ok (.iload_n 1, 1) := dk_27 (dk_at dksX6_text_0 9 rfl rfl)
theorem dX6_text_10 : decode cX6_text 10 = .ok (.invokevirtual 54, 3) := dk_182 0 54 (dk_at dksX6_text_0 10 rfl rfl)
theorem dX6_text_13 : decode cX6_text 13 = .ok (.bipush 64, 2) := dk_16 64 (dk_at dksX6_text_0 13 rfl rfl)
theorem dX6_text_15 : decode cX6_text 15 = .ok (.invokevirtual 58, 3) := dk_182 0 58 (dk_at dksX6_text_0 15 rfl rfl)
theorem dX6_text_18 : decode cX6_text 18 = .ok (.aload_n 0, 1) := dk_42 (dk_at dksX6_text_0 18 rfl rfl)
theorem dX6_text_19 : decode cX6_text 19 = .ok (.getfield 18, 3) := dk_180 0 18 (dk_at dksX6_text_0 19 rfl rfl)
theorem dX6_text_22 : decode cX6_text 22 = .ok (.invokevirtual 54, 3) := dk_182 0 54 (dk_at dksX6_text_1 0 rfl rfl)
theorem dX6_text_25 : decode cX6_text 25 = .ok (.bipush 58, 2) := dk_16 58 (dk_at dksX6_text_1 3 rfl rfl)
theorem dX6_text_27 : decode cX6_text 27 = .ok (.invokevirtual 58, 3) := dk_182 0 58 (dk_at dksX6_text_1 5 rfl rfl)
theorem dX6_text_30 : decode cX6_text 30 = .ok (.aload_n 0, 1) := dk_42 (dk_at dksX6_text_1 8 rfl rfl)
theorem dX6_text_31 : decode cX6_text 31 = .ok (.getfield 21, 3) := dk_180 0 21 (dk_at dksX6_text_1 9 rfl rfl)
theorem dX6_text_34 : decode cX6_text 34 = .ok (.invokevirtual 54, 3) := dk_182 0 54 (dk_at dksX6_text_1 12 rfl rfl)
theorem dX6_text_37 : decode cX6_text 37 = .ok (.bipush 47, 2) := dk_16 47 (dk_at dksX6_text_1 15 rfl rfl)
theorem dX6_text_39 : decode cX6_text 39 = .ok (.invokevirtual 58, 3) := dk_182 0 58 (dk_at dksX6_text_1 17 rfl rfl)
theorem dX6_text_42 : decode cX6_text 42 = .ok (.aload_n 0, 1) := dk_42 (dk_at dksX6_text_1 20 rfl rfl)
theorem dX6_text_43 : decode cX6_text 43 = .ok (.getfield 24, 3) := dk_180 0 24 (dk_at dksX6_text_1 21 rfl rfl)
theorem dX6_text_46 : decode cX6_text 46 = .ok (.invokevirtual 54, 3) := dk_182 0 54 (dk_at dksX6_text_2 0 rfl rfl)
theorem dX6_text_49 : decode cX6_text 49 = .ok (.pop, 1) := dk_87 (dk_at dksX6_text_2 3 rfl rfl)
theorem dX6_text_50 : decode cX6_text 50 = .ok (.aload_n 2, 1) := dk_44 (dk_at dksX6_text_2 4 rfl rfl)
theorem dX6_text_51 : decode cX6_text 51 = .ok (.aload_n 0, 1) := dk_42 (dk_at dksX6_text_2 5 rfl rfl)
theorem dX6_text_52 : decode cX6_text 52 = .ok (.getfield 30, 3) := dk_180 0 30 (dk_at dksX6_text_2 6 rfl rfl)
theorem dX6_text_55 : decode cX6_text 55 = .ok (.ifCond .le 40, 3) := dk_158 0 40 (dk_at dksX6_text_2 9 rfl rfl)
theorem dX6_text_58 : decode cX6_text 58 = .ok (.new 51, 3) := dk_187 0 51 (dk_at dksX6_text_2 12 rfl rfl)
theorem dX6_text_61 : decode cX6_text 61 = .ok (.dup, 1) := dk_89 (dk_at dksX6_text_2 15 rfl rfl)
theorem dX6_text_62 : decode cX6_text 62 = .ok (.invokespecial 53, 3) := dk_183 0 53 (dk_at dksX6_text_2 16 rfl rfl)
theorem dX6_text_65 : decode cX6_text 65 = .ok (.ldc 61, 2) := dk_18 61 (dk_at dksX6_text_2 19 rfl rfl)
theorem dX6_text_67 : decode cX6_text 67 = .ok (.invokevirtual 63, 3) := dk_182 0 63 (dk_at dksX6_text_2 21 rfl rfl)
theorem dX6_text_70 : decode cX6_text 70 = .ok (.aload_n 0, 1) := dk_42 (dk_at dksX6_text_3 0 rfl rfl)
theorem dX6_text_71 : decode cX6_text 71 = .ok (.getfield 9, 3) := dk_180 0 9 (dk_at dksX6_text_3 1 rfl rfl)
theorem dX6_text_74 : decode cX6_text 74 = .ok (.invokevirtual 54, 3) := dk_182 0 54 (dk_at dksX6_text_3 4 rfl rfl)
theorem dX6_text_77 : decode cX6_text 77 = .ok (.ldc 66, 2) := dk_18 66 (dk_at dksX6_text_3 7 rfl rfl)
theorem dX6_text_79 : decode cX6_text 79 = .ok (.invokevirtual 63, 3) := dk_182 0 63 (dk_at dksX6_text_3 9 rfl rfl)
theorem dX6_text_82 : decode cX6_text 82 = .ok (.aload_n 0, 1) := dk_42 (dk_at dksX6_text_3 12 rfl rfl)
theorem dX6_text_83 : decode cX6_text 83 = .ok (.getfield 30, 3) := dk_180 0 30 (dk_at dksX6_text_3 13 rfl rfl)
theorem dX6_text_86 : decode cX6_text 86 = .ok (.invokevirtual 54, 3) := dk_182 0 54 (dk_at dksX6_text_3 16 rfl rfl)
theorem dX6_text_89 : decode cX6_text 89 = .ok (.invokevirtual 68, 3) := dk_182 0 68 (dk_at dksX6_text_3 19 rfl rfl)
theorem dX6_text_92 : decode cX6_text 92 = .ok (.goto 5, 3) := dk_167 0 5 (dk_at dksX6_text_4 0 rfl rfl)
theorem dX6_text_95 : decode cX6_text 95 = .ok (.ldc 72, 2) := dk_18 72 (dk_at dksX6_text_4 3 rfl rfl)
theorem dX6_text_97 : decode cX6_text 97 = .ok (.invokevirtual 63, 3) := dk_182 0 63 (dk_at dksX6_text_4 5 rfl rfl)
theorem dX6_text_100 : decode cX6_text 100 = .ok (.pop, 1) := dk_87 (dk_at dksX6_text_4 8 rfl rfl)
theorem dX6_text_101 : decode cX6_text 101 = .ok (.aload_n 2, 1) := dk_44 (dk_at dksX6_text_4 9 rfl rfl)
theorem dX6_text_102 : decode cX6_text 102 = .ok (.aload_n 0, 1) := dk_42 (dk_at dksX6_text_4 10 rfl rfl)
theorem dX6_text_103 : decode cX6_text 103 = .ok (.getfield 33, 3) := dk_180 0 33 (dk_at dksX6_text_4 11 rfl rfl)
theorem dX6_text_106 : decode cX6_text 106 = .ok (.ifCond .le 28, 3) := dk_158 0 28 (dk_at dksX6_text_4 14 rfl rfl)
theorem dX6_text_109 : decode cX6_text 109 = .ok (.new 51, 3) := dk_187 0 51 (dk_at dksX6_text_4 17 rfl rfl)
theorem dX6_text_112 : decode cX6_text 112 = .ok (.dup, 1) := dk_89 (dk_at dksX6_text_4 20 rfl rfl)
theorem dX6_text_113 : decode cX6_text 113 = .ok (.invokespecial 53, 3) := dk_183 0 53 (dk_at dksX6_text_4 21 rfl rfl)
theorem dX6_text_116 : decode cX6_text 116 = .ok (.ldc 74, 2) := dk_18 74 (dk_at dksX6_text_5 0 rfl rfl)
theorem dX6_text_118 : decode cX6_text 118 = .ok (.invokevirtual 63, 3) := dk_182 0 63 (dk_at dksX6_text_5 2 rfl rfl)
theorem dX6_text_121 : decode cX6_text 121 = .ok (.aload_n 0, 1) := dk_42 (dk_at dksX6_text_5 5 rfl rfl)
theorem dX6_text_122 : decode cX6_text 122 = .ok (.getfield 33, 3) := dk_180 0 33 (dk_at dksX6_text_5 6 rfl rfl)
theorem dX6_text_125 : decode cX6_text 125 = .ok (.invokevirtual 54, 3) := dk_182 0 54 (dk_at dksX6_text_5 9 rfl rfl)
theorem dX6_text_128 : decode cX6_text 128 = .ok (.invokevirtual 68, 3) := dk_182 0 68 (dk_at dksX6_text_5 12 rfl rfl)
theorem dX6_text_131 : decode cX6_text 131 = .ok (.goto 5, 3) := dk_167 0 5 (dk_at dksX6_text_5 15 rfl rfl)
theorem dX6_text_134 : decode cX6_text 134 = .ok (.ldc 72, 2) := dk_18 72 (dk_at dksX6_text_5 18 rfl rfl)
theorem dX6_text_136 : decode cX6_text 136 = .ok (.invokevirtual 63, 3) := dk_182 0 63 (dk_at dksX6_text_5 20 rfl rfl)
theorem dX6_text_139 : decode cX6_text 139 = .ok (.invokevirtual 68, 3) := dk_182 0 68 (dk_at dksX6_text_6 0 rfl rfl)
theorem dX6_text_142 : decode cX6_text 142 = .ok (.areturn, 1) := dk_176 (dk_at dksX6_text_6 3 rfl rfl)
theorem q98 : (Jvm.Cond.initialized "CandleStatute$Stub") ∈ lw_all := lw_g (lw_at lw_m1 20 rfl) rfl
theorem q277 : (Jvm.Cond.selects "CandleStatute$Stub" ({ cls := "java/lang/Object", name := "getClass", desc := "()Ljava/lang/Class;" } : Jvm.MethodName) ({ cls := "java/lang/Object", name := "getClass", desc := "()Ljava/lang/Class;" } : Jvm.MethodName)) ∈ lw_all := lw_g (lw_at lw_m1 199 rfl) rfl
theorem q498 : (Jvm.Cond.castable "CandleStatute$Stub" "CandleStatute$Copied") ∈ lw_tbl := lw_at lw_m2 180 rfl
theorem q499 : (Jvm.Cond.selects "CandleStatute$Stub" ({ cls := "CandleStatute$Copied", name := "copy", desc := "()Ljava/lang/Object;" } : Jvm.MethodName) ({ cls := "CandleStatute$Stub", name := "copy", desc := "()Ljava/lang/Object;" } : Jvm.MethodName)) ∈ lw_all := lw_g (lw_at lw_m2 181 rfl) rfl
theorem q500 : (Jvm.Cond.unhidden "CandleStatute$Stub" "copy" "()Ljava/lang/Object;") ∈ lw_tbl := lw_at lw_m2 182 rfl
theorem q501 : (Jvm.Cond.instanceMethod ({ cls := "CandleStatute$Stub", name := "copy", desc := "()Ljava/lang/Object;" } : Jvm.MethodName)) ∈ lw_all := lw_g (lw_at lw_m2 183 rfl) rfl
theorem q502 : (Jvm.Cond.publicMethod ({ cls := "CandleStatute$Stub", name := "copy", desc := "()Ljava/lang/Object;" } : Jvm.MethodName)) ∈ lw_tbl := lw_at lw_m2 184 rfl
theorem q503 : (Jvm.Cond.code ({ cls := "CandleStatute$Stub", name := "copy", desc := "()Ljava/lang/Object;" } : Jvm.MethodName) prog_12_method_11_code (1 : Nat) (Option.some (Jvm.ClassFile.FieldType.object "java/lang/Object"))) ∈ lw_all := lw_g (lw_at lw_m2 185 rfl) rfl
theorem q504 : (Jvm.Cond.methodLink "CandleStatute$Stub" (76 : Nat) ({ cls := "CandleStatute$Stub", name := "copy", desc := "()LCandleStatute$Stub;" } : Jvm.MethodName)) ∈ lw_all := lw_g (lw_at lw_m2 186 rfl) rfl
theorem q505 : (Jvm.Cond.instanceMethod ({ cls := "CandleStatute$Stub", name := "copy", desc := "()LCandleStatute$Stub;" } : Jvm.MethodName)) ∈ lw_all := lw_g (lw_at lw_m2 187 rfl) rfl
theorem q506 : (Jvm.Cond.selects "CandleStatute$Stub" ({ cls := "CandleStatute$Stub", name := "copy", desc := "()LCandleStatute$Stub;" } : Jvm.MethodName) ({ cls := "CandleStatute$Stub", name := "copy", desc := "()LCandleStatute$Stub;" } : Jvm.MethodName)) ∈ lw_all := lw_g (lw_at lw_m2 188 rfl) rfl
theorem q507 : (Jvm.Cond.code ({ cls := "CandleStatute$Stub", name := "copy", desc := "()LCandleStatute$Stub;" } : Jvm.MethodName) prog_12_method_2_code (2 : Nat) (Option.some (Jvm.ClassFile.FieldType.object "CandleStatute$Stub"))) ∈ lw_all := lw_g (lw_at lw_m2 189 rfl) rfl
theorem q508 : (Jvm.Cond.classLink "CandleStatute$Stub" (10 : Nat) "CandleStatute$Stub") ∈ lw_all := lw_g (lw_at lw_m2 190 rfl) rfl
theorem q509 : (Jvm.Cond.instantiable "CandleStatute$Stub" (8 : Nat)) ∈ lw_all := lw_g (lw_at lw_m2 191 rfl) rfl
theorem q510 : (Jvm.Cond.methodLink "CandleStatute$Stub" (27 : Nat) ({ cls := "CandleStatute$Stub", name := "<init>", desc := "(III)V" } : Jvm.MethodName)) ∈ lw_all := lw_g (lw_at lw_m2 192 rfl) rfl
theorem q511 : (Jvm.Cond.instanceMethod ({ cls := "CandleStatute$Stub", name := "<init>", desc := "(III)V" } : Jvm.MethodName)) ∈ lw_all := lw_g (lw_at lw_m2 193 rfl) rfl
theorem q512 : (Jvm.Cond.code ({ cls := "CandleStatute$Stub", name := "<init>", desc := "(III)V" } : Jvm.MethodName) prog_12_method_1_code (4 : Nat) (Option.none : Option Jvm.ClassFile.FieldType)) ∈ lw_all := lw_g (lw_at lw_m2 194 rfl) rfl
theorem q513 : (Jvm.Cond.methodLink "CandleStatute$Stub" (3 : Nat) ({ cls := "java/lang/Object", name := "<init>", desc := "()V" } : Jvm.MethodName)) ∈ lw_all := lw_g (lw_at lw_m2 195 rfl) rfl
theorem q514 : (Jvm.Cond.fieldLink "CandleStatute$Stub" (18 : Nat) "CandleStatute$Stub" "house" "I") ∈ lw_all := lw_g (lw_at lw_m2 196 rfl) rfl
theorem q516 : (Jvm.Cond.fieldLink "CandleStatute$Stub" (21 : Nat) "CandleStatute$Stub" "wax" "I") ∈ lw_all := lw_g (lw_at lw_m2 198 rfl) rfl
theorem q518 : (Jvm.Cond.fieldLink "CandleStatute$Stub" (24 : Nat) "CandleStatute$Stub" "wick" "I") ∈ lw_all := lw_g (lw_at lw_m2 200 rfl) rfl
theorem q520 : (Jvm.Cond.fieldLink "CandleStatute$Stub" (9 : Nat) "CandleStatute$Stub" "owedTo" "I") ∈ lw_all := lw_g (lw_at lw_m2 202 rfl) rfl
theorem q522 : (Jvm.Cond.fieldLink "CandleStatute$Stub" (30 : Nat) "CandleStatute$Stub" "owes" "I") ∈ lw_all := lw_g (lw_at lw_m2 204 rfl) rfl
theorem q524 : (Jvm.Cond.fieldLink "CandleStatute$Stub" (33 : Nat) "CandleStatute$Stub" "snuffed" "I") ∈ lw_all := lw_g (lw_at lw_m2 206 rfl) rfl
theorem q526 : (Jvm.Cond.fieldLink "CandleStatute$Stub" (15 : Nat) "CandleStatute$Stub" "by" "I") ∈ lw_all := lw_g (lw_at lw_m2 208 rfl) rfl
theorem q528 : (Jvm.Cond.fieldLink "CandleStatute$Stub" (36 : Nat) "CandleStatute$Stub" "given" "I") ∈ lw_all := lw_g (lw_at lw_m2 210 rfl) rfl
theorem q530 : (Jvm.Cond.lays "CandleStatute$Stub" "CandleStatute$Stub" "house" "I") ∈ lw_all := lw_g (lw_at lw_m2 212 rfl) rfl
theorem q531 : (Jvm.Cond.soleField "CandleStatute$Stub" "house") ∈ lw_all := lw_g (lw_at lw_m2 213 rfl) rfl
theorem q532 : (Jvm.Cond.lays "CandleStatute$Stub" "CandleStatute$Stub" "wax" "I") ∈ lw_all := lw_g (lw_at lw_m2 214 rfl) rfl
theorem q533 : (Jvm.Cond.soleField "CandleStatute$Stub" "wax") ∈ lw_all := lw_g (lw_at lw_m2 215 rfl) rfl
theorem q534 : (Jvm.Cond.laysFinal "CandleStatute$Stub" "CandleStatute$Stub" "wick" "I") ∈ lw_all := lw_g (lw_at lw_m2 216 rfl) rfl
theorem q535 : (Jvm.Cond.soleField "CandleStatute$Stub" "wick") ∈ lw_all := lw_g (lw_at lw_m2 217 rfl) rfl
theorem q536 : (Jvm.Cond.lays "CandleStatute$Stub" "CandleStatute$Stub" "owedTo" "I") ∈ lw_all := lw_g (lw_at lw_m2 218 rfl) rfl
theorem q537 : (Jvm.Cond.soleField "CandleStatute$Stub" "owedTo") ∈ lw_all := lw_g (lw_at lw_m2 219 rfl) rfl
theorem q538 : (Jvm.Cond.lays "CandleStatute$Stub" "CandleStatute$Stub" "owes" "I") ∈ lw_all := lw_g (lw_at lw_m2 220 rfl) rfl
theorem q539 : (Jvm.Cond.soleField "CandleStatute$Stub" "owes") ∈ lw_all := lw_g (lw_at lw_m2 221 rfl) rfl
theorem q540 : (Jvm.Cond.lays "CandleStatute$Stub" "CandleStatute$Stub" "snuffed" "I") ∈ lw_all := lw_g (lw_at lw_m2 222 rfl) rfl
theorem q541 : (Jvm.Cond.soleField "CandleStatute$Stub" "snuffed") ∈ lw_all := lw_g (lw_at lw_m2 223 rfl) rfl
theorem q542 : (Jvm.Cond.lays "CandleStatute$Stub" "CandleStatute$Stub" "by" "I") ∈ lw_all := lw_g (lw_at lw_m2 224 rfl) rfl
theorem q543 : (Jvm.Cond.soleField "CandleStatute$Stub" "by") ∈ lw_all := lw_g (lw_at lw_m2 225 rfl) rfl
theorem q544 : (Jvm.Cond.lays "CandleStatute$Stub" "CandleStatute$Stub" "given" "I") ∈ lw_all := lw_g (lw_at lw_m2 226 rfl) rfl
theorem q545 : (Jvm.Cond.soleField "CandleStatute$Stub" "given") ∈ lw_all := lw_g (lw_at lw_m2 227 rfl) rfl
theorem q546 : (Jvm.Cond.superclass "CandleStatute$Stub" "java/lang/Object") ∈ lw_all := lw_g (lw_at lw_m2 228 rfl) rfl
theorem q669 : (Jvm.Cond.instanceMethod ({ cls := "CandleStatute$Stub", name := "weight", desc := "()I" } : Jvm.MethodName)) ∈ lw_all := lw_g (lw_at lw_m3 111 rfl) rfl
theorem q670 : (Jvm.Cond.selects "CandleStatute$Stub" ({ cls := "CandleStatute$Stub", name := "weight", desc := "()I" } : Jvm.MethodName) ({ cls := "CandleStatute$Stub", name := "weight", desc := "()I" } : Jvm.MethodName)) ∈ lw_all := lw_g (lw_at lw_m3 112 rfl) rfl
theorem q671 : (Jvm.Cond.code ({ cls := "CandleStatute$Stub", name := "weight", desc := "()I" } : Jvm.MethodName) prog_12_method_4_code (1 : Nat) (Option.some Jvm.ClassFile.FieldType.int)) ∈ lw_all := lw_g (lw_at lw_m3 113 rfl) rfl
theorem q787 : (Jvm.Cond.instanceMethod ({ cls := "CandleStatute$Stub", name := "pays", desc := "(I)I" } : Jvm.MethodName)) ∈ lw_all := lw_g (lw_at lw_m3 229 rfl) rfl
theorem q788 : (Jvm.Cond.selects "CandleStatute$Stub" ({ cls := "CandleStatute$Stub", name := "pays", desc := "(I)I" } : Jvm.MethodName) ({ cls := "CandleStatute$Stub", name := "pays", desc := "(I)I" } : Jvm.MethodName)) ∈ lw_all := lw_g (lw_at lw_m3 230 rfl) rfl
theorem q789 : (Jvm.Cond.code ({ cls := "CandleStatute$Stub", name := "pays", desc := "(I)I" } : Jvm.MethodName) prog_12_method_5_code (3 : Nat) (Option.some Jvm.ClassFile.FieldType.int)) ∈ lw_all := lw_g (lw_at lw_m3 231 rfl) rfl
theorem q790 : (Jvm.Cond.methodLink "CandleStatute$Stub" (39 : Nat) ({ cls := "java/lang/Math", name := "min", desc := "(II)I" } : Jvm.MethodName)) ∈ lw_all := lw_g (lw_at lw_m3 232 rfl) rfl
theorem q946 : (Jvm.Cond.instanceMethod ({ cls := "CandleStatute$Stub", name := "frees", desc := "()V" } : Jvm.MethodName)) ∈ lw_all := lw_g (lw_at lw_m4 148 rfl) rfl
theorem q947 : (Jvm.Cond.selects "CandleStatute$Stub" ({ cls := "CandleStatute$Stub", name := "frees", desc := "()V" } : Jvm.MethodName) ({ cls := "CandleStatute$Stub", name := "frees", desc := "()V" } : Jvm.MethodName)) ∈ lw_all := lw_g (lw_at lw_m4 149 rfl) rfl
theorem q948 : (Jvm.Cond.code ({ cls := "CandleStatute$Stub", name := "frees", desc := "()V" } : Jvm.MethodName) prog_12_method_7_code (1 : Nat) (Option.none : Option Jvm.ClassFile.FieldType)) ∈ lw_all := lw_g (lw_at lw_m4 150 rfl) rfl
theorem q950 : (Jvm.Cond.instanceMethod ({ cls := "CandleStatute$Stub", name := "forgives", desc := "()V" } : Jvm.MethodName)) ∈ lw_all := lw_g (lw_at lw_m4 152 rfl) rfl
theorem q951 : (Jvm.Cond.selects "CandleStatute$Stub" ({ cls := "CandleStatute$Stub", name := "forgives", desc := "()V" } : Jvm.MethodName) ({ cls := "CandleStatute$Stub", name := "forgives", desc := "()V" } : Jvm.MethodName)) ∈ lw_all := lw_g (lw_at lw_m4 153 rfl) rfl
theorem q952 : (Jvm.Cond.code ({ cls := "CandleStatute$Stub", name := "forgives", desc := "()V" } : Jvm.MethodName) prog_12_method_6_code (1 : Nat) (Option.none : Option Jvm.ClassFile.FieldType)) ∈ lw_all := lw_g (lw_at lw_m4 154 rfl) rfl
theorem q958 : (Jvm.Cond.instanceMethod ({ cls := "CandleStatute$Stub", name := "comesTo", desc := "(I)V" } : Jvm.MethodName)) ∈ lw_all := lw_g (lw_at lw_m4 160 rfl) rfl
theorem q959 : (Jvm.Cond.selects "CandleStatute$Stub" ({ cls := "CandleStatute$Stub", name := "comesTo", desc := "(I)V" } : Jvm.MethodName) ({ cls := "CandleStatute$Stub", name := "comesTo", desc := "(I)V" } : Jvm.MethodName)) ∈ lw_all := lw_g (lw_at lw_m4 161 rfl) rfl
theorem q960 : (Jvm.Cond.code ({ cls := "CandleStatute$Stub", name := "comesTo", desc := "(I)V" } : Jvm.MethodName) prog_12_method_9_code (2 : Nat) (Option.none : Option Jvm.ClassFile.FieldType)) ∈ lw_all := lw_g (lw_at lw_m4 162 rfl) rfl
theorem q961 : (Jvm.Cond.methodLink "CandleStatute$Stub" (45 : Nat) ({ cls := "CandleStatute$Stub", name := "forgives", desc := "()V" } : Jvm.MethodName)) ∈ lw_all := lw_g (lw_at lw_m4 163 rfl) rfl
theorem q962 : (Jvm.Cond.methodLink "CandleStatute$Stub" (48 : Nat) ({ cls := "CandleStatute$Stub", name := "frees", desc := "()V" } : Jvm.MethodName)) ∈ lw_all := lw_g (lw_at lw_m4 164 rfl) rfl
theorem q972 : (Jvm.Cond.instanceMethod ({ cls := "CandleStatute$Stub", name := "passes", desc := "()I" } : Jvm.MethodName)) ∈ lw_all := lw_g (lw_at lw_m4 174 rfl) rfl
theorem q973 : (Jvm.Cond.selects "CandleStatute$Stub" ({ cls := "CandleStatute$Stub", name := "passes", desc := "()I" } : Jvm.MethodName) ({ cls := "CandleStatute$Stub", name := "passes", desc := "()I" } : Jvm.MethodName)) ∈ lw_all := lw_g (lw_at lw_m4 175 rfl) rfl
theorem q974 : (Jvm.Cond.code ({ cls := "CandleStatute$Stub", name := "passes", desc := "()I" } : Jvm.MethodName) prog_12_method_8_code (1 : Nat) (Option.some Jvm.ClassFile.FieldType.int)) ∈ lw_all := lw_g (lw_at lw_m4 176 rfl) rfl
theorem q1053 : (Jvm.Cond.castable "CandleStatute$Stub" "CandleStatute$Ordered") ∈ lw_tbl := lw_at lw_m5 15 rfl
theorem q1054 : (Jvm.Cond.selects "CandleStatute$Stub" ({ cls := "CandleStatute$Ordered", name := "aheadOf", desc := "(Ljava/lang/Object;)I" } : Jvm.MethodName) ({ cls := "CandleStatute$Stub", name := "aheadOf", desc := "(Ljava/lang/Object;)I" } : Jvm.MethodName)) ∈ lw_all := lw_g (lw_at lw_m5 16 rfl) rfl
theorem q1055 : (Jvm.Cond.unhidden "CandleStatute$Stub" "aheadOf" "(Ljava/lang/Object;)I") ∈ lw_tbl := lw_at lw_m5 17 rfl
theorem q1056 : (Jvm.Cond.instanceMethod ({ cls := "CandleStatute$Stub", name := "aheadOf", desc := "(Ljava/lang/Object;)I" } : Jvm.MethodName)) ∈ lw_all := lw_g (lw_at lw_m5 18 rfl) rfl
theorem q1057 : (Jvm.Cond.publicMethod ({ cls := "CandleStatute$Stub", name := "aheadOf", desc := "(Ljava/lang/Object;)I" } : Jvm.MethodName)) ∈ lw_tbl := lw_at lw_m5 19 rfl
theorem q1058 : (Jvm.Cond.code ({ cls := "CandleStatute$Stub", name := "aheadOf", desc := "(Ljava/lang/Object;)I" } : Jvm.MethodName) prog_12_method_12_code (2 : Nat) (Option.some Jvm.ClassFile.FieldType.int)) ∈ lw_all := lw_g (lw_at lw_m5 20 rfl) rfl
theorem q1059 : (Jvm.Cond.methodLink "CandleStatute$Stub" (80 : Nat) ({ cls := "CandleStatute$Stub", name := "aheadOf", desc := "(LCandleStatute$Stub;)I" } : Jvm.MethodName)) ∈ lw_all := lw_g (lw_at lw_m5 21 rfl) rfl
theorem q1060 : (Jvm.Cond.instanceMethod ({ cls := "CandleStatute$Stub", name := "aheadOf", desc := "(LCandleStatute$Stub;)I" } : Jvm.MethodName)) ∈ lw_all := lw_g (lw_at lw_m5 22 rfl) rfl
theorem q1061 : (Jvm.Cond.selects "CandleStatute$Stub" ({ cls := "CandleStatute$Stub", name := "aheadOf", desc := "(LCandleStatute$Stub;)I" } : Jvm.MethodName) ({ cls := "CandleStatute$Stub", name := "aheadOf", desc := "(LCandleStatute$Stub;)I" } : Jvm.MethodName)) ∈ lw_all := lw_g (lw_at lw_m5 23 rfl) rfl
theorem q1062 : (Jvm.Cond.code ({ cls := "CandleStatute$Stub", name := "aheadOf", desc := "(LCandleStatute$Stub;)I" } : Jvm.MethodName) prog_12_method_3_code (3 : Nat) (Option.some Jvm.ClassFile.FieldType.int)) ∈ lw_all := lw_g (lw_at lw_m5 24 rfl) rfl
theorem q1400 : (Jvm.Cond.instanceMethod ({ cls := "CandleStatute$Stub", name := "text", desc := "(I)Ljava/lang/String;" } : Jvm.MethodName)) ∈ lw_all := lw_g (lw_at lw_m6 122 rfl) rfl
theorem q1401 : (Jvm.Cond.selects "CandleStatute$Stub" ({ cls := "CandleStatute$Stub", name := "text", desc := "(I)Ljava/lang/String;" } : Jvm.MethodName) ({ cls := "CandleStatute$Stub", name := "text", desc := "(I)Ljava/lang/String;" } : Jvm.MethodName)) ∈ lw_all := lw_g (lw_at lw_m6 123 rfl) rfl
theorem q1402 : (Jvm.Cond.code ({ cls := "CandleStatute$Stub", name := "text", desc := "(I)Ljava/lang/String;" } : Jvm.MethodName) prog_12_method_10_code (3 : Nat) (Option.some (Jvm.ClassFile.FieldType.object "java/lang/String"))) ∈ lw_all := lw_g (lw_at lw_m6 124 rfl) rfl
theorem q1403 : (Jvm.Cond.classLink "CandleStatute$Stub" (51 : Nat) "java/lang/StringBuilder") ∈ lw_all := lw_g (lw_at lw_m6 125 rfl) rfl
theorem q1404 : (Jvm.Cond.methodLink "CandleStatute$Stub" (53 : Nat) ({ cls := "java/lang/StringBuilder", name := "<init>", desc := "()V" } : Jvm.MethodName)) ∈ lw_all := lw_g (lw_at lw_m6 126 rfl) rfl
theorem q1405 : (Jvm.Cond.methodLink "CandleStatute$Stub" (54 : Nat) ({ cls := "java/lang/StringBuilder", name := "append", desc := "(I)Ljava/lang/StringBuilder;" } : Jvm.MethodName)) ∈ lw_all := lw_g (lw_at lw_m6 127 rfl) rfl
theorem q1439 : (Jvm.Cond.methodLink "CandleStatute$Stub" (58 : Nat) ({ cls := "java/lang/StringBuilder", name := "append", desc := "(C)Ljava/lang/StringBuilder;" } : Jvm.MethodName)) ∈ lw_all := lw_g (lw_at lw_m6 161 rfl) rfl
theorem q1440 : (Jvm.Cond.stringRef "CandleStatute$Stub" (61 : Nat) ">") ∈ lw_tbl := lw_at lw_m6 162 rfl
theorem q1441 : (Jvm.Cond.methodLink "CandleStatute$Stub" (63 : Nat) ({ cls := "java/lang/StringBuilder", name := "append", desc := "(Ljava/lang/String;)Ljava/lang/StringBuilder;" } : Jvm.MethodName)) ∈ lw_all := lw_g (lw_at lw_m6 163 rfl) rfl
theorem q1479 : (Jvm.Cond.stringRef "CandleStatute$Stub" (66 : Nat) "=") ∈ lw_tbl := lw_at lw_m6 201 rfl
theorem q1480 : (Jvm.Cond.methodLink "CandleStatute$Stub" (68 : Nat) ({ cls := "java/lang/StringBuilder", name := "toString", desc := "()Ljava/lang/String;" } : Jvm.MethodName)) ∈ lw_all := lw_g (lw_at lw_m6 202 rfl) rfl
theorem q1531 : (Jvm.Cond.stringRef "CandleStatute$Stub" (72 : Nat) "") ∈ lw_tbl := lw_at lw_m7 13 rfl
theorem q1532 : (Jvm.Cond.stringRef "CandleStatute$Stub" (74 : Nat) "!") ∈ lw_tbl := lw_at lw_m7 14 rfl
theorem q2096 : (Jvm.Cond.castable "CandleStatute$Stub" "java/lang/Object") ∈ lw_tbl := lw_at lw_m9 98 rfl
theorem in_X6 : ∀ w ∈ wsX60, w ∈ lw_all := lw_in wsX60 [530, 532, 534, 536, 538, 540, 542, 544] (by decide +kernel) (by decide +kernel)

/-! CandleStatute$Refused -/
set_option maxRecDepth 100000
def RX7 : String := "CandleStatute$Refused"
def TX7 : u_T := fun k => match k with
  | 0 => ("java/lang/Throwable", "cause", "Ljava/lang/Throwable;", false)
  | 1 => ("java/lang/Throwable", "stackTrace", "[Ljava/lang/StackTraceElement;", false)
  | 2 => ("java/lang/Throwable", "suppressedExceptions", "Ljava/util/List;", false)
  | 3 => ("java/lang/Throwable", "detailMessage", "Ljava/lang/String;", false)
  | 4 => ("java/lang/Throwable", "backtrace", "Ljava/lang/Object;", false)
  | 5 => ("java/lang/Throwable", "depth", "I", false)
  | 6 => ("CandleStatute$Refused", "reason", "I", true)
  | _ => ("CandleStatute$Refused", "detail", "I", true)
def tyX7 : Nat → FieldType := fun k => match k with
  | 0 => .object "java/lang/Throwable"
  | 1 => .array (.object "java/lang/StackTraceElement")
  | 2 => .object "java/util/List"
  | 3 => .object "java/lang/String"
  | 4 => .object "java/lang/Object"
  | 5 => .int
  | 6 => .int
  | _ => .int
abbrev wsX70 : List Cond := u_ws RX7 TX7 8
theorem nmX7 : ∀ a, a < 8 → ∀ b, b < 8 → a ≠ b → (TX7 a).2.1 ≠ (TX7 b).2.1 := by decide +kernel
theorem tyX7_ok : ∀ k, k < 8 → parseFieldDescriptor (TX7 k).2.2.1 = some (tyX7 k) := by decide +kernel
abbrev cX7_init : ByteArray := prog_9_method_2_code
def yX7_init : MethodName := ⟨RX7, "<init>", "(II)V"⟩
def dkwX7_init_0 : List UInt8 := [42, 27, 28, 1, 183, 0, 16, 177]
abbrev dktX7_init_0 : List UInt8 := dkwX7_init_0 ++ []
theorem dksX7_init_0 : cX7_init.data.toList.drop 0 = dktX7_init_0 := by decide +kernel
theorem dX7_init_0 : decode cX7_init 0 = .ok (.aload_n 0, 1) := dk_42 (dk_at dksX7_init_0 0 rfl rfl)
theorem dX7_init_1 : decode cX7_init 1 = .ok (.iload_n 1, 1) := dk_27 (dk_at dksX7_init_0 1 rfl rfl)
theorem dX7_init_2 : decode cX7_init 2 = .ok (.iload_n 2, 1) := dk_28 (dk_at dksX7_init_0 2 rfl rfl)
theorem dX7_init_3 : decode cX7_init 3 = .ok (.aconst_null, 1) := dk_1 (dk_at dksX7_init_0 3 rfl rfl)
theorem dX7_init_4 : decode cX7_init 4 = .ok (.invokespecial 16, 3) := dk_183 0 16 (dk_at dksX7_init_0 4 rfl rfl)
theorem dX7_init_7 : decode cX7_init 7 = .ok (.return_, 1) := dk_177 (dk_at dksX7_init_0 7 rfl rfl)
abbrev cX7_init_2 : ByteArray := prog_9_method_1_code
def yX7_init_2 : MethodName := ⟨RX7, "<init>", "(IILjava/lang/Throwable;)V"⟩
def dkwX7_init_2_0 : List UInt8 := [42, 1, 45, 3, 3, 183, 0, 1, 42, 27, 181, 0, 7, 42, 28, 181, 0, 13, 177]
abbrev dktX7_init_2_0 : List UInt8 := dkwX7_init_2_0 ++ []
theorem dksX7_init_2_0 : cX7_init_2.data.toList.drop 0 = dktX7_init_2_0 := by decide +kernel
theorem dX7_init_2_0 : decode cX7_init_2 0 = .ok (.aload_n 0, 1) := dk_42 (dk_at dksX7_init_2_0 0 rfl rfl)
theorem dX7_init_2_1 : decode cX7_init_2 1 = .ok (.aconst_null, 1) := dk_1 (dk_at dksX7_init_2_0 1 rfl rfl)
theorem dX7_init_2_2 : decode cX7_init_2 2 = .ok (.aload_n 3, 1) := dk_45 (dk_at dksX7_init_2_0 2 rfl rfl)
theorem dX7_init_2_3 : decode cX7_init_2 3 = .ok (.iconst 0, 1) := dk_3 (dk_at dksX7_init_2_0 3 rfl rfl)
theorem dX7_init_2_4 : decode cX7_init_2 4 = .ok (.iconst 0, 1) := dk_3 (dk_at dksX7_init_2_0 4 rfl rfl)
theorem dX7_init_2_5 : decode cX7_init_2 5 = .ok (.invokespecial 1, 3) := dk_183 0 1 (dk_at dksX7_init_2_0 5 rfl rfl)
theorem dX7_init_2_8 : decode cX7_init_2 8 = .ok (.aload_n 0, 1) := dk_42 (dk_at dksX7_init_2_0 8 rfl rfl)
theorem dX7_init_2_9 : decode cX7_init_2 9 = .ok (.iload_n 1, 1) := dk_27 (dk_at dksX7_init_2_0 9 rfl rfl)
theorem dX7_init_2_10 : decode cX7_init_2 10 = .ok (.putfield 7, 3) := dk_181 0 7 (dk_at dksX7_init_2_0 10 rfl rfl)
theorem dX7_init_2_13 : decode cX7_init_2 13 = .ok (.aload_n 0, 1) := dk_42 (dk_at dksX7_init_2_0 13 rfl rfl)
theorem dX7_init_2_14 : decode cX7_init_2 14 = .ok (.iload_n 2, 1) := dk_28 (dk_at dksX7_init_2_0 14 rfl rfl)
theorem dX7_init_2_15 : decode cX7_init_2 15 = .ok (.putfield 13, 3) := dk_181 0 13 (dk_at dksX7_init_2_0 15 rfl rfl)
theorem dX7_init_2_18 : decode cX7_init_2 18 = .ok (.return_, 1) := dk_177 (dk_at dksX7_init_2_0 18 rfl rfl)
theorem q103 : (Jvm.Cond.initialized "CandleStatute$Refused") ∈ lw_all := lw_g (lw_at lw_m1 25 rfl) rfl
theorem q274 : (Jvm.Cond.selects "CandleStatute$Refused" ({ cls := "java/lang/Object", name := "getClass", desc := "()Ljava/lang/Class;" } : Jvm.MethodName) ({ cls := "java/lang/Object", name := "getClass", desc := "()Ljava/lang/Class;" } : Jvm.MethodName)) ∈ lw_all := lw_g (lw_at lw_m1 196 rfl) rfl
theorem q579 : (Jvm.Cond.instantiable "CandleStatute$Refused" (8 : Nat)) ∈ lw_all := lw_g (lw_at lw_m3 21 rfl) rfl
theorem q580 : (Jvm.Cond.castable "CandleStatute$Refused" "CandleStatute$Refused") ∈ lw_tbl := lw_at lw_m3 22 rfl
theorem q585 : (Jvm.Cond.selects "CandleStatute$Refused" ({ cls := "java/lang/Throwable", name := "fillInStackTrace", desc := "(I)Ljava/lang/Throwable;" } : Jvm.MethodName) ({ cls := "java/lang/Throwable", name := "fillInStackTrace", desc := "(I)Ljava/lang/Throwable;" } : Jvm.MethodName)) ∈ lw_all := lw_g (lw_at lw_m3 27 rfl) rfl
theorem q586 : (Jvm.Cond.selects "CandleStatute$Refused" ({ cls := "java/lang/Throwable", name := "fillInStackTrace", desc := "()Ljava/lang/Throwable;" } : Jvm.MethodName) ({ cls := "java/lang/Throwable", name := "fillInStackTrace", desc := "()Ljava/lang/Throwable;" } : Jvm.MethodName)) ∈ lw_all := lw_g (lw_at lw_m3 28 rfl) rfl
theorem q587 : (Jvm.Cond.lays "CandleStatute$Refused" "java/lang/Throwable" "cause" "Ljava/lang/Throwable;") ∈ lw_all := lw_g (lw_at lw_m3 29 rfl) rfl
theorem q589 : (Jvm.Cond.lays "CandleStatute$Refused" "java/lang/Throwable" "stackTrace" "[Ljava/lang/StackTraceElement;") ∈ lw_all := lw_g (lw_at lw_m3 31 rfl) rfl
theorem q591 : (Jvm.Cond.lays "CandleStatute$Refused" "java/lang/Throwable" "suppressedExceptions" "Ljava/util/List;") ∈ lw_all := lw_g (lw_at lw_m3 33 rfl) rfl
theorem q593 : (Jvm.Cond.lays "CandleStatute$Refused" "java/lang/Throwable" "detailMessage" "Ljava/lang/String;") ∈ lw_all := lw_g (lw_at lw_m3 35 rfl) rfl
theorem q595 : (Jvm.Cond.lays "CandleStatute$Refused" "java/lang/Throwable" "backtrace" "Ljava/lang/Object;") ∈ lw_all := lw_g (lw_at lw_m3 37 rfl) rfl
theorem q619 : (Jvm.Cond.instanceMethod ({ cls := "CandleStatute$Refused", name := "<init>", desc := "(II)V" } : Jvm.MethodName)) ∈ lw_all := lw_g (lw_at lw_m3 61 rfl) rfl
theorem q620 : (Jvm.Cond.code ({ cls := "CandleStatute$Refused", name := "<init>", desc := "(II)V" } : Jvm.MethodName) prog_9_method_2_code (3 : Nat) (Option.none : Option Jvm.ClassFile.FieldType)) ∈ lw_all := lw_g (lw_at lw_m3 62 rfl) rfl
theorem q621 : (Jvm.Cond.methodLink "CandleStatute$Refused" (16 : Nat) ({ cls := "CandleStatute$Refused", name := "<init>", desc := "(IILjava/lang/Throwable;)V" } : Jvm.MethodName)) ∈ lw_all := lw_g (lw_at lw_m3 63 rfl) rfl
theorem q622 : (Jvm.Cond.instanceMethod ({ cls := "CandleStatute$Refused", name := "<init>", desc := "(IILjava/lang/Throwable;)V" } : Jvm.MethodName)) ∈ lw_all := lw_g (lw_at lw_m3 64 rfl) rfl
theorem q623 : (Jvm.Cond.code ({ cls := "CandleStatute$Refused", name := "<init>", desc := "(IILjava/lang/Throwable;)V" } : Jvm.MethodName) prog_9_method_1_code (4 : Nat) (Option.none : Option Jvm.ClassFile.FieldType)) ∈ lw_all := lw_g (lw_at lw_m3 65 rfl) rfl
theorem q624 : (Jvm.Cond.methodLink "CandleStatute$Refused" (1 : Nat) ({ cls := "java/lang/Exception", name := "<init>", desc := "(Ljava/lang/String;Ljava/lang/Throwable;ZZ)V" } : Jvm.MethodName)) ∈ lw_all := lw_g (lw_at lw_m3 66 rfl) rfl
theorem q630 : (Jvm.Cond.fieldLink "CandleStatute$Refused" (7 : Nat) "CandleStatute$Refused" "reason" "I") ∈ lw_all := lw_g (lw_at lw_m3 72 rfl) rfl
theorem q632 : (Jvm.Cond.fieldLink "CandleStatute$Refused" (13 : Nat) "CandleStatute$Refused" "detail" "I") ∈ lw_all := lw_g (lw_at lw_m3 74 rfl) rfl
theorem q639 : (Jvm.Cond.laysFinal "CandleStatute$Refused" "CandleStatute$Refused" "reason" "I") ∈ lw_all := lw_g (lw_at lw_m3 81 rfl) rfl
theorem q640 : (Jvm.Cond.soleField "CandleStatute$Refused" "reason") ∈ lw_all := lw_g (lw_at lw_m3 82 rfl) rfl
theorem q641 : (Jvm.Cond.laysFinal "CandleStatute$Refused" "CandleStatute$Refused" "detail" "I") ∈ lw_all := lw_g (lw_at lw_m3 83 rfl) rfl
theorem q642 : (Jvm.Cond.soleField "CandleStatute$Refused" "detail") ∈ lw_all := lw_g (lw_at lw_m3 84 rfl) rfl
theorem q647 : (Jvm.Cond.lays "CandleStatute$Refused" "java/lang/Throwable" "depth" "I") ∈ lw_all := lw_g (lw_at lw_m3 89 rfl) rfl
theorem q650 : (Jvm.Cond.superclass "CandleStatute$Refused" "java/lang/Exception") ∈ lw_all := lw_g (lw_at lw_m3 92 rfl) rfl
theorem q726 : (Jvm.Cond.selects "CandleStatute$Refused" ({ cls := "java/lang/Throwable", name := "getCause", desc := "()Ljava/lang/Throwable;" } : Jvm.MethodName) ({ cls := "java/lang/Throwable", name := "getCause", desc := "()Ljava/lang/Throwable;" } : Jvm.MethodName)) ∈ lw_all := lw_g (lw_at lw_m3 168 rfl) rfl
theorem q2097 : (Jvm.Cond.castable "CandleStatute$Refused" "java/lang/Object") ∈ lw_tbl := lw_at lw_m9 99 rfl
theorem in_X7 : ∀ w ∈ wsX70, w ∈ lw_all := lw_in wsX70 [587, 589, 591, 593, 595, 647, 639, 641] (by decide +kernel) (by decide +kernel)

/-! CandleStatute$Forbidden -/
set_option maxRecDepth 100000
def RX8 : String := "CandleStatute$Forbidden"
def TX8 : u_T := fun k => match k with
  | 0 => ("java/lang/Throwable", "cause", "Ljava/lang/Throwable;", false)
  | 1 => ("java/lang/Throwable", "stackTrace", "[Ljava/lang/StackTraceElement;", false)
  | 2 => ("java/lang/Throwable", "suppressedExceptions", "Ljava/util/List;", false)
  | 3 => ("java/lang/Throwable", "detailMessage", "Ljava/lang/String;", false)
  | 4 => ("java/lang/Throwable", "backtrace", "Ljava/lang/Object;", false)
  | 5 => ("CandleStatute$Refused", "reason", "I", true)
  | 6 => ("CandleStatute$Refused", "detail", "I", true)
  | _ => ("java/lang/Throwable", "depth", "I", false)
def tyX8 : Nat → FieldType := fun k => match k with
  | 0 => .object "java/lang/Throwable"
  | 1 => .array (.object "java/lang/StackTraceElement")
  | 2 => .object "java/util/List"
  | 3 => .object "java/lang/String"
  | 4 => .object "java/lang/Object"
  | 5 => .int
  | 6 => .int
  | _ => .int
abbrev wsX80 : List Cond := u_ws RX8 TX8 8
theorem nmX8 : ∀ a, a < 8 → ∀ b, b < 8 → a ≠ b → (TX8 a).2.1 ≠ (TX8 b).2.1 := by decide +kernel
theorem tyX8_ok : ∀ k, k < 8 → parseFieldDescriptor (TX8 k).2.2.1 = some (tyX8 k) := by decide +kernel
abbrev cX8_init : ByteArray := prog_5_method_1_code
def yX8_init : MethodName := ⟨RX8, "<init>", "(I)V"⟩
def dkwX8_init_0 : List UInt8 := [42, 8, 27, 183, 0, 3, 177]
abbrev dktX8_init_0 : List UInt8 := dkwX8_init_0 ++ []
theorem dksX8_init_0 : cX8_init.data.toList.drop 0 = dktX8_init_0 := by decide +kernel
theorem dX8_init_0 : decode cX8_init 0 = .ok (.aload_n 0, 1) := dk_42 (dk_at dksX8_init_0 0 rfl rfl)
theorem dX8_init_1 : decode cX8_init 1 = .ok (.iconst 5, 1) := dk_8 (dk_at dksX8_init_0 1 rfl rfl)
theorem dX8_init_2 : decode cX8_init 2 = .ok (.iload_n 1, 1) := dk_27 (dk_at dksX8_init_0 2 rfl rfl)
theorem dX8_init_3 : decode cX8_init 3 = .ok (.invokespecial 3, 3) := dk_183 0 3 (dk_at dksX8_init_0 3 rfl rfl)
theorem dX8_init_6 : decode cX8_init 6 = .ok (.return_, 1) := dk_177 (dk_at dksX8_init_0 6 rfl rfl)
theorem q104 : (Jvm.Cond.initialized "CandleStatute$Forbidden") ∈ lw_all := lw_g (lw_at lw_m1 26 rfl) rfl
theorem q271 : (Jvm.Cond.selects "CandleStatute$Forbidden" ({ cls := "java/lang/Object", name := "getClass", desc := "()Ljava/lang/Class;" } : Jvm.MethodName) ({ cls := "java/lang/Object", name := "getClass", desc := "()Ljava/lang/Class;" } : Jvm.MethodName)) ∈ lw_all := lw_g (lw_at lw_m1 193 rfl) rfl
theorem q609 : (Jvm.Cond.selects "CandleStatute$Forbidden" ({ cls := "java/lang/Throwable", name := "fillInStackTrace", desc := "()Ljava/lang/Throwable;" } : Jvm.MethodName) ({ cls := "java/lang/Throwable", name := "fillInStackTrace", desc := "()Ljava/lang/Throwable;" } : Jvm.MethodName)) ∈ lw_all := lw_g (lw_at lw_m3 51 rfl) rfl
theorem q725 : (Jvm.Cond.selects "CandleStatute$Forbidden" ({ cls := "java/lang/Throwable", name := "getCause", desc := "()Ljava/lang/Throwable;" } : Jvm.MethodName) ({ cls := "java/lang/Throwable", name := "getCause", desc := "()Ljava/lang/Throwable;" } : Jvm.MethodName)) ∈ lw_all := lw_g (lw_at lw_m3 167 rfl) rfl
theorem q752 : (Jvm.Cond.instantiable "CandleStatute$Forbidden" (8 : Nat)) ∈ lw_all := lw_g (lw_at lw_m3 194 rfl) rfl
theorem q753 : (Jvm.Cond.castable "CandleStatute$Forbidden" "CandleStatute$Forbidden") ∈ lw_tbl := lw_at lw_m3 195 rfl
theorem q754 : (Jvm.Cond.selects "CandleStatute$Forbidden" ({ cls := "java/lang/Throwable", name := "fillInStackTrace", desc := "(I)Ljava/lang/Throwable;" } : Jvm.MethodName) ({ cls := "java/lang/Throwable", name := "fillInStackTrace", desc := "(I)Ljava/lang/Throwable;" } : Jvm.MethodName)) ∈ lw_all := lw_g (lw_at lw_m3 196 rfl) rfl
theorem q755 : (Jvm.Cond.lays "CandleStatute$Forbidden" "java/lang/Throwable" "cause" "Ljava/lang/Throwable;") ∈ lw_all := lw_g (lw_at lw_m3 197 rfl) rfl
theorem q756 : (Jvm.Cond.lays "CandleStatute$Forbidden" "java/lang/Throwable" "stackTrace" "[Ljava/lang/StackTraceElement;") ∈ lw_all := lw_g (lw_at lw_m3 198 rfl) rfl
theorem q757 : (Jvm.Cond.lays "CandleStatute$Forbidden" "java/lang/Throwable" "suppressedExceptions" "Ljava/util/List;") ∈ lw_all := lw_g (lw_at lw_m3 199 rfl) rfl
theorem q758 : (Jvm.Cond.lays "CandleStatute$Forbidden" "java/lang/Throwable" "detailMessage" "Ljava/lang/String;") ∈ lw_all := lw_g (lw_at lw_m3 200 rfl) rfl
theorem q759 : (Jvm.Cond.lays "CandleStatute$Forbidden" "java/lang/Throwable" "backtrace" "Ljava/lang/Object;") ∈ lw_all := lw_g (lw_at lw_m3 201 rfl) rfl
theorem q761 : (Jvm.Cond.instanceMethod ({ cls := "CandleStatute$Forbidden", name := "<init>", desc := "(I)V" } : Jvm.MethodName)) ∈ lw_all := lw_g (lw_at lw_m3 203 rfl) rfl
theorem q762 : (Jvm.Cond.code ({ cls := "CandleStatute$Forbidden", name := "<init>", desc := "(I)V" } : Jvm.MethodName) prog_5_method_1_code (2 : Nat) (Option.none : Option Jvm.ClassFile.FieldType)) ∈ lw_all := lw_g (lw_at lw_m3 204 rfl) rfl
theorem q763 : (Jvm.Cond.methodLink "CandleStatute$Forbidden" (3 : Nat) ({ cls := "CandleStatute$Refused", name := "<init>", desc := "(II)V" } : Jvm.MethodName)) ∈ lw_all := lw_g (lw_at lw_m3 205 rfl) rfl
theorem q764 : (Jvm.Cond.laysFinal "CandleStatute$Forbidden" "CandleStatute$Refused" "reason" "I") ∈ lw_all := lw_g (lw_at lw_m3 206 rfl) rfl
theorem q765 : (Jvm.Cond.laysFinal "CandleStatute$Forbidden" "CandleStatute$Refused" "detail" "I") ∈ lw_all := lw_g (lw_at lw_m3 207 rfl) rfl
theorem q766 : (Jvm.Cond.lays "CandleStatute$Forbidden" "java/lang/Throwable" "depth" "I") ∈ lw_all := lw_g (lw_at lw_m3 208 rfl) rfl
theorem q767 : (Jvm.Cond.superclass "CandleStatute$Forbidden" "CandleStatute$Refused") ∈ lw_all := lw_g (lw_at lw_m3 209 rfl) rfl
theorem q2085 : (Jvm.Cond.castable "CandleStatute$Forbidden" "CandleStatute$Refused") ∈ lw_tbl := lw_at lw_m9 87 rfl
theorem q2098 : (Jvm.Cond.castable "CandleStatute$Forbidden" "java/lang/Object") ∈ lw_tbl := lw_at lw_m9 100 rfl
theorem in_X8 : ∀ w ∈ wsX80, w ∈ lw_all := lw_in wsX80 [755, 756, 757, 758, 759, 764, 765, 766] (by decide +kernel) (by decide +kernel)

/-! CandleStatute$TooShort -/
set_option maxRecDepth 100000
def RX9 : String := "CandleStatute$TooShort"
def TX9 : u_T := fun k => match k with
  | 0 => ("java/lang/Throwable", "cause", "Ljava/lang/Throwable;", false)
  | 1 => ("java/lang/Throwable", "stackTrace", "[Ljava/lang/StackTraceElement;", false)
  | 2 => ("java/lang/Throwable", "suppressedExceptions", "Ljava/util/List;", false)
  | 3 => ("java/lang/Throwable", "detailMessage", "Ljava/lang/String;", false)
  | 4 => ("java/lang/Throwable", "backtrace", "Ljava/lang/Object;", false)
  | 5 => ("CandleStatute$Refused", "reason", "I", true)
  | 6 => ("CandleStatute$Refused", "detail", "I", true)
  | _ => ("java/lang/Throwable", "depth", "I", false)
def tyX9 : Nat → FieldType := fun k => match k with
  | 0 => .object "java/lang/Throwable"
  | 1 => .array (.object "java/lang/StackTraceElement")
  | 2 => .object "java/util/List"
  | 3 => .object "java/lang/String"
  | 4 => .object "java/lang/Object"
  | 5 => .int
  | 6 => .int
  | _ => .int
abbrev wsX90 : List Cond := u_ws RX9 TX9 8
theorem nmX9 : ∀ a, a < 8 → ∀ b, b < 8 → a ≠ b → (TX9 a).2.1 ≠ (TX9 b).2.1 := by decide +kernel
theorem tyX9_ok : ∀ k, k < 8 → parseFieldDescriptor (TX9 k).2.2.1 = some (tyX9 k) := by decide +kernel
abbrev cX9_init : ByteArray := prog_13_method_1_code
def yX9_init : MethodName := ⟨RX9, "<init>", "(I)V"⟩
def dkwX9_init_0 : List UInt8 := [42, 16, 6, 27, 183, 0, 3, 177]
abbrev dktX9_init_0 : List UInt8 := dkwX9_init_0 ++ []
theorem dksX9_init_0 : cX9_init.data.toList.drop 0 = dktX9_init_0 := by decide +kernel
theorem dX9_init_0 : decode cX9_init 0 = .ok (.aload_n 0, 1) := dk_42 (dk_at dksX9_init_0 0 rfl rfl)
theorem dX9_init_1 : decode cX9_init 1 = .ok (.bipush 6, 2) := dk_16 6 (dk_at dksX9_init_0 1 rfl rfl)
theorem dX9_init_3 : decode cX9_init 3 = .ok (.iload_n 1, 1) := dk_27 (dk_at dksX9_init_0 3 rfl rfl)
theorem dX9_init_4 : decode cX9_init 4 = .ok (.invokespecial 3, 3) := dk_183 0 3 (dk_at dksX9_init_0 4 rfl rfl)
theorem dX9_init_7 : decode cX9_init 7 = .ok (.return_, 1) := dk_177 (dk_at dksX9_init_0 7 rfl rfl)
theorem q105 : (Jvm.Cond.initialized "CandleStatute$TooShort") ∈ lw_all := lw_g (lw_at lw_m1 27 rfl) rfl
theorem q278 : (Jvm.Cond.selects "CandleStatute$TooShort" ({ cls := "java/lang/Object", name := "getClass", desc := "()Ljava/lang/Class;" } : Jvm.MethodName) ({ cls := "java/lang/Object", name := "getClass", desc := "()Ljava/lang/Class;" } : Jvm.MethodName)) ∈ lw_all := lw_g (lw_at lw_m1 200 rfl) rfl
theorem q610 : (Jvm.Cond.selects "CandleStatute$TooShort" ({ cls := "java/lang/Throwable", name := "fillInStackTrace", desc := "()Ljava/lang/Throwable;" } : Jvm.MethodName) ({ cls := "java/lang/Throwable", name := "fillInStackTrace", desc := "()Ljava/lang/Throwable;" } : Jvm.MethodName)) ∈ lw_all := lw_g (lw_at lw_m3 52 rfl) rfl
theorem q727 : (Jvm.Cond.selects "CandleStatute$TooShort" ({ cls := "java/lang/Throwable", name := "getCause", desc := "()Ljava/lang/Throwable;" } : Jvm.MethodName) ({ cls := "java/lang/Throwable", name := "getCause", desc := "()Ljava/lang/Throwable;" } : Jvm.MethodName)) ∈ lw_all := lw_g (lw_at lw_m3 169 rfl) rfl
theorem q768 : (Jvm.Cond.instantiable "CandleStatute$TooShort" (8 : Nat)) ∈ lw_all := lw_g (lw_at lw_m3 210 rfl) rfl
theorem q769 : (Jvm.Cond.castable "CandleStatute$TooShort" "CandleStatute$TooShort") ∈ lw_tbl := lw_at lw_m3 211 rfl
theorem q770 : (Jvm.Cond.selects "CandleStatute$TooShort" ({ cls := "java/lang/Throwable", name := "fillInStackTrace", desc := "(I)Ljava/lang/Throwable;" } : Jvm.MethodName) ({ cls := "java/lang/Throwable", name := "fillInStackTrace", desc := "(I)Ljava/lang/Throwable;" } : Jvm.MethodName)) ∈ lw_all := lw_g (lw_at lw_m3 212 rfl) rfl
theorem q771 : (Jvm.Cond.lays "CandleStatute$TooShort" "java/lang/Throwable" "cause" "Ljava/lang/Throwable;") ∈ lw_all := lw_g (lw_at lw_m3 213 rfl) rfl
theorem q772 : (Jvm.Cond.lays "CandleStatute$TooShort" "java/lang/Throwable" "stackTrace" "[Ljava/lang/StackTraceElement;") ∈ lw_all := lw_g (lw_at lw_m3 214 rfl) rfl
theorem q773 : (Jvm.Cond.lays "CandleStatute$TooShort" "java/lang/Throwable" "suppressedExceptions" "Ljava/util/List;") ∈ lw_all := lw_g (lw_at lw_m3 215 rfl) rfl
theorem q774 : (Jvm.Cond.lays "CandleStatute$TooShort" "java/lang/Throwable" "detailMessage" "Ljava/lang/String;") ∈ lw_all := lw_g (lw_at lw_m3 216 rfl) rfl
theorem q775 : (Jvm.Cond.lays "CandleStatute$TooShort" "java/lang/Throwable" "backtrace" "Ljava/lang/Object;") ∈ lw_all := lw_g (lw_at lw_m3 217 rfl) rfl
theorem q777 : (Jvm.Cond.instanceMethod ({ cls := "CandleStatute$TooShort", name := "<init>", desc := "(I)V" } : Jvm.MethodName)) ∈ lw_all := lw_g (lw_at lw_m3 219 rfl) rfl
theorem q778 : (Jvm.Cond.code ({ cls := "CandleStatute$TooShort", name := "<init>", desc := "(I)V" } : Jvm.MethodName) prog_13_method_1_code (2 : Nat) (Option.none : Option Jvm.ClassFile.FieldType)) ∈ lw_all := lw_g (lw_at lw_m3 220 rfl) rfl
theorem q779 : (Jvm.Cond.methodLink "CandleStatute$TooShort" (3 : Nat) ({ cls := "CandleStatute$Refused", name := "<init>", desc := "(II)V" } : Jvm.MethodName)) ∈ lw_all := lw_g (lw_at lw_m3 221 rfl) rfl
theorem q780 : (Jvm.Cond.laysFinal "CandleStatute$TooShort" "CandleStatute$Refused" "reason" "I") ∈ lw_all := lw_g (lw_at lw_m3 222 rfl) rfl
theorem q781 : (Jvm.Cond.laysFinal "CandleStatute$TooShort" "CandleStatute$Refused" "detail" "I") ∈ lw_all := lw_g (lw_at lw_m3 223 rfl) rfl
theorem q782 : (Jvm.Cond.lays "CandleStatute$TooShort" "java/lang/Throwable" "depth" "I") ∈ lw_all := lw_g (lw_at lw_m3 224 rfl) rfl
theorem q783 : (Jvm.Cond.superclass "CandleStatute$TooShort" "CandleStatute$Refused") ∈ lw_all := lw_g (lw_at lw_m3 225 rfl) rfl
theorem q2086 : (Jvm.Cond.castable "CandleStatute$TooShort" "CandleStatute$Refused") ∈ lw_tbl := lw_at lw_m9 88 rfl
theorem q2099 : (Jvm.Cond.castable "CandleStatute$TooShort" "java/lang/Object") ∈ lw_tbl := lw_at lw_m9 101 rfl
theorem in_X9 : ∀ w ∈ wsX90, w ∈ lw_all := lw_in wsX90 [771, 772, 773, 774, 775, 780, 781, 782] (by decide +kernel) (by decide +kernel)

/-! CandleStatute$Reader -/
set_option maxRecDepth 100000
def RX10 : String := "CandleStatute$Reader"
def TX10 : u_T := fun k => match k with
  | 0 => ("CandleStatute$Reader", "at", "I", false)
  | _ => ("CandleStatute$Reader", "this$0", "LCandleStatute;", true)
def tyX10 : Nat → FieldType := fun k => match k with
  | 0 => .int
  | _ => .object "CandleStatute"
abbrev wsX100 : List Cond := u_ws RX10 TX10 2
theorem nmX10 : ∀ a, a < 2 → ∀ b, b < 2 → a ≠ b → (TX10 a).2.1 ≠ (TX10 b).2.1 := by decide +kernel
theorem tyX10_ok : ∀ k, k < 2 → parseFieldDescriptor (TX10 k).2.2.1 = some (tyX10 k) := by decide +kernel
abbrev cX10_init : ByteArray := prog_8_method_1_code
def yX10_init : MethodName := ⟨RX10, "<init>", "(LCandleStatute;)V"⟩
def dkwX10_init_0 : List UInt8 := [42, 43, 181, 0, 3, 42, 183, 0, 9, 177]
abbrev dktX10_init_0 : List UInt8 := dkwX10_init_0 ++ []
theorem dksX10_init_0 : cX10_init.data.toList.drop 0 = dktX10_init_0 := by decide +kernel
theorem dX10_init_0 : decode cX10_init 0 = .ok (.aload_n 0, 1) := dk_42 (dk_at dksX10_init_0 0 rfl rfl)
theorem dX10_init_1 : decode cX10_init 1 = .ok (.aload_n 1, 1) := dk_43 (dk_at dksX10_init_0 1 rfl rfl)
theorem dX10_init_2 : decode cX10_init 2 = .ok (.putfield 3, 3) := dk_181 0 3 (dk_at dksX10_init_0 2 rfl rfl)
theorem dX10_init_5 : decode cX10_init 5 = .ok (.aload_n 0, 1) := dk_42 (dk_at dksX10_init_0 5 rfl rfl)
theorem dX10_init_6 : decode cX10_init 6 = .ok (.invokespecial 9, 3) := dk_183 0 9 (dk_at dksX10_init_0 6 rfl rfl)
theorem dX10_init_9 : decode cX10_init 9 = .ok (.return_, 1) := dk_177 (dk_at dksX10_init_0 9 rfl rfl)
abbrev cX10_commands : ByteArray := prog_8_method_10_code
def yX10_commands : MethodName := ⟨RX10, "commands", "()Ljava/util/LinkedList;"⟩
def dkwX10_commands_2 : List UInt8 := [180, 0, 19, 182, 0, 23, 160, 0, 7, 4, 167, 0, 4, 3, 182, 0, 45, 43, 176]
abbrev dktX10_commands_2 : List UInt8 := dkwX10_commands_2 ++ []
def dkwX10_commands_1 : List UInt8 := [153, 0, 14, 43, 42, 182, 0, 86, 182, 0, 90, 167, 255, 239, 42, 42, 180, 0, 15, 42, 180, 0, 3]
abbrev dktX10_commands_1 : List UInt8 := dkwX10_commands_1 ++ dktX10_commands_2
def dkwX10_commands_0 : List UInt8 := [187, 0, 83, 89, 183, 0, 85, 76, 43, 42, 182, 0, 86, 182, 0, 90, 42, 16, 59, 182, 0, 49]
abbrev dktX10_commands_0 : List UInt8 := dkwX10_commands_0 ++ dktX10_commands_1
theorem dksX10_commands_0 : cX10_commands.data.toList.drop 0 = dktX10_commands_0 := by decide +kernel
theorem dksX10_commands_1 : cX10_commands.data.toList.drop 22 = dktX10_commands_1 := dk_seg dksX10_commands_0 22 rfl rfl
theorem dksX10_commands_2 : cX10_commands.data.toList.drop 45 = dktX10_commands_2 := dk_seg dksX10_commands_1 23 rfl rfl
theorem dX10_commands_0 : decode cX10_commands 0 = .ok (.new 83, 3) := dk_187 0 83 (dk_at dksX10_commands_0 0 rfl rfl)
theorem dX10_commands_3 : decode cX10_commands 3 = .ok (.dup, 1) := dk_89 (dk_at dksX10_commands_0 3 rfl rfl)
theorem dX10_commands_4 : decode cX10_commands 4 = .ok (.invokespecial 85, 3) := dk_183 0 85 (dk_at dksX10_commands_0 4 rfl rfl)
theorem dX10_commands_7 : decode cX10_commands 7 = .ok (.astore_n 1, 1) := dk_76 (dk_at dksX10_commands_0 7 rfl rfl)
theorem dX10_commands_8 : decode cX10_commands 8 = .ok (.aload_n 1, 1) := dk_43 (dk_at dksX10_commands_0 8 rfl rfl)
theorem dX10_commands_9 : decode cX10_commands 9 = .ok (.aload_n 0, 1) := dk_42 (dk_at dksX10_commands_0 9 rfl rfl)
theorem dX10_commands_10 : decode cX10_commands 10 = .ok (.invokevirtual 86, 3) := dk_182 0 86 (dk_at dksX10_commands_0 10 rfl rfl)
theorem dX10_commands_13 : decode cX10_commands 13 = .ok (.invokevirtual 90, 3) := dk_182 0 90 (dk_at dksX10_commands_0 13 rfl rfl)
theorem dX10_commands_16 : decode cX10_commands 16 = .ok (.aload_n 0, 1) := dk_42 (dk_at dksX10_commands_0 16 rfl rfl)
theorem dX10_commands_17 : decode cX10_commands 17 = .ok (.bipush 59, 2) := dk_16 59 (dk_at dksX10_commands_0 17 rfl rfl)
theorem dX10_commands_19 : decode cX10_commands 19 = .ok (.invokevirtual 49, 3) := dk_182 0 49 (dk_at dksX10_commands_0 19 rfl rfl)
theorem dX10_commands_22 : decode cX10_commands 22 = .ok (.ifCond .eq 14, 3) := dk_153 0 14 (dk_at dksX10_commands_1 0 rfl rfl)
theorem dX10_commands_25 : decode cX10_commands 25 = .ok (.aload_n 1, 1) := dk_43 (dk_at dksX10_commands_1 3 rfl rfl)
theorem dX10_commands_26 : decode cX10_commands 26 = .ok (.aload_n 0, 1) := dk_42 (dk_at dksX10_commands_1 4 rfl rfl)
theorem dX10_commands_27 : decode cX10_commands 27 = .ok (.invokevirtual 86, 3) := dk_182 0 86 (dk_at dksX10_commands_1 5 rfl rfl)
theorem dX10_commands_30 : decode cX10_commands 30 = .ok (.invokevirtual 90, 3) := dk_182 0 90 (dk_at dksX10_commands_1 8 rfl rfl)
theorem dX10_commands_33 : decode cX10_commands 33 = .ok (.goto (-17), 3) := dk_167 255 239 (dk_at dksX10_commands_1 11 rfl rfl)
theorem dX10_commands_36 : decode cX10_commands 36 = .ok (.aload_n 0, 1) := dk_42 (dk_at dksX10_commands_1 14 rfl rfl)
theorem dX10_commands_37 : decode cX10_commands 37 = .ok (.aload_n 0, 1) := dk_42 (dk_at dksX10_commands_1 15 rfl rfl)
theorem dX10_commands_38 : decode cX10_commands 38 = .ok (.getfield 15, 3) := dk_180 0 15 (dk_at dksX10_commands_1 16 rfl rfl)
theorem dX10_commands_41 : decode cX10_commands 41 = .ok (.aload_n 0, 1) := dk_42 (dk_at dksX10_commands_1 19 rfl rfl)
theorem dX10_commands_42 : decode cX10_commands 42 = .ok (.getfield 3, 3) := dk_180 0 3 (dk_at dksX10_commands_1 20 rfl rfl)
theorem dX10_commands_45 : decode cX10_commands 45 = .ok (.getfield 19, 3) := dk_180 0 19 (dk_at dksX10_commands_2 0 rfl rfl)
theorem dX10_commands_48 : decode cX10_commands 48 = .ok (.invokevirtual 23, 3) := dk_182 0 23 (dk_at dksX10_commands_2 3 rfl rfl)
theorem dX10_commands_51 : decode cX10_commands 51 = .ok (.if_icmp .ne 7, 3) := dk_160 0 7 (dk_at dksX10_commands_2 6 rfl rfl)
theorem dX10_commands_54 : decode cX10_commands 54 = .ok (.iconst 1, 1) := dk_4 (dk_at dksX10_commands_2 9 rfl rfl)
theorem dX10_commands_55 : decode cX10_commands 55 = .ok (.goto 4, 3) := dk_167 0 4 (dk_at dksX10_commands_2 10 rfl rfl)
theorem dX10_commands_58 : decode cX10_commands 58 = .ok (.iconst 0, 1) := dk_3 (dk_at dksX10_commands_2 13 rfl rfl)
theorem dX10_commands_59 : decode cX10_commands 59 = .ok (.invokevirtual 45, 3) := dk_182 0 45 (dk_at dksX10_commands_2 14 rfl rfl)
theorem dX10_commands_62 : decode cX10_commands 62 = .ok (.aload_n 1, 1) := dk_43 (dk_at dksX10_commands_2 17 rfl rfl)
theorem dX10_commands_63 : decode cX10_commands 63 = .ok (.areturn, 1) := dk_176 (dk_at dksX10_commands_2 18 rfl rfl)
abbrev cX10_command : ByteArray := prog_8_method_9_code
def yX10_command : MethodName := ⟨RX10, "command", "()LCandleStatute$Command;"⟩
def dkwX10_command_1 : List UInt8 := [42, 89, 180, 0, 15, 4, 96, 181, 0, 15, 42, 43, 182, 0, 79, 43, 176]
abbrev dktX10_command_1 : List UInt8 := dkwX10_command_1 ++ []
def dkwX10_command_0 : List UInt8 := [42, 42, 42, 182, 0, 38, 182, 0, 75, 182, 0, 45, 187, 0, 58, 89, 42, 182, 0, 38, 183, 0, 78, 76]
abbrev dktX10_command_0 : List UInt8 := dkwX10_command_0 ++ dktX10_command_1
theorem dksX10_command_0 : cX10_command.data.toList.drop 0 = dktX10_command_0 := by decide +kernel
theorem dksX10_command_1 : cX10_command.data.toList.drop 24 = dktX10_command_1 := dk_seg dksX10_command_0 24 rfl rfl
theorem dX10_command_0 : decode cX10_command 0 = .ok (.aload_n 0, 1) := dk_42 (dk_at dksX10_command_0 0 rfl rfl)
theorem dX10_command_1 : decode cX10_command 1 = .ok (.aload_n 0, 1) := dk_42 (dk_at dksX10_command_0 1 rfl rfl)
theorem dX10_command_2 : decode cX10_command 2 = .ok (.aload_n 0, 1) := dk_42 (dk_at dksX10_command_0 2 rfl rfl)
theorem dX10_command_3 : decode cX10_command 3 = .ok (.invokevirtual 38, 3) := dk_182 0 38 (dk_at dksX10_command_0 3 rfl rfl)
theorem dX10_command_6 : decode cX10_command 6 = .ok (.invokevirtual 75, 3) := dk_182 0 75 (dk_at dksX10_command_0 6 rfl rfl)
theorem dX10_command_9 : decode cX10_command 9 = .ok (.invokevirtual 45, 3) := dk_182 0 45 (dk_at dksX10_command_0 9 rfl rfl)
theorem dX10_command_12 : decode cX10_command 12 = .ok (.new 58, 3) := dk_187 0 58 (dk_at dksX10_command_0 12 rfl rfl)
theorem dX10_command_15 : decode cX10_command 15 = .ok (.dup, 1) := dk_89 (dk_at dksX10_command_0 15 rfl rfl)
theorem dX10_command_16 : decode cX10_command 16 = .ok (.aload_n 0, 1) := dk_42 (dk_at dksX10_command_0 16 rfl rfl)
theorem dX10_command_17 : decode cX10_command 17 = .ok (.invokevirtual 38, 3) := dk_182 0 38 (dk_at dksX10_command_0 17 rfl rfl)
theorem dX10_command_20 : decode cX10_command 20 = .ok (.invokespecial 78, 3) := dk_183 0 78 (dk_at dksX10_command_0 20 rfl rfl)
theorem dX10_command_23 : decode cX10_command 23 = .ok (.astore_n 1, 1) := dk_76 (dk_at dksX10_command_0 23 rfl rfl)
theorem dX10_command_24 : decode cX10_command 24 = .ok (.aload_n 0, 1) := dk_42 (dk_at dksX10_command_1 0 rfl rfl)
theorem dX10_command_25 : decode cX10_command 25 = .ok (.dup, 1) := dk_89 (dk_at dksX10_command_1 1 rfl rfl)
theorem dX10_command_26 : decode cX10_command 26 = .ok (.getfield 15, 3) := dk_180 0 15 (dk_at dksX10_command_1 2 rfl rfl)
theorem dX10_command_29 : decode cX10_command 29 = .ok (.iconst 1, 1) := dk_4 (dk_at dksX10_command_1 5 rfl rfl)
theorem dX10_command_30 : decode cX10_command 30 = .ok (.iadd, 1) := dk_96 (dk_at dksX10_command_1 6 rfl rfl)
theorem dX10_command_31 : decode cX10_command 31 = .ok (.putfield 15, 3) := dk_181 0 15 (dk_at dksX10_command_1 7 rfl rfl)
theorem dX10_command_34 : decode cX10_command 34 = .ok (.aload_n 0, 1) := dk_42 (dk_at dksX10_command_1 10 rfl rfl)
theorem dX10_command_35 : decode cX10_command 35 = .ok (.aload_n 1, 1) := dk_43 (dk_at dksX10_command_1 11 rfl rfl)
theorem dX10_command_36 : decode cX10_command 36 = .ok (.invokevirtual 79, 3) := dk_182 0 79 (dk_at dksX10_command_1 12 rfl rfl)
theorem dX10_command_39 : decode cX10_command 39 = .ok (.aload_n 1, 1) := dk_43 (dk_at dksX10_command_1 15 rfl rfl)
theorem dX10_command_40 : decode cX10_command 40 = .ok (.areturn, 1) := dk_176 (dk_at dksX10_command_1 16 rfl rfl)
abbrev cX10_here : ByteArray := prog_8_method_2_code
def yX10_here : MethodName := ⟨RX10, "here", "()I"⟩
def dkwX10_here_1 : List UInt8 := [42, 180, 0, 15, 182, 0, 29, 167, 0, 6, 17, 252, 13, 172]
abbrev dktX10_here_1 : List UInt8 := dkwX10_here_1 ++ []
def dkwX10_here_0 : List UInt8 := [42, 180, 0, 15, 42, 180, 0, 3, 180, 0, 19, 182, 0, 23, 162, 0, 20, 42, 180, 0, 3, 180, 0, 19]
abbrev dktX10_here_0 : List UInt8 := dkwX10_here_0 ++ dktX10_here_1
theorem dksX10_here_0 : cX10_here.data.toList.drop 0 = dktX10_here_0 := by decide +kernel
theorem dksX10_here_1 : cX10_here.data.toList.drop 24 = dktX10_here_1 := dk_seg dksX10_here_0 24 rfl rfl
theorem dX10_here_0 : decode cX10_here 0 = .ok (.aload_n 0, 1) := dk_42 (dk_at dksX10_here_0 0 rfl rfl)
theorem dX10_here_1 : decode cX10_here 1 = .ok (.getfield 15, 3) := dk_180 0 15 (dk_at dksX10_here_0 1 rfl rfl)
theorem dX10_here_4 : decode cX10_here 4 = .ok (.aload_n 0, 1) := dk_42 (dk_at dksX10_here_0 4 rfl rfl)
theorem dX10_here_5 : decode cX10_here 5 = .ok (.getfield 3, 3) := dk_180 0 3 (dk_at dksX10_here_0 5 rfl rfl)
theorem dX10_here_8 : decode cX10_here 8 = .ok (.getfield 19, 3) := dk_180 0 19 (dk_at dksX10_here_0 8 rfl rfl)
theorem dX10_here_11 : decode cX10_here 11 = .ok (.invokevirtual 23, 3) := dk_182 0 23 (dk_at dksX10_here_0 11 rfl rfl)
theorem dX10_here_14 : decode cX10_here 14 = .ok (.if_icmp .ge 20, 3) := dk_162 0 20 (dk_at dksX10_here_0 14 rfl rfl)
theorem dX10_here_17 : decode cX10_here 17 = .ok (.aload_n 0, 1) := dk_42 (dk_at dksX10_here_0 17 rfl rfl)
theorem dX10_here_18 : decode cX10_here 18 = .ok (.getfield 3, 3) := dk_180 0 3 (dk_at dksX10_here_0 18 rfl rfl)
theorem dX10_here_21 : decode cX10_here 21 = .ok (.getfield 19, 3) := dk_180 0 19 (dk_at dksX10_here_0 21 rfl rfl)
theorem dX10_here_24 : decode cX10_here 24 = .ok (.aload_n 0, 1) := dk_42 (dk_at dksX10_here_1 0 rfl rfl)
theorem dX10_here_25 : decode cX10_here 25 = .ok (.getfield 15, 3) := dk_180 0 15 (dk_at dksX10_here_1 1 rfl rfl)
theorem dX10_here_28 : decode cX10_here 28 = .ok (.invokevirtual 29, 3) := dk_182 0 29 (dk_at dksX10_here_1 4 rfl rfl)
theorem dX10_here_31 : decode cX10_here 31 = .ok (.goto 6, 3) := dk_167 0 6 (dk_at dksX10_here_1 7 rfl rfl)
theorem dX10_here_34 : decode cX10_here 34 = .ok (.sipush (-1011), 3) := dk_17 252 13 (dk_at dksX10_here_1 10 rfl rfl)
theorem dX10_here_37 : decode cX10_here 37 = .ok (.ireturn, 1) := dk_172 (dk_at dksX10_here_1 13 rfl rfl)
abbrev cX10_isKind : ByteArray := prog_8_method_8_code
def yX10_isKind : MethodName := ⟨RX10, "isKind", "(I)Z"⟩
def dkwX10_isKind_2 : List UInt8 := [4, 167, 0, 4, 3, 172]
abbrev dktX10_isKind_2 : List UInt8 := dkwX10_isKind_2 ++ []
def dkwX10_isKind_1 : List UInt8 := [170, 0, 0, 0, 0, 0, 107, 0, 0, 0, 98, 0, 0, 0, 119, 0, 0, 0, 103, 0, 0, 0, 107, 0, 0, 0, 103, 0, 0, 0, 103, 0, 0, 0, 107, 0, 0, 0, 107, 0, 0, 0, 103, 0, 0, 0, 107, 0, 0, 0, 107, 0, 0, 0, 107, 0, 0, 0, 107, 0, 0, 0, 103, 0, 0, 0, 107, 0, 0, 0, 103, 0, 0, 0, 103, 0, 0, 0, 107, 0, 0, 0, 107, 0, 0, 0, 103, 0, 0, 0, 103, 0, 0, 0, 107, 0, 0, 0, 107, 0, 0, 0, 103]
abbrev dktX10_isKind_1 : List UInt8 := dkwX10_isKind_1 ++ dktX10_isKind_2
def dkwX10_isKind_0 : List UInt8 := [27]
abbrev dktX10_isKind_0 : List UInt8 := dkwX10_isKind_0 ++ dktX10_isKind_1
theorem dksX10_isKind_0 : cX10_isKind.data.toList.drop 0 = dktX10_isKind_0 := by decide +kernel
theorem dksX10_isKind_1 : cX10_isKind.data.toList.drop 1 = dktX10_isKind_1 := dk_seg dksX10_isKind_0 1 rfl rfl
theorem dksX10_isKind_2 : cX10_isKind.data.toList.drop 104 = dktX10_isKind_2 := dk_seg dksX10_isKind_1 103 rfl rfl
theorem dX10_isKind_0 : decode cX10_isKind 0 = .ok (.iload_n 1, 1) := dk_27 (dk_at dksX10_isKind_0 0 rfl rfl)
theorem dX10_isKind_1 : decode cX10_isKind 1 = .ok (.tableswitch 107 98 119 #[103, 107, 103, 103, 107, 107, 103, 107, 107, 107, 107, 103, 107, 103, 103, 107, 107, 103, 103, 107, 107, 103], 103) := by decide +kernel
theorem dX10_isKind_104 : decode cX10_isKind 104 = .ok (.iconst 1, 1) := dk_4 (dk_at dksX10_isKind_2 0 rfl rfl)
theorem dX10_isKind_105 : decode cX10_isKind 105 = .ok (.goto 4, 3) := dk_167 0 4 (dk_at dksX10_isKind_2 1 rfl rfl)
theorem dX10_isKind_108 : decode cX10_isKind 108 = .ok (.iconst 0, 1) := dk_3 (dk_at dksX10_isKind_2 4 rfl rfl)
theorem dX10_isKind_109 : decode cX10_isKind 109 = .ok (.ireturn, 1) := dk_172 (dk_at dksX10_isKind_2 5 rfl rfl)
abbrev cX10_needs : ByteArray := prog_8_method_3_code
def yX10_needs : MethodName := ⟨RX10, "needs", "(Z)V"⟩
def dkwX10_needs_0 : List UInt8 := [27, 154, 0, 15, 187, 0, 33, 89, 42, 180, 0, 15, 183, 0, 35, 191, 177]
abbrev dktX10_needs_0 : List UInt8 := dkwX10_needs_0 ++ []
theorem dksX10_needs_0 : cX10_needs.data.toList.drop 0 = dktX10_needs_0 := by decide +kernel
theorem dX10_needs_0 : decode cX10_needs 0 = .ok (.iload_n 1, 1) := dk_27 (dk_at dksX10_needs_0 0 rfl rfl)
theorem dX10_needs_1 : decode cX10_needs 1 = .ok (.ifCond .ne 15, 3) := dk_154 0 15 (dk_at dksX10_needs_0 1 rfl rfl)
theorem dX10_needs_4 : decode cX10_needs 4 = .ok (.new 33, 3) := dk_187 0 33 (dk_at dksX10_needs_0 4 rfl rfl)
theorem dX10_needs_7 : decode cX10_needs 7 = .ok (.dup, 1) := dk_89 (dk_at dksX10_needs_0 7 rfl rfl)
theorem dX10_needs_8 : decode cX10_needs 8 = .ok (.aload_n 0, 1) := dk_42 (dk_at dksX10_needs_0 8 rfl rfl)
theorem dX10_needs_9 : decode cX10_needs 9 = .ok (.getfield 15, 3) := dk_180 0 15 (dk_at dksX10_needs_0 9 rfl rfl)
theorem dX10_needs_12 : decode cX10_needs 12 = .ok (.invokespecial 35, 3) := dk_183 0 35 (dk_at dksX10_needs_0 12 rfl rfl)
theorem dX10_needs_15 : decode cX10_needs 15 = .ok (.athrow, 1) := dk_191 (dk_at dksX10_needs_0 15 rfl rfl)
theorem dX10_needs_16 : decode cX10_needs 16 = .ok (.return_, 1) := dk_177 (dk_at dksX10_needs_0 16 rfl rfl)
abbrev cX10_numbers : ByteArray := prog_8_method_7_code
def yX10_numbers : MethodName := ⟨RX10, "numbers", "(LCandleStatute$Command;)V"⟩
def dkwX10_numbers_10 : List UInt8 := [182, 0, 53, 181, 0, 62, 167, 0, 3, 177]
abbrev dktX10_numbers_10 : List UInt8 := dkwX10_numbers_10 ++ []
def dkwX10_numbers_9 : List UInt8 := [182, 0, 65, 181, 0, 69, 167, 0, 27, 43, 42, 4, 182, 0, 53, 181, 0, 62, 167, 0, 15, 43, 42, 5]
abbrev dktX10_numbers_9 : List UInt8 := dkwX10_numbers_9 ++ dktX10_numbers_10
def dkwX10_numbers_8 : List UInt8 := [182, 0, 65, 181, 0, 69, 167, 0, 50, 43, 42, 4, 182, 0, 53, 181, 0, 62, 43, 42, 16, 62, 4]
abbrev dktX10_numbers_8 : List UInt8 := dkwX10_numbers_8 ++ dktX10_numbers_9
def dkwX10_numbers_7 : List UInt8 := [182, 0, 65, 181, 0, 72, 167, 0, 73, 43, 42, 5, 182, 0, 53, 181, 0, 62, 43, 42, 16, 43, 5]
abbrev dktX10_numbers_7 : List UInt8 := dkwX10_numbers_7 ++ dktX10_numbers_8
def dkwX10_numbers_6 : List UInt8 := [182, 0, 53, 181, 0, 62, 43, 42, 16, 33, 5, 182, 0, 65, 181, 0, 69, 43, 42, 16, 42, 5]
abbrev dktX10_numbers_6 : List UInt8 := dkwX10_numbers_6 ++ dktX10_numbers_7
def dkwX10_numbers_5 : List UInt8 := [182, 0, 65, 181, 0, 69, 43, 42, 16, 61, 5, 182, 0, 65, 181, 0, 72, 167, 0, 107, 43, 42, 4]
abbrev dktX10_numbers_5 : List UInt8 := dkwX10_numbers_5 ++ dktX10_numbers_6
def dkwX10_numbers_4 : List UInt8 := [182, 0, 65, 181, 0, 69, 167, 0, 141, 43, 42, 5, 182, 0, 53, 181, 0, 62, 43, 42, 16, 62, 4]
abbrev dktX10_numbers_4 : List UInt8 := dkwX10_numbers_4 ++ dktX10_numbers_5
def dkwX10_numbers_3 : List UInt8 := [4, 182, 0, 65, 181, 0, 72, 167, 0, 164, 43, 42, 5, 182, 0, 53, 181, 0, 62, 43, 42, 16, 42, 5]
abbrev dktX10_numbers_3 : List UInt8 := dkwX10_numbers_3 ++ dktX10_numbers_4
def dkwX10_numbers_2 : List UInt8 := [43, 42, 4, 182, 0, 53, 181, 0, 62, 43, 42, 16, 58, 5, 182, 0, 65, 181, 0, 69, 43, 42, 16, 47]
abbrev dktX10_numbers_2 : List UInt8 := dkwX10_numbers_2 ++ dktX10_numbers_3
def dkwX10_numbers_1 : List UInt8 := [170, 0, 0, 0, 0, 0, 1, 43, 0, 0, 0, 98, 0, 0, 0, 119, 0, 0, 0, 138, 0, 0, 1, 43, 0, 0, 1, 43, 0, 0, 1, 19, 0, 0, 1, 43, 0, 0, 1, 43, 0, 0, 0, 252, 0, 0, 1, 43, 0, 0, 1, 43, 0, 0, 1, 43, 0, 0, 1, 43, 0, 0, 0, 104, 0, 0, 1, 43, 0, 0, 0, 161, 0, 0, 0, 229, 0, 0, 1, 43, 0, 0, 1, 43, 0, 0, 0, 104, 0, 0, 1, 31, 0, 0, 1, 43, 0, 0, 1, 43, 0, 0, 0, 195]
abbrev dktX10_numbers_1 : List UInt8 := dkwX10_numbers_1 ++ dktX10_numbers_2
def dkwX10_numbers_0 : List UInt8 := [43, 180, 0, 57]
abbrev dktX10_numbers_0 : List UInt8 := dkwX10_numbers_0 ++ dktX10_numbers_1
theorem dksX10_numbers_0 : cX10_numbers.data.toList.drop 0 = dktX10_numbers_0 := by decide +kernel
theorem dksX10_numbers_1 : cX10_numbers.data.toList.drop 4 = dktX10_numbers_1 := dk_seg dksX10_numbers_0 4 rfl rfl
theorem dksX10_numbers_2 : cX10_numbers.data.toList.drop 108 = dktX10_numbers_2 := dk_seg dksX10_numbers_1 104 rfl rfl
theorem dksX10_numbers_3 : cX10_numbers.data.toList.drop 132 = dktX10_numbers_3 := dk_seg dksX10_numbers_2 24 rfl rfl
theorem dksX10_numbers_4 : cX10_numbers.data.toList.drop 156 = dktX10_numbers_4 := dk_seg dksX10_numbers_3 24 rfl rfl
theorem dksX10_numbers_5 : cX10_numbers.data.toList.drop 179 = dktX10_numbers_5 := dk_seg dksX10_numbers_4 23 rfl rfl
theorem dksX10_numbers_6 : cX10_numbers.data.toList.drop 202 = dktX10_numbers_6 := dk_seg dksX10_numbers_5 23 rfl rfl
theorem dksX10_numbers_7 : cX10_numbers.data.toList.drop 224 = dktX10_numbers_7 := dk_seg dksX10_numbers_6 22 rfl rfl
theorem dksX10_numbers_8 : cX10_numbers.data.toList.drop 247 = dktX10_numbers_8 := dk_seg dksX10_numbers_7 23 rfl rfl
theorem dksX10_numbers_9 : cX10_numbers.data.toList.drop 270 = dktX10_numbers_9 := dk_seg dksX10_numbers_8 23 rfl rfl
theorem dksX10_numbers_10 : cX10_numbers.data.toList.drop 294 = dktX10_numbers_10 := dk_seg dksX10_numbers_9 24 rfl rfl
theorem dX10_numbers_0 : decode cX10_numbers 0 = .ok (.aload_n 1, 1) := dk_43 (dk_at dksX10_numbers_0 0 rfl rfl)
theorem dX10_numbers_1 : decode cX10_numbers 1 = .ok (.getfield 57, 3) := dk_180 0 57 (dk_at dksX10_numbers_0 1 rfl rfl)
theorem dX10_numbers_4 : decode cX10_numbers 4 = .ok (.tableswitch 299 98 119 #[138, 299, 299, 275, 299, 299, 252, 299, 299, 299, 299, 104, 299, 161, 229, 299, 299, 104, 287, 299, 299, 195], 104) := by decide +kernel
theorem dX10_numbers_108 : decode cX10_numbers 108 = .ok (.aload_n 1, 1) := dk_43 (dk_at dksX10_numbers_2 0 rfl rfl)
theorem dX10_numbers_109 : decode cX10_numbers 109 = .ok (.aload_n 0, 1) := dk_42 (dk_at dksX10_numbers_2 1 rfl rfl)
theorem dX10_numbers_110 : decode cX10_numbers 110 = .ok (.iconst 1, 1) := dk_4 (dk_at dksX10_numbers_2 2 rfl rfl)
theorem dX10_numbers_111 : decode cX10_numbers 111 = .ok (.invokevirtual 53, 3) := dk_182 0 53 (dk_at dksX10_numbers_2 3 rfl rfl)
theorem dX10_numbers_114 : decode cX10_numbers 114 = .ok (.putfield 62, 3) := dk_181 0 62 (dk_at dksX10_numbers_2 6 rfl rfl)
theorem dX10_numbers_117 : decode cX10_numbers 117 = .ok (.aload_n 1, 1) := dk_43 (dk_at dksX10_numbers_2 9 rfl rfl)
theorem dX10_numbers_118 : decode cX10_numbers 118 = .ok (.aload_n 0, 1) := dk_42 (dk_at dksX10_numbers_2 10 rfl rfl)
theorem dX10_numbers_119 : decode cX10_numbers 119 = .ok (.bipush 58, 2) := dk_16 58 (dk_at dksX10_numbers_2 11 rfl rfl)
theorem dX10_numbers_121 : decode cX10_numbers 121 = .ok (.iconst 2, 1) := dk_5 (dk_at dksX10_numbers_2 13 rfl rfl)
theorem dX10_numbers_122 : decode cX10_numbers 122 = .ok (.invokevirtual 65, 3) := dk_182 0 65 (dk_at dksX10_numbers_2 14 rfl rfl)
theorem dX10_numbers_125 : decode cX10_numbers 125 = .ok (.putfield 69, 3) := dk_181 0 69 (dk_at dksX10_numbers_2 17 rfl rfl)
theorem dX10_numbers_128 : decode cX10_numbers 128 = .ok (.aload_n 1, 1) := dk_43 (dk_at dksX10_numbers_2 20 rfl rfl)
theorem dX10_numbers_129 : decode cX10_numbers 129 = .ok (.aload_n 0, 1) := dk_42 (dk_at dksX10_numbers_2 21 rfl rfl)
theorem dX10_numbers_130 : decode cX10_numbers 130 = .ok (.bipush 47, 2) := dk_16 47 (dk_at dksX10_numbers_2 22 rfl rfl)
theorem dX10_numbers_132 : decode cX10_numbers 132 = .ok (.iconst 1, 1) := dk_4 (dk_at dksX10_numbers_3 0 rfl rfl)
theorem dX10_numbers_133 : decode cX10_numbers 133 = .ok (.invokevirtual 65, 3) := dk_182 0 65 (dk_at dksX10_numbers_3 1 rfl rfl)
theorem dX10_numbers_136 : decode cX10_numbers 136 = .ok (.putfield 72, 3) := dk_181 0 72 (dk_at dksX10_numbers_3 4 rfl rfl)
theorem dX10_numbers_139 : decode cX10_numbers 139 = .ok (.goto 164, 3) := dk_167 0 164 (dk_at dksX10_numbers_3 7 rfl rfl)
theorem dX10_numbers_142 : decode cX10_numbers 142 = .ok (.aload_n 1, 1) := dk_43 (dk_at dksX10_numbers_3 10 rfl rfl)
theorem dX10_numbers_143 : decode cX10_numbers 143 = .ok (.aload_n 0, 1) := dk_42 (dk_at dksX10_numbers_3 11 rfl rfl)
theorem dX10_numbers_144 : decode cX10_numbers 144 = .ok (.iconst 2, 1) := dk_5 (dk_at dksX10_numbers_3 12 rfl rfl)
theorem dX10_numbers_145 : decode cX10_numbers 145 = .ok (.invokevirtual 53, 3) := dk_182 0 53 (dk_at dksX10_numbers_3 13 rfl rfl)
theorem dX10_numbers_148 : decode cX10_numbers 148 = .ok (.putfield 62, 3) := dk_181 0 62 (dk_at dksX10_numbers_3 16 rfl rfl)
theorem dX10_numbers_151 : decode cX10_numbers 151 = .ok (.aload_n 1, 1) := dk_43 (dk_at dksX10_numbers_3 19 rfl rfl)
theorem dX10_numbers_152 : decode cX10_numbers 152 = .ok (.aload_n 0, 1) := dk_42 (dk_at dksX10_numbers_3 20 rfl rfl)
theorem dX10_numbers_153 : decode cX10_numbers 153 = .ok (.bipush 42, 2) := dk_16 42 (dk_at dksX10_numbers_3 21 rfl rfl)
theorem dX10_numbers_155 : decode cX10_numbers 155 = .ok (.iconst 2, 1) := dk_5 (dk_at dksX10_numbers_3 23 rfl rfl)
theorem dX10_numbers_156 : decode cX10_numbers 156 = .ok (.invokevirtual 65, 3) := dk_182 0 65 (dk_at dksX10_numbers_4 0 rfl rfl)
theorem dX10_numbers_159 : decode cX10_numbers 159 = .ok (.putfield 69, 3) := dk_181 0 69 (dk_at dksX10_numbers_4 3 rfl rfl)
theorem dX10_numbers_162 : decode cX10_numbers 162 = .ok (.goto 141, 3) := dk_167 0 141 (dk_at dksX10_numbers_4 6 rfl rfl)
theorem dX10_numbers_165 : decode cX10_numbers 165 = .ok (.aload_n 1, 1) := dk_43 (dk_at dksX10_numbers_4 9 rfl rfl)
theorem dX10_numbers_166 : decode cX10_numbers 166 = .ok (.aload_n 0, 1) := dk_42 (dk_at dksX10_numbers_4 10 rfl rfl)
theorem dX10_numbers_167 : decode cX10_numbers 167 = .ok (.iconst 2, 1) := dk_5 (dk_at dksX10_numbers_4 11 rfl rfl)
theorem dX10_numbers_168 : decode cX10_numbers 168 = .ok (.invokevirtual 53, 3) := dk_182 0 53 (dk_at dksX10_numbers_4 12 rfl rfl)
theorem dX10_numbers_171 : decode cX10_numbers 171 = .ok (.putfield 62, 3) := dk_181 0 62 (dk_at dksX10_numbers_4 15 rfl rfl)
theorem dX10_numbers_174 : decode cX10_numbers 174 = .ok (.aload_n 1, 1) := dk_43 (dk_at dksX10_numbers_4 18 rfl rfl)
theorem dX10_numbers_175 : decode cX10_numbers 175 = .ok (.aload_n 0, 1) := dk_42 (dk_at dksX10_numbers_4 19 rfl rfl)
theorem dX10_numbers_176 : decode cX10_numbers 176 = .ok (.bipush 62, 2) := dk_16 62 (dk_at dksX10_numbers_4 20 rfl rfl)
theorem dX10_numbers_178 : decode cX10_numbers 178 = .ok (.iconst 1, 1) := dk_4 (dk_at dksX10_numbers_4 22 rfl rfl)
theorem dX10_numbers_179 : decode cX10_numbers 179 = .ok (.invokevirtual 65, 3) := dk_182 0 65 (dk_at dksX10_numbers_5 0 rfl rfl)
theorem dX10_numbers_182 : decode cX10_numbers 182 = .ok (.putfield 69, 3) := dk_181 0 69 (dk_at dksX10_numbers_5 3 rfl rfl)
theorem dX10_numbers_185 : decode cX10_numbers 185 = .ok (.aload_n 1, 1) := dk_43 (dk_at dksX10_numbers_5 6 rfl rfl)
theorem dX10_numbers_186 : decode cX10_numbers 186 = .ok (.aload_n 0, 1) := dk_42 (dk_at dksX10_numbers_5 7 rfl rfl)
theorem dX10_numbers_187 : decode cX10_numbers 187 = .ok (.bipush 61, 2) := dk_16 61 (dk_at dksX10_numbers_5 8 rfl rfl)
theorem dX10_numbers_189 : decode cX10_numbers 189 = .ok (.iconst 2, 1) := dk_5 (dk_at dksX10_numbers_5 10 rfl rfl)
theorem dX10_numbers_190 : decode cX10_numbers 190 = .ok (.invokevirtual 65, 3) := dk_182 0 65 (dk_at dksX10_numbers_5 11 rfl rfl)
theorem dX10_numbers_193 : decode cX10_numbers 193 = .ok (.putfield 72, 3) := dk_181 0 72 (dk_at dksX10_numbers_5 14 rfl rfl)
theorem dX10_numbers_196 : decode cX10_numbers 196 = .ok (.goto 107, 3) := dk_167 0 107 (dk_at dksX10_numbers_5 17 rfl rfl)
theorem dX10_numbers_199 : decode cX10_numbers 199 = .ok (.aload_n 1, 1) := dk_43 (dk_at dksX10_numbers_5 20 rfl rfl)
theorem dX10_numbers_200 : decode cX10_numbers 200 = .ok (.aload_n 0, 1) := dk_42 (dk_at dksX10_numbers_5 21 rfl rfl)
theorem dX10_numbers_201 : decode cX10_numbers 201 = .ok (.iconst 1, 1) := dk_4 (dk_at dksX10_numbers_5 22 rfl rfl)
theorem dX10_numbers_202 : decode cX10_numbers 202 = .ok (.invokevirtual 53, 3) := dk_182 0 53 (dk_at dksX10_numbers_6 0 rfl rfl)
theorem dX10_numbers_205 : decode cX10_numbers 205 = .ok (.putfield 62, 3) := dk_181 0 62 (dk_at dksX10_numbers_6 3 rfl rfl)
theorem dX10_numbers_208 : decode cX10_numbers 208 = .ok (.aload_n 1, 1) := dk_43 (dk_at dksX10_numbers_6 6 rfl rfl)
theorem dX10_numbers_209 : decode cX10_numbers 209 = .ok (.aload_n 0, 1) := dk_42 (dk_at dksX10_numbers_6 7 rfl rfl)
theorem dX10_numbers_210 : decode cX10_numbers 210 = .ok (.bipush 33, 2) := dk_16 33 (dk_at dksX10_numbers_6 8 rfl rfl)
theorem dX10_numbers_212 : decode cX10_numbers 212 = .ok (.iconst 2, 1) := dk_5 (dk_at dksX10_numbers_6 10 rfl rfl)
theorem dX10_numbers_213 : decode cX10_numbers 213 = .ok (.invokevirtual 65, 3) := dk_182 0 65 (dk_at dksX10_numbers_6 11 rfl rfl)
theorem dX10_numbers_216 : decode cX10_numbers 216 = .ok (.putfield 69, 3) := dk_181 0 69 (dk_at dksX10_numbers_6 14 rfl rfl)
theorem dX10_numbers_219 : decode cX10_numbers 219 = .ok (.aload_n 1, 1) := dk_43 (dk_at dksX10_numbers_6 17 rfl rfl)
theorem dX10_numbers_220 : decode cX10_numbers 220 = .ok (.aload_n 0, 1) := dk_42 (dk_at dksX10_numbers_6 18 rfl rfl)
theorem dX10_numbers_221 : decode cX10_numbers 221 = .ok (.bipush 42, 2) := dk_16 42 (dk_at dksX10_numbers_6 19 rfl rfl)
theorem dX10_numbers_223 : decode cX10_numbers 223 = .ok (.iconst 2, 1) := dk_5 (dk_at dksX10_numbers_6 21 rfl rfl)
theorem dX10_numbers_224 : decode cX10_numbers 224 = .ok (.invokevirtual 65, 3) := dk_182 0 65 (dk_at dksX10_numbers_7 0 rfl rfl)
theorem dX10_numbers_227 : decode cX10_numbers 227 = .ok (.putfield 72, 3) := dk_181 0 72 (dk_at dksX10_numbers_7 3 rfl rfl)
theorem dX10_numbers_230 : decode cX10_numbers 230 = .ok (.goto 73, 3) := dk_167 0 73 (dk_at dksX10_numbers_7 6 rfl rfl)
theorem dX10_numbers_233 : decode cX10_numbers 233 = .ok (.aload_n 1, 1) := dk_43 (dk_at dksX10_numbers_7 9 rfl rfl)
theorem dX10_numbers_234 : decode cX10_numbers 234 = .ok (.aload_n 0, 1) := dk_42 (dk_at dksX10_numbers_7 10 rfl rfl)
theorem dX10_numbers_235 : decode cX10_numbers 235 = .ok (.iconst 2, 1) := dk_5 (dk_at dksX10_numbers_7 11 rfl rfl)
theorem dX10_numbers_236 : decode cX10_numbers 236 = .ok (.invokevirtual 53, 3) := dk_182 0 53 (dk_at dksX10_numbers_7 12 rfl rfl)
theorem dX10_numbers_239 : decode cX10_numbers 239 = .ok (.putfield 62, 3) := dk_181 0 62 (dk_at dksX10_numbers_7 15 rfl rfl)
theorem dX10_numbers_242 : decode cX10_numbers 242 = .ok (.aload_n 1, 1) := dk_43 (dk_at dksX10_numbers_7 18 rfl rfl)
theorem dX10_numbers_243 : decode cX10_numbers 243 = .ok (.aload_n 0, 1) := dk_42 (dk_at dksX10_numbers_7 19 rfl rfl)
theorem dX10_numbers_244 : decode cX10_numbers 244 = .ok (.bipush 43, 2) := dk_16 43 (dk_at dksX10_numbers_7 20 rfl rfl)
theorem dX10_numbers_246 : decode cX10_numbers 246 = .ok (.iconst 2, 1) := dk_5 (dk_at dksX10_numbers_7 22 rfl rfl)
theorem dX10_numbers_247 : decode cX10_numbers 247 = .ok (.invokevirtual 65, 3) := dk_182 0 65 (dk_at dksX10_numbers_8 0 rfl rfl)
theorem dX10_numbers_250 : decode cX10_numbers 250 = .ok (.putfield 69, 3) := dk_181 0 69 (dk_at dksX10_numbers_8 3 rfl rfl)
theorem dX10_numbers_253 : decode cX10_numbers 253 = .ok (.goto 50, 3) := dk_167 0 50 (dk_at dksX10_numbers_8 6 rfl rfl)
theorem dX10_numbers_256 : decode cX10_numbers 256 = .ok (.aload_n 1, 1) := dk_43 (dk_at dksX10_numbers_8 9 rfl rfl)
theorem dX10_numbers_257 : decode cX10_numbers 257 = .ok (.aload_n 0, 1) := dk_42 (dk_at dksX10_numbers_8 10 rfl rfl)
theorem dX10_numbers_258 : decode cX10_numbers 258 = .ok (.iconst 1, 1) := dk_4 (dk_at dksX10_numbers_8 11 rfl rfl)
theorem dX10_numbers_259 : decode cX10_numbers 259 = .ok (.invokevirtual 53, 3) := dk_182 0 53 (dk_at dksX10_numbers_8 12 rfl rfl)
theorem dX10_numbers_262 : decode cX10_numbers 262 = .ok (.putfield 62, 3) := dk_181 0 62 (dk_at dksX10_numbers_8 15 rfl rfl)
theorem dX10_numbers_265 : decode cX10_numbers 265 = .ok (.aload_n 1, 1) := dk_43 (dk_at dksX10_numbers_8 18 rfl rfl)
theorem dX10_numbers_266 : decode cX10_numbers 266 = .ok (.aload_n 0, 1) := dk_42 (dk_at dksX10_numbers_8 19 rfl rfl)
theorem dX10_numbers_267 : decode cX10_numbers 267 = .ok (.bipush 62, 2) := dk_16 62 (dk_at dksX10_numbers_8 20 rfl rfl)
theorem dX10_numbers_269 : decode cX10_numbers 269 = .ok (.iconst 1, 1) := dk_4 (dk_at dksX10_numbers_8 22 rfl rfl)
theorem dX10_numbers_270 : decode cX10_numbers 270 = .ok (.invokevirtual 65, 3) := dk_182 0 65 (dk_at dksX10_numbers_9 0 rfl rfl)
theorem dX10_numbers_273 : decode cX10_numbers 273 = .ok (.putfield 69, 3) := dk_181 0 69 (dk_at dksX10_numbers_9 3 rfl rfl)
theorem dX10_numbers_276 : decode cX10_numbers 276 = .ok (.goto 27, 3) := dk_167 0 27 (dk_at dksX10_numbers_9 6 rfl rfl)
theorem dX10_numbers_279 : decode cX10_numbers 279 = .ok (.aload_n 1, 1) := dk_43 (dk_at dksX10_numbers_9 9 rfl rfl)
theorem dX10_numbers_280 : decode cX10_numbers 280 = .ok (.aload_n 0, 1) := dk_42 (dk_at dksX10_numbers_9 10 rfl rfl)
theorem dX10_numbers_281 : decode cX10_numbers 281 = .ok (.iconst 1, 1) := dk_4 (dk_at dksX10_numbers_9 11 rfl rfl)
theorem dX10_numbers_282 : decode cX10_numbers 282 = .ok (.invokevirtual 53, 3) := dk_182 0 53 (dk_at dksX10_numbers_9 12 rfl rfl)
theorem dX10_numbers_285 : decode cX10_numbers 285 = .ok (.putfield 62, 3) := dk_181 0 62 (dk_at dksX10_numbers_9 15 rfl rfl)
theorem dX10_numbers_288 : decode cX10_numbers 288 = .ok (.goto 15, 3) := dk_167 0 15 (dk_at dksX10_numbers_9 18 rfl rfl)
theorem dX10_numbers_291 : decode cX10_numbers 291 = .ok (.aload_n 1, 1) := dk_43 (dk_at dksX10_numbers_9 21 rfl rfl)
theorem dX10_numbers_292 : decode cX10_numbers 292 = .ok (.aload_n 0, 1) := dk_42 (dk_at dksX10_numbers_9 22 rfl rfl)
theorem dX10_numbers_293 : decode cX10_numbers 293 = .ok (.iconst 2, 1) := dk_5 (dk_at dksX10_numbers_9 23 rfl rfl)
theorem dX10_numbers_294 : decode cX10_numbers 294 = .ok (.invokevirtual 53, 3) := dk_182 0 53 (dk_at dksX10_numbers_10 0 rfl rfl)
theorem dX10_numbers_297 : decode cX10_numbers 297 = .ok (.putfield 62, 3) := dk_181 0 62 (dk_at dksX10_numbers_10 3 rfl rfl)
theorem dX10_numbers_300 : decode cX10_numbers 300 = .ok (.goto 3, 3) := dk_167 0 3 (dk_at dksX10_numbers_10 6 rfl rfl)
theorem dX10_numbers_303 : decode cX10_numbers 303 = .ok (.return_, 1) := dk_177 (dk_at dksX10_numbers_10 9 rfl rfl)
abbrev cX10_number : ByteArray := prog_8_method_5_code
def yX10_number : MethodName := ⟨RX10, "number", "(I)I"⟩
def dkwX10_number_2 : List UInt8 := [16, 48, 100, 61, 42, 89, 180, 0, 15, 4, 96, 181, 0, 15, 132, 3, 1, 167, 255, 211, 28, 172]
abbrev dktX10_number_2 : List UInt8 := dkwX10_number_2 ++ []
def dkwX10_number_1 : List UInt8 := [42, 182, 0, 38, 16, 48, 16, 57, 184, 0, 41, 153, 0, 32, 16, 10, 28, 104, 42, 182, 0, 38, 96]
abbrev dktX10_number_1 : List UInt8 := dkwX10_number_1 ++ dktX10_number_2
def dkwX10_number_0 : List UInt8 := [42, 42, 182, 0, 38, 16, 48, 16, 57, 184, 0, 41, 182, 0, 45, 3, 61, 3, 62, 29, 27, 162, 0, 46]
abbrev dktX10_number_0 : List UInt8 := dkwX10_number_0 ++ dktX10_number_1
theorem dksX10_number_0 : cX10_number.data.toList.drop 0 = dktX10_number_0 := by decide +kernel
theorem dksX10_number_1 : cX10_number.data.toList.drop 24 = dktX10_number_1 := dk_seg dksX10_number_0 24 rfl rfl
theorem dksX10_number_2 : cX10_number.data.toList.drop 47 = dktX10_number_2 := dk_seg dksX10_number_1 23 rfl rfl
theorem dX10_number_0 : decode cX10_number 0 = .ok (.aload_n 0, 1) := dk_42 (dk_at dksX10_number_0 0 rfl rfl)
theorem dX10_number_1 : decode cX10_number 1 = .ok (.aload_n 0, 1) := dk_42 (dk_at dksX10_number_0 1 rfl rfl)
theorem dX10_number_2 : decode cX10_number 2 = .ok (.invokevirtual 38, 3) := dk_182 0 38 (dk_at dksX10_number_0 2 rfl rfl)
theorem dX10_number_5 : decode cX10_number 5 = .ok (.bipush 48, 2) := dk_16 48 (dk_at dksX10_number_0 5 rfl rfl)
theorem dX10_number_7 : decode cX10_number 7 = .ok (.bipush 57, 2) := dk_16 57 (dk_at dksX10_number_0 7 rfl rfl)
theorem dX10_number_9 : decode cX10_number 9 = .ok (.invokestatic 41, 3) := dk_184 0 41 (dk_at dksX10_number_0 9 rfl rfl)
theorem dX10_number_12 : decode cX10_number 12 = .ok (.invokevirtual 45, 3) := dk_182 0 45 (dk_at dksX10_number_0 12 rfl rfl)
theorem dX10_number_15 : decode cX10_number 15 = .ok (.iconst 0, 1) := dk_3 (dk_at dksX10_number_0 15 rfl rfl)
theorem dX10_number_16 : decode cX10_number 16 = .ok (.istore_n 2, 1) := dk_61 (dk_at dksX10_number_0 16 rfl rfl)
theorem dX10_number_17 : decode cX10_number 17 = .ok (.iconst 0, 1) := dk_3 (dk_at dksX10_number_0 17 rfl rfl)
theorem dX10_number_18 : decode cX10_number 18 = .ok (.istore_n 3, 1) := dk_62 (dk_at dksX10_number_0 18 rfl rfl)
theorem dX10_number_19 : decode cX10_number 19 = .ok (.iload_n 3, 1) := dk_29 (dk_at dksX10_number_0 19 rfl rfl)
theorem dX10_number_20 : decode cX10_number 20 = .ok (.iload_n 1, 1) := dk_27 (dk_at dksX10_number_0 20 rfl rfl)
theorem dX10_number_21 : decode cX10_number 21 = .ok (.if_icmp .ge 46, 3) := dk_162 0 46 (dk_at dksX10_number_0 21 rfl rfl)
theorem dX10_number_24 : decode cX10_number 24 = .ok (.aload_n 0, 1) := dk_42 (dk_at dksX10_number_1 0 rfl rfl)
theorem dX10_number_25 : decode cX10_number 25 = .ok (.invokevirtual 38, 3) := dk_182 0 38 (dk_at dksX10_number_1 1 rfl rfl)
theorem dX10_number_28 : decode cX10_number 28 = .ok (.bipush 48, 2) := dk_16 48 (dk_at dksX10_number_1 4 rfl rfl)
theorem dX10_number_30 : decode cX10_number 30 = .ok (.bipush 57, 2) := dk_16 57 (dk_at dksX10_number_1 6 rfl rfl)
theorem dX10_number_32 : decode cX10_number 32 = .ok (.invokestatic 41, 3) := dk_184 0 41 (dk_at dksX10_number_1 8 rfl rfl)
theorem dX10_number_35 : decode cX10_number 35 = .ok (.ifCond .eq 32, 3) := dk_153 0 32 (dk_at dksX10_number_1 11 rfl rfl)
theorem dX10_number_38 : decode cX10_number 38 = .ok (.bipush 10, 2) := dk_16 10 (dk_at dksX10_number_1 14 rfl rfl)
theorem dX10_number_40 : decode cX10_number 40 = .ok (.iload_n 2, 1) := dk_28 (dk_at dksX10_number_1 16 rfl rfl)
theorem dX10_number_41 : decode cX10_number 41 = .ok (.imul, 1) := dk_104 (dk_at dksX10_number_1 17 rfl rfl)
theorem dX10_number_42 : decode cX10_number 42 = .ok (.aload_n 0, 1) := dk_42 (dk_at dksX10_number_1 18 rfl rfl)
theorem dX10_number_43 : decode cX10_number 43 = .ok (.invokevirtual 38, 3) := dk_182 0 38 (dk_at dksX10_number_1 19 rfl rfl)
theorem dX10_number_46 : decode cX10_number 46 = .ok (.iadd, 1) := dk_96 (dk_at dksX10_number_1 22 rfl rfl)
theorem dX10_number_47 : decode cX10_number 47 = .ok (.bipush 48, 2) := dk_16 48 (dk_at dksX10_number_2 0 rfl rfl)
theorem dX10_number_49 : decode cX10_number 49 = .ok (.isub, 1) := dk_100 (dk_at dksX10_number_2 2 rfl rfl)
theorem dX10_number_50 : decode cX10_number 50 = .ok (.istore_n 2, 1) := dk_61 (dk_at dksX10_number_2 3 rfl rfl)
theorem dX10_number_51 : decode cX10_number 51 = .ok (.aload_n 0, 1) := dk_42 (dk_at dksX10_number_2 4 rfl rfl)
theorem dX10_number_52 : decode cX10_number 52 = .ok (.dup, 1) := dk_89 (dk_at dksX10_number_2 5 rfl rfl)
theorem dX10_number_53 : decode cX10_number 53 = .ok (.getfield 15, 3) := dk_180 0 15 (dk_at dksX10_number_2 6 rfl rfl)
theorem dX10_number_56 : decode cX10_number 56 = .ok (.iconst 1, 1) := dk_4 (dk_at dksX10_number_2 9 rfl rfl)
theorem dX10_number_57 : decode cX10_number 57 = .ok (.iadd, 1) := dk_96 (dk_at dksX10_number_2 10 rfl rfl)
theorem dX10_number_58 : decode cX10_number 58 = .ok (.putfield 15, 3) := dk_181 0 15 (dk_at dksX10_number_2 11 rfl rfl)
theorem dX10_number_61 : decode cX10_number 61 = .ok (.iinc 3 1, 3) := dk_132 3 1 (dk_at dksX10_number_2 14 rfl rfl)
theorem dX10_number_64 : decode cX10_number 64 = .ok (.goto (-45), 3) := dk_167 255 211 (dk_at dksX10_number_2 17 rfl rfl)
theorem dX10_number_67 : decode cX10_number 67 = .ok (.iload_n 2, 1) := dk_28 (dk_at dksX10_number_2 20 rfl rfl)
theorem dX10_number_68 : decode cX10_number 68 = .ok (.ireturn, 1) := dk_172 (dk_at dksX10_number_2 21 rfl rfl)
abbrev cX10_numberBehind : ByteArray := prog_8_method_6_code
def yX10_numberBehind : MethodName := ⟨RX10, "numberBehind", "(II)I"⟩
def dkwX10_numberBehind_0 : List UInt8 := [42, 42, 27, 182, 0, 49, 182, 0, 45, 42, 28, 182, 0, 53, 172]
abbrev dktX10_numberBehind_0 : List UInt8 := dkwX10_numberBehind_0 ++ []
theorem dksX10_numberBehind_0 : cX10_numberBehind.data.toList.drop 0 = dktX10_numberBehind_0 := by decide +kernel
theorem dX10_numberBehind_0 : decode cX10_numberBehind 0 = .ok (.aload_n 0, 1) := dk_42 (dk_at dksX10_numberBehind_0 0 rfl rfl)
theorem dX10_numberBehind_1 : decode cX10_numberBehind 1 = .ok (.aload_n 0, 1) := dk_42 (dk_at dksX10_numberBehind_0 1 rfl rfl)
theorem dX10_numberBehind_2 : decode cX10_numberBehind 2 = .ok (.iload_n 1, 1) := dk_27 (dk_at dksX10_numberBehind_0 2 rfl rfl)
theorem dX10_numberBehind_3 : decode cX10_numberBehind 3 = .ok (.invokevirtual 49, 3) := dk_182 0 49 (dk_at dksX10_numberBehind_0 3 rfl rfl)
theorem dX10_numberBehind_6 : decode cX10_numberBehind 6 = .ok (.invokevirtual 45, 3) := dk_182 0 45 (dk_at dksX10_numberBehind_0 6 rfl rfl)
theorem dX10_numberBehind_9 : decode cX10_numberBehind 9 = .ok (.aload_n 0, 1) := dk_42 (dk_at dksX10_numberBehind_0 9 rfl rfl)
theorem dX10_numberBehind_10 : decode cX10_numberBehind 10 = .ok (.iload_n 2, 1) := dk_28 (dk_at dksX10_numberBehind_0 10 rfl rfl)
theorem dX10_numberBehind_11 : decode cX10_numberBehind 11 = .ok (.invokevirtual 53, 3) := dk_182 0 53 (dk_at dksX10_numberBehind_0 11 rfl rfl)
theorem dX10_numberBehind_14 : decode cX10_numberBehind 14 = .ok (.ireturn, 1) := dk_172 (dk_at dksX10_numberBehind_0 14 rfl rfl)
abbrev cX10_takes : ByteArray := prog_8_method_4_code
def yX10_takes : MethodName := ⟨RX10, "takes", "(I)Z"⟩
def dkwX10_takes_1 : List UInt8 := [167, 0, 4, 3, 96, 181, 0, 15, 28, 172]
abbrev dktX10_takes_1 : List UInt8 := dkwX10_takes_1 ++ []
def dkwX10_takes_0 : List UInt8 := [42, 182, 0, 38, 27, 160, 0, 7, 4, 167, 0, 4, 3, 61, 42, 89, 180, 0, 15, 28, 153, 0, 7, 4]
abbrev dktX10_takes_0 : List UInt8 := dkwX10_takes_0 ++ dktX10_takes_1
theorem dksX10_takes_0 : cX10_takes.data.toList.drop 0 = dktX10_takes_0 := by decide +kernel
theorem dksX10_takes_1 : cX10_takes.data.toList.drop 24 = dktX10_takes_1 := dk_seg dksX10_takes_0 24 rfl rfl
theorem dX10_takes_0 : decode cX10_takes 0 = .ok (.aload_n 0, 1) := dk_42 (dk_at dksX10_takes_0 0 rfl rfl)
theorem dX10_takes_1 : decode cX10_takes 1 = .ok (.invokevirtual 38, 3) := dk_182 0 38 (dk_at dksX10_takes_0 1 rfl rfl)
theorem dX10_takes_4 : decode cX10_takes 4 = .ok (.iload_n 1, 1) := dk_27 (dk_at dksX10_takes_0 4 rfl rfl)
theorem dX10_takes_5 : decode cX10_takes 5 = .ok (.if_icmp .ne 7, 3) := dk_160 0 7 (dk_at dksX10_takes_0 5 rfl rfl)
theorem dX10_takes_8 : decode cX10_takes 8 = .ok (.iconst 1, 1) := dk_4 (dk_at dksX10_takes_0 8 rfl rfl)
theorem dX10_takes_9 : decode cX10_takes 9 = .ok (.goto 4, 3) := dk_167 0 4 (dk_at dksX10_takes_0 9 rfl rfl)
theorem dX10_takes_12 : decode cX10_takes 12 = .ok (.iconst 0, 1) := dk_3 (dk_at dksX10_takes_0 12 rfl rfl)
theorem dX10_takes_13 : decode cX10_takes 13 = .ok (.istore_n 2, 1) := dk_61 (dk_at dksX10_takes_0 13 rfl rfl)
theorem dX10_takes_14 : decode cX10_takes 14 = .ok (.aload_n 0, 1) := dk_42 (dk_at dksX10_takes_0 14 rfl rfl)
theorem dX10_takes_15 : decode cX10_takes 15 = .ok (.dup, 1) := dk_89 (dk_at dksX10_takes_0 15 rfl rfl)
theorem dX10_takes_16 : decode cX10_takes 16 = .ok (.getfield 15, 3) := dk_180 0 15 (dk_at dksX10_takes_0 16 rfl rfl)
theorem dX10_takes_19 : decode cX10_takes 19 = .ok (.iload_n 2, 1) := dk_28 (dk_at dksX10_takes_0 19 rfl rfl)
theorem dX10_takes_20 : decode cX10_takes 20 = .ok (.ifCond .eq 7, 3) := dk_153 0 7 (dk_at dksX10_takes_0 20 rfl rfl)
theorem dX10_takes_23 : decode cX10_takes 23 = .ok (.iconst 1, 1) := dk_4 (dk_at dksX10_takes_0 23 rfl rfl)
theorem dX10_takes_24 : decode cX10_takes 24 = .ok (.goto 4, 3) := dk_167 0 4 (dk_at dksX10_takes_1 0 rfl rfl)
theorem dX10_takes_27 : decode cX10_takes 27 = .ok (.iconst 0, 1) := dk_3 (dk_at dksX10_takes_1 3 rfl rfl)
theorem dX10_takes_28 : decode cX10_takes 28 = .ok (.iadd, 1) := dk_96 (dk_at dksX10_takes_1 4 rfl rfl)
theorem dX10_takes_29 : decode cX10_takes 29 = .ok (.putfield 15, 3) := dk_181 0 15 (dk_at dksX10_takes_1 5 rfl rfl)
theorem dX10_takes_32 : decode cX10_takes 32 = .ok (.iload_n 2, 1) := dk_28 (dk_at dksX10_takes_1 8 rfl rfl)
theorem dX10_takes_33 : decode cX10_takes 33 = .ok (.ireturn, 1) := dk_172 (dk_at dksX10_takes_1 9 rfl rfl)
theorem q107 : (Jvm.Cond.initialized "CandleStatute$Reader") ∈ lw_all := lw_g (lw_at lw_m1 29 rfl) rfl
theorem q273 : (Jvm.Cond.selects "CandleStatute$Reader" ({ cls := "java/lang/Object", name := "getClass", desc := "()Ljava/lang/Class;" } : Jvm.MethodName) ({ cls := "java/lang/Object", name := "getClass", desc := "()Ljava/lang/Class;" } : Jvm.MethodName)) ∈ lw_all := lw_g (lw_at lw_m1 195 rfl) rfl
theorem q367 : (Jvm.Cond.fieldLinkNest "CandleStatute$Reader" (19 : Nat) "CandleStatute" "text" "Ljava/lang/StringBuilder;" "CandleStatute") ∈ lw_tbl := lw_at lw_m2 49 rfl
theorem q1163 : (Jvm.Cond.instantiable "CandleStatute$Reader" (2 : Nat)) ∈ lw_all := lw_g (lw_at lw_m5 125 rfl) rfl
theorem q1165 : (Jvm.Cond.instanceMethod ({ cls := "CandleStatute$Reader", name := "<init>", desc := "(LCandleStatute;)V" } : Jvm.MethodName)) ∈ lw_all := lw_g (lw_at lw_m5 127 rfl) rfl
theorem q1166 : (Jvm.Cond.code ({ cls := "CandleStatute$Reader", name := "<init>", desc := "(LCandleStatute;)V" } : Jvm.MethodName) prog_8_method_1_code (2 : Nat) (Option.none : Option Jvm.ClassFile.FieldType)) ∈ lw_all := lw_g (lw_at lw_m5 128 rfl) rfl
theorem q1167 : (Jvm.Cond.methodLink "CandleStatute$Reader" (9 : Nat) ({ cls := "java/lang/Object", name := "<init>", desc := "()V" } : Jvm.MethodName)) ∈ lw_all := lw_g (lw_at lw_m5 129 rfl) rfl
theorem q1168 : (Jvm.Cond.fieldLink "CandleStatute$Reader" (15 : Nat) "CandleStatute$Reader" "at" "I") ∈ lw_all := lw_g (lw_at lw_m5 130 rfl) rfl
theorem q1169 : (Jvm.Cond.fieldLink "CandleStatute$Reader" (3 : Nat) "CandleStatute$Reader" "this$0" "LCandleStatute;") ∈ lw_all := lw_g (lw_at lw_m5 131 rfl) rfl
theorem q1170 : (Jvm.Cond.lays "CandleStatute$Reader" "CandleStatute$Reader" "at" "I") ∈ lw_all := lw_g (lw_at lw_m5 132 rfl) rfl
theorem q1171 : (Jvm.Cond.soleField "CandleStatute$Reader" "at") ∈ lw_all := lw_g (lw_at lw_m5 133 rfl) rfl
theorem q1172 : (Jvm.Cond.laysFinal "CandleStatute$Reader" "CandleStatute$Reader" "this$0" "LCandleStatute;") ∈ lw_all := lw_g (lw_at lw_m5 134 rfl) rfl
theorem q1173 : (Jvm.Cond.soleField "CandleStatute$Reader" "this$0") ∈ lw_all := lw_g (lw_at lw_m5 135 rfl) rfl
theorem q1174 : (Jvm.Cond.superclass "CandleStatute$Reader" "java/lang/Object") ∈ lw_all := lw_g (lw_at lw_m5 136 rfl) rfl
theorem q1176 : (Jvm.Cond.instanceMethod ({ cls := "CandleStatute$Reader", name := "commands", desc := "()Ljava/util/LinkedList;" } : Jvm.MethodName)) ∈ lw_all := lw_g (lw_at lw_m5 138 rfl) rfl
theorem q1177 : (Jvm.Cond.selects "CandleStatute$Reader" ({ cls := "CandleStatute$Reader", name := "commands", desc := "()Ljava/util/LinkedList;" } : Jvm.MethodName) ({ cls := "CandleStatute$Reader", name := "commands", desc := "()Ljava/util/LinkedList;" } : Jvm.MethodName)) ∈ lw_all := lw_g (lw_at lw_m5 139 rfl) rfl
theorem q1178 : (Jvm.Cond.code ({ cls := "CandleStatute$Reader", name := "commands", desc := "()Ljava/util/LinkedList;" } : Jvm.MethodName) prog_8_method_10_code (2 : Nat) (Option.some (Jvm.ClassFile.FieldType.object "java/util/LinkedList"))) ∈ lw_all := lw_g (lw_at lw_m5 140 rfl) rfl
theorem q1179 : (Jvm.Cond.classLink "CandleStatute$Reader" (83 : Nat) "java/util/LinkedList") ∈ lw_all := lw_g (lw_at lw_m5 141 rfl) rfl
theorem q1181 : (Jvm.Cond.methodLink "CandleStatute$Reader" (85 : Nat) ({ cls := "java/util/LinkedList", name := "<init>", desc := "()V" } : Jvm.MethodName)) ∈ lw_all := lw_g (lw_at lw_m5 143 rfl) rfl
theorem q1199 : (Jvm.Cond.methodLink "CandleStatute$Reader" (86 : Nat) ({ cls := "CandleStatute$Reader", name := "command", desc := "()LCandleStatute$Command;" } : Jvm.MethodName)) ∈ lw_all := lw_g (lw_at lw_m5 161 rfl) rfl
theorem q1200 : (Jvm.Cond.privateMethod ({ cls := "CandleStatute$Reader", name := "command", desc := "()LCandleStatute$Command;" } : Jvm.MethodName)) ∈ lw_tbl := lw_at lw_m5 162 rfl
theorem q1201 : (Jvm.Cond.instanceMethod ({ cls := "CandleStatute$Reader", name := "command", desc := "()LCandleStatute$Command;" } : Jvm.MethodName)) ∈ lw_all := lw_g (lw_at lw_m5 163 rfl) rfl
theorem q1202 : (Jvm.Cond.code ({ cls := "CandleStatute$Reader", name := "command", desc := "()LCandleStatute$Command;" } : Jvm.MethodName) prog_8_method_9_code (2 : Nat) (Option.some (Jvm.ClassFile.FieldType.object "CandleStatute$Command"))) ∈ lw_all := lw_g (lw_at lw_m5 164 rfl) rfl
theorem q1203 : (Jvm.Cond.methodLink "CandleStatute$Reader" (38 : Nat) ({ cls := "CandleStatute$Reader", name := "here", desc := "()I" } : Jvm.MethodName)) ∈ lw_all := lw_g (lw_at lw_m5 165 rfl) rfl
theorem q1204 : (Jvm.Cond.privateMethod ({ cls := "CandleStatute$Reader", name := "here", desc := "()I" } : Jvm.MethodName)) ∈ lw_tbl := lw_at lw_m5 166 rfl
theorem q1205 : (Jvm.Cond.instanceMethod ({ cls := "CandleStatute$Reader", name := "here", desc := "()I" } : Jvm.MethodName)) ∈ lw_all := lw_g (lw_at lw_m5 167 rfl) rfl
theorem q1206 : (Jvm.Cond.code ({ cls := "CandleStatute$Reader", name := "here", desc := "()I" } : Jvm.MethodName) prog_8_method_2_code (1 : Nat) (Option.some Jvm.ClassFile.FieldType.int)) ∈ lw_all := lw_g (lw_at lw_m5 168 rfl) rfl
theorem q1207 : (Jvm.Cond.methodLink "CandleStatute$Reader" (23 : Nat) ({ cls := "java/lang/StringBuilder", name := "length", desc := "()I" } : Jvm.MethodName)) ∈ lw_all := lw_g (lw_at lw_m5 169 rfl) rfl
theorem q1208 : (Jvm.Cond.methodLink "CandleStatute$Reader" (29 : Nat) ({ cls := "java/lang/StringBuilder", name := "charAt", desc := "(I)C" } : Jvm.MethodName)) ∈ lw_all := lw_g (lw_at lw_m5 170 rfl) rfl
theorem q1220 : (Jvm.Cond.methodLink "CandleStatute$Reader" (75 : Nat) ({ cls := "CandleStatute$Reader", name := "isKind", desc := "(I)Z" } : Jvm.MethodName)) ∈ lw_all := lw_g (lw_at lw_m5 182 rfl) rfl
theorem q1221 : (Jvm.Cond.privateMethod ({ cls := "CandleStatute$Reader", name := "isKind", desc := "(I)Z" } : Jvm.MethodName)) ∈ lw_tbl := lw_at lw_m5 183 rfl
theorem q1222 : (Jvm.Cond.instanceMethod ({ cls := "CandleStatute$Reader", name := "isKind", desc := "(I)Z" } : Jvm.MethodName)) ∈ lw_all := lw_g (lw_at lw_m5 184 rfl) rfl
theorem q1223 : (Jvm.Cond.code ({ cls := "CandleStatute$Reader", name := "isKind", desc := "(I)Z" } : Jvm.MethodName) prog_8_method_8_code (2 : Nat) (Option.some Jvm.ClassFile.FieldType.boolean)) ∈ lw_all := lw_g (lw_at lw_m5 185 rfl) rfl
theorem q1224 : (Jvm.Cond.methodLink "CandleStatute$Reader" (45 : Nat) ({ cls := "CandleStatute$Reader", name := "needs", desc := "(Z)V" } : Jvm.MethodName)) ∈ lw_all := lw_g (lw_at lw_m5 186 rfl) rfl
theorem q1225 : (Jvm.Cond.privateMethod ({ cls := "CandleStatute$Reader", name := "needs", desc := "(Z)V" } : Jvm.MethodName)) ∈ lw_tbl := lw_at lw_m5 187 rfl
theorem q1226 : (Jvm.Cond.instanceMethod ({ cls := "CandleStatute$Reader", name := "needs", desc := "(Z)V" } : Jvm.MethodName)) ∈ lw_all := lw_g (lw_at lw_m5 188 rfl) rfl
theorem q1227 : (Jvm.Cond.code ({ cls := "CandleStatute$Reader", name := "needs", desc := "(Z)V" } : Jvm.MethodName) prog_8_method_3_code (2 : Nat) (Option.none : Option Jvm.ClassFile.FieldType)) ∈ lw_all := lw_g (lw_at lw_m5 189 rfl) rfl
theorem q1228 : (Jvm.Cond.classLink "CandleStatute$Reader" (33 : Nat) "CandleStatute$Wrong") ∈ lw_all := lw_g (lw_at lw_m5 190 rfl) rfl
theorem q1237 : (Jvm.Cond.methodLink "CandleStatute$Reader" (35 : Nat) ({ cls := "CandleStatute$Wrong", name := "<init>", desc := "(I)V" } : Jvm.MethodName)) ∈ lw_all := lw_g (lw_at lw_m5 199 rfl) rfl
theorem q1247 : (Jvm.Cond.classLink "CandleStatute$Reader" (58 : Nat) "CandleStatute$Command") ∈ lw_all := lw_g (lw_at lw_m5 209 rfl) rfl
theorem q1249 : (Jvm.Cond.methodLink "CandleStatute$Reader" (78 : Nat) ({ cls := "CandleStatute$Command", name := "<init>", desc := "(I)V" } : Jvm.MethodName)) ∈ lw_all := lw_g (lw_at lw_m5 211 rfl) rfl
theorem q1254 : (Jvm.Cond.fieldLinkNest "CandleStatute$Reader" (57 : Nat) "CandleStatute$Command" "kind" "I" "CandleStatute") ∈ lw_tbl := lw_at lw_m5 216 rfl
theorem q1256 : (Jvm.Cond.fieldLinkNest "CandleStatute$Reader" (62 : Nat) "CandleStatute$Command" "one" "I" "CandleStatute") ∈ lw_tbl := lw_at lw_m5 218 rfl
theorem q1258 : (Jvm.Cond.fieldLinkNest "CandleStatute$Reader" (69 : Nat) "CandleStatute$Command" "two" "I" "CandleStatute") ∈ lw_tbl := lw_at lw_m5 220 rfl
theorem q1260 : (Jvm.Cond.fieldLinkNest "CandleStatute$Reader" (72 : Nat) "CandleStatute$Command" "three" "I" "CandleStatute") ∈ lw_tbl := lw_at lw_m5 222 rfl
theorem q1270 : (Jvm.Cond.methodLink "CandleStatute$Reader" (79 : Nat) ({ cls := "CandleStatute$Reader", name := "numbers", desc := "(LCandleStatute$Command;)V" } : Jvm.MethodName)) ∈ lw_all := lw_g (lw_at lw_m5 232 rfl) rfl
theorem q1271 : (Jvm.Cond.privateMethod ({ cls := "CandleStatute$Reader", name := "numbers", desc := "(LCandleStatute$Command;)V" } : Jvm.MethodName)) ∈ lw_tbl := lw_at lw_m5 233 rfl
theorem q1272 : (Jvm.Cond.instanceMethod ({ cls := "CandleStatute$Reader", name := "numbers", desc := "(LCandleStatute$Command;)V" } : Jvm.MethodName)) ∈ lw_all := lw_g (lw_at lw_m5 234 rfl) rfl
theorem q1273 : (Jvm.Cond.code ({ cls := "CandleStatute$Reader", name := "numbers", desc := "(LCandleStatute$Command;)V" } : Jvm.MethodName) prog_8_method_7_code (2 : Nat) (Option.none : Option Jvm.ClassFile.FieldType)) ∈ lw_all := lw_g (lw_at lw_m5 235 rfl) rfl
theorem q1274 : (Jvm.Cond.methodLink "CandleStatute$Reader" (53 : Nat) ({ cls := "CandleStatute$Reader", name := "number", desc := "(I)I" } : Jvm.MethodName)) ∈ lw_all := lw_g (lw_at lw_m5 236 rfl) rfl
theorem q1275 : (Jvm.Cond.privateMethod ({ cls := "CandleStatute$Reader", name := "number", desc := "(I)I" } : Jvm.MethodName)) ∈ lw_tbl := lw_at lw_m5 237 rfl
theorem q1276 : (Jvm.Cond.instanceMethod ({ cls := "CandleStatute$Reader", name := "number", desc := "(I)I" } : Jvm.MethodName)) ∈ lw_all := lw_g (lw_at lw_m5 238 rfl) rfl
theorem q1277 : (Jvm.Cond.code ({ cls := "CandleStatute$Reader", name := "number", desc := "(I)I" } : Jvm.MethodName) prog_8_method_5_code (4 : Nat) (Option.some Jvm.ClassFile.FieldType.int)) ∈ lw_all := lw_g (lw_at lw_m5 239 rfl) rfl
theorem q1278 : (Jvm.Cond.methodLinkNest "CandleStatute$Reader" (41 : Nat) ({ cls := "CandleStatute", name := "isIn", desc := "(III)Z" } : Jvm.MethodName) "CandleStatute") ∈ lw_tbl := lw_at lw_m6 0 rfl
theorem q1279 : (Jvm.Cond.methodLink "CandleStatute$Reader" (65 : Nat) ({ cls := "CandleStatute$Reader", name := "numberBehind", desc := "(II)I" } : Jvm.MethodName)) ∈ lw_all := lw_g (lw_at lw_m6 1 rfl) rfl
theorem q1280 : (Jvm.Cond.privateMethod ({ cls := "CandleStatute$Reader", name := "numberBehind", desc := "(II)I" } : Jvm.MethodName)) ∈ lw_tbl := lw_at lw_m6 2 rfl
theorem q1281 : (Jvm.Cond.instanceMethod ({ cls := "CandleStatute$Reader", name := "numberBehind", desc := "(II)I" } : Jvm.MethodName)) ∈ lw_all := lw_g (lw_at lw_m6 3 rfl) rfl
theorem q1282 : (Jvm.Cond.code ({ cls := "CandleStatute$Reader", name := "numberBehind", desc := "(II)I" } : Jvm.MethodName) prog_8_method_6_code (3 : Nat) (Option.some Jvm.ClassFile.FieldType.int)) ∈ lw_all := lw_g (lw_at lw_m6 4 rfl) rfl
theorem q1283 : (Jvm.Cond.methodLink "CandleStatute$Reader" (49 : Nat) ({ cls := "CandleStatute$Reader", name := "takes", desc := "(I)Z" } : Jvm.MethodName)) ∈ lw_all := lw_g (lw_at lw_m6 5 rfl) rfl
theorem q1284 : (Jvm.Cond.privateMethod ({ cls := "CandleStatute$Reader", name := "takes", desc := "(I)Z" } : Jvm.MethodName)) ∈ lw_tbl := lw_at lw_m6 6 rfl
theorem q1285 : (Jvm.Cond.instanceMethod ({ cls := "CandleStatute$Reader", name := "takes", desc := "(I)Z" } : Jvm.MethodName)) ∈ lw_all := lw_g (lw_at lw_m6 7 rfl) rfl
theorem q1286 : (Jvm.Cond.code ({ cls := "CandleStatute$Reader", name := "takes", desc := "(I)Z" } : Jvm.MethodName) prog_8_method_4_code (3 : Nat) (Option.some Jvm.ClassFile.FieldType.boolean)) ∈ lw_all := lw_g (lw_at lw_m6 8 rfl) rfl
theorem q1287 : (Jvm.Cond.methodLink "CandleStatute$Reader" (90 : Nat) ({ cls := "java/util/LinkedList", name := "addLast", desc := "(Ljava/lang/Object;)V" } : Jvm.MethodName)) ∈ lw_all := lw_g (lw_at lw_m6 9 rfl) rfl
theorem q2101 : (Jvm.Cond.castable "CandleStatute$Reader" "java/lang/Object") ∈ lw_tbl := lw_at lw_m9 103 rfl
theorem in_X10 : ∀ w ∈ wsX100, w ∈ lw_all := lw_in wsX100 [1170, 1172] (by decide +kernel) (by decide +kernel)

/-! CandleStatute$Wrong -/
set_option maxRecDepth 100000
def RX11 : String := "CandleStatute$Wrong"
def TX11 : u_T := fun k => match k with
  | 0 => ("java/lang/Throwable", "cause", "Ljava/lang/Throwable;", false)
  | 1 => ("java/lang/Throwable", "stackTrace", "[Ljava/lang/StackTraceElement;", false)
  | 2 => ("java/lang/Throwable", "suppressedExceptions", "Ljava/util/List;", false)
  | 3 => ("java/lang/Throwable", "detailMessage", "Ljava/lang/String;", false)
  | 4 => ("java/lang/Throwable", "backtrace", "Ljava/lang/Object;", false)
  | 5 => ("java/lang/Throwable", "depth", "I", false)
  | _ => ("CandleStatute$Wrong", "at", "I", true)
def tyX11 : Nat → FieldType := fun k => match k with
  | 0 => .object "java/lang/Throwable"
  | 1 => .array (.object "java/lang/StackTraceElement")
  | 2 => .object "java/util/List"
  | 3 => .object "java/lang/String"
  | 4 => .object "java/lang/Object"
  | 5 => .int
  | _ => .int
abbrev wsX110 : List Cond := u_ws RX11 TX11 7
theorem nmX11 : ∀ a, a < 7 → ∀ b, b < 7 → a ≠ b → (TX11 a).2.1 ≠ (TX11 b).2.1 := by decide +kernel
theorem tyX11_ok : ∀ k, k < 7 → parseFieldDescriptor (TX11 k).2.2.1 = some (tyX11 k) := by decide +kernel
abbrev cX11_init : ByteArray := prog_14_method_1_code
def yX11_init : MethodName := ⟨RX11, "<init>", "(I)V"⟩
def dkwX11_init_0 : List UInt8 := [42, 1, 1, 3, 3, 183, 0, 1, 42, 27, 181, 0, 7, 177]
abbrev dktX11_init_0 : List UInt8 := dkwX11_init_0 ++ []
theorem dksX11_init_0 : cX11_init.data.toList.drop 0 = dktX11_init_0 := by decide +kernel
theorem dX11_init_0 : decode cX11_init 0 = .ok (.aload_n 0, 1) := dk_42 (dk_at dksX11_init_0 0 rfl rfl)
theorem dX11_init_1 : decode cX11_init 1 = .ok (.aconst_null, 1) := dk_1 (dk_at dksX11_init_0 1 rfl rfl)
theorem dX11_init_2 : decode cX11_init 2 = .ok (.aconst_null, 1) := dk_1 (dk_at dksX11_init_0 2 rfl rfl)
theorem dX11_init_3 : decode cX11_init 3 = .ok (.iconst 0, 1) := dk_3 (dk_at dksX11_init_0 3 rfl rfl)
theorem dX11_init_4 : decode cX11_init 4 = .ok (.iconst 0, 1) := dk_3 (dk_at dksX11_init_0 4 rfl rfl)
theorem dX11_init_5 : decode cX11_init 5 = .ok (.invokespecial 1, 3) := dk_183 0 1 (dk_at dksX11_init_0 5 rfl rfl)
theorem dX11_init_8 : decode cX11_init 8 = .ok (.aload_n 0, 1) := dk_42 (dk_at dksX11_init_0 8 rfl rfl)
theorem dX11_init_9 : decode cX11_init 9 = .ok (.iload_n 1, 1) := dk_27 (dk_at dksX11_init_0 9 rfl rfl)
theorem dX11_init_10 : decode cX11_init 10 = .ok (.putfield 7, 3) := dk_181 0 7 (dk_at dksX11_init_0 10 rfl rfl)
theorem dX11_init_13 : decode cX11_init 13 = .ok (.return_, 1) := dk_177 (dk_at dksX11_init_0 13 rfl rfl)
theorem q110 : (Jvm.Cond.initialized "CandleStatute$Wrong") ∈ lw_all := lw_g (lw_at lw_m1 32 rfl) rfl
theorem q279 : (Jvm.Cond.selects "CandleStatute$Wrong" ({ cls := "java/lang/Object", name := "getClass", desc := "()Ljava/lang/Class;" } : Jvm.MethodName) ({ cls := "java/lang/Object", name := "getClass", desc := "()Ljava/lang/Class;" } : Jvm.MethodName)) ∈ lw_all := lw_g (lw_at lw_m1 201 rfl) rfl
theorem q611 : (Jvm.Cond.selects "CandleStatute$Wrong" ({ cls := "java/lang/Throwable", name := "fillInStackTrace", desc := "()Ljava/lang/Throwable;" } : Jvm.MethodName) ({ cls := "java/lang/Throwable", name := "fillInStackTrace", desc := "()Ljava/lang/Throwable;" } : Jvm.MethodName)) ∈ lw_all := lw_g (lw_at lw_m3 53 rfl) rfl
theorem q728 : (Jvm.Cond.selects "CandleStatute$Wrong" ({ cls := "java/lang/Throwable", name := "getCause", desc := "()Ljava/lang/Throwable;" } : Jvm.MethodName) ({ cls := "java/lang/Throwable", name := "getCause", desc := "()Ljava/lang/Throwable;" } : Jvm.MethodName)) ∈ lw_all := lw_g (lw_at lw_m3 170 rfl) rfl
theorem q1229 : (Jvm.Cond.instantiable "CandleStatute$Wrong" (7 : Nat)) ∈ lw_all := lw_g (lw_at lw_m5 191 rfl) rfl
theorem q1230 : (Jvm.Cond.castable "CandleStatute$Wrong" "CandleStatute$Wrong") ∈ lw_tbl := lw_at lw_m5 192 rfl
theorem q1231 : (Jvm.Cond.selects "CandleStatute$Wrong" ({ cls := "java/lang/Throwable", name := "fillInStackTrace", desc := "(I)Ljava/lang/Throwable;" } : Jvm.MethodName) ({ cls := "java/lang/Throwable", name := "fillInStackTrace", desc := "(I)Ljava/lang/Throwable;" } : Jvm.MethodName)) ∈ lw_all := lw_g (lw_at lw_m5 193 rfl) rfl
theorem q1232 : (Jvm.Cond.lays "CandleStatute$Wrong" "java/lang/Throwable" "cause" "Ljava/lang/Throwable;") ∈ lw_all := lw_g (lw_at lw_m5 194 rfl) rfl
theorem q1233 : (Jvm.Cond.lays "CandleStatute$Wrong" "java/lang/Throwable" "stackTrace" "[Ljava/lang/StackTraceElement;") ∈ lw_all := lw_g (lw_at lw_m5 195 rfl) rfl
theorem q1234 : (Jvm.Cond.lays "CandleStatute$Wrong" "java/lang/Throwable" "suppressedExceptions" "Ljava/util/List;") ∈ lw_all := lw_g (lw_at lw_m5 196 rfl) rfl
theorem q1235 : (Jvm.Cond.lays "CandleStatute$Wrong" "java/lang/Throwable" "detailMessage" "Ljava/lang/String;") ∈ lw_all := lw_g (lw_at lw_m5 197 rfl) rfl
theorem q1236 : (Jvm.Cond.lays "CandleStatute$Wrong" "java/lang/Throwable" "backtrace" "Ljava/lang/Object;") ∈ lw_all := lw_g (lw_at lw_m5 198 rfl) rfl
theorem q1238 : (Jvm.Cond.instanceMethod ({ cls := "CandleStatute$Wrong", name := "<init>", desc := "(I)V" } : Jvm.MethodName)) ∈ lw_all := lw_g (lw_at lw_m5 200 rfl) rfl
theorem q1239 : (Jvm.Cond.code ({ cls := "CandleStatute$Wrong", name := "<init>", desc := "(I)V" } : Jvm.MethodName) prog_14_method_1_code (2 : Nat) (Option.none : Option Jvm.ClassFile.FieldType)) ∈ lw_all := lw_g (lw_at lw_m5 201 rfl) rfl
theorem q1240 : (Jvm.Cond.methodLink "CandleStatute$Wrong" (1 : Nat) ({ cls := "java/lang/Exception", name := "<init>", desc := "(Ljava/lang/String;Ljava/lang/Throwable;ZZ)V" } : Jvm.MethodName)) ∈ lw_all := lw_g (lw_at lw_m5 202 rfl) rfl
theorem q1241 : (Jvm.Cond.fieldLink "CandleStatute$Wrong" (7 : Nat) "CandleStatute$Wrong" "at" "I") ∈ lw_all := lw_g (lw_at lw_m5 203 rfl) rfl
theorem q1243 : (Jvm.Cond.laysFinal "CandleStatute$Wrong" "CandleStatute$Wrong" "at" "I") ∈ lw_all := lw_g (lw_at lw_m5 205 rfl) rfl
theorem q1244 : (Jvm.Cond.soleField "CandleStatute$Wrong" "at") ∈ lw_all := lw_g (lw_at lw_m5 206 rfl) rfl
theorem q1245 : (Jvm.Cond.lays "CandleStatute$Wrong" "java/lang/Throwable" "depth" "I") ∈ lw_all := lw_g (lw_at lw_m5 207 rfl) rfl
theorem q1246 : (Jvm.Cond.superclass "CandleStatute$Wrong" "java/lang/Exception") ∈ lw_all := lw_g (lw_at lw_m5 208 rfl) rfl
theorem q2103 : (Jvm.Cond.castable "CandleStatute$Wrong" "java/lang/Object") ∈ lw_tbl := lw_at lw_m9 105 rfl
theorem in_X11 : ∀ w ∈ wsX110, w ∈ lw_all := lw_in wsX110 [1232, 1233, 1234, 1235, 1236, 1245, 1243] (by decide +kernel) (by decide +kernel)

/-! CandleStatute$Command -/
set_option maxRecDepth 100000
def RX12 : String := "CandleStatute$Command"
def TX12 : u_T := fun k => match k with
  | 0 => ("CandleStatute$Command", "kind", "I", true)
  | 1 => ("CandleStatute$Command", "one", "I", false)
  | 2 => ("CandleStatute$Command", "two", "I", false)
  | _ => ("CandleStatute$Command", "three", "I", false)
def tyX12 : Nat → FieldType := fun k => match k with
  | 0 => .int
  | 1 => .int
  | 2 => .int
  | _ => .int
abbrev wsX120 : List Cond := u_ws RX12 TX12 4
theorem nmX12 : ∀ a, a < 4 → ∀ b, b < 4 → a ≠ b → (TX12 a).2.1 ≠ (TX12 b).2.1 := by decide +kernel
theorem tyX12_ok : ∀ k, k < 4 → parseFieldDescriptor (TX12 k).2.2.1 = some (tyX12 k) := by decide +kernel
abbrev cX12_init : ByteArray := prog_3_method_1_code
def yX12_init : MethodName := ⟨RX12, "<init>", "(I)V"⟩
def dkwX12_init_0 : List UInt8 := [42, 183, 0, 3, 42, 27, 181, 0, 9, 177]
abbrev dktX12_init_0 : List UInt8 := dkwX12_init_0 ++ []
theorem dksX12_init_0 : cX12_init.data.toList.drop 0 = dktX12_init_0 := by decide +kernel
theorem dX12_init_0 : decode cX12_init 0 = .ok (.aload_n 0, 1) := dk_42 (dk_at dksX12_init_0 0 rfl rfl)
theorem dX12_init_1 : decode cX12_init 1 = .ok (.invokespecial 3, 3) := dk_183 0 3 (dk_at dksX12_init_0 1 rfl rfl)
theorem dX12_init_4 : decode cX12_init 4 = .ok (.aload_n 0, 1) := dk_42 (dk_at dksX12_init_0 4 rfl rfl)
theorem dX12_init_5 : decode cX12_init 5 = .ok (.iload_n 1, 1) := dk_27 (dk_at dksX12_init_0 5 rfl rfl)
theorem dX12_init_6 : decode cX12_init 6 = .ok (.putfield 9, 3) := dk_181 0 9 (dk_at dksX12_init_0 6 rfl rfl)
theorem dX12_init_9 : decode cX12_init 9 = .ok (.return_, 1) := dk_177 (dk_at dksX12_init_0 9 rfl rfl)
abbrev cX12_carryOut : ByteArray := prog_3_method_5_code
def yX12_carryOut : MethodName := ⟨RX12, "carryOut", "(LCandleStatute$Statute;I)V"⟩
def dkwX12_carryOut_1 : List UInt8 := [183, 0, 106, 191, 29, 154, 0, 7, 4, 167, 0, 4, 3, 16, 16, 28, 184, 0, 109, 177]
abbrev dktX12_carryOut_1 : List UInt8 := dkwX12_carryOut_1 ++ []
def dkwX12_carryOut_0 : List UInt8 := [3, 62, 42, 43, 182, 0, 101, 62, 167, 0, 18, 58, 4, 187, 0, 104, 89, 16, 16, 28, 25, 4]
abbrev dktX12_carryOut_0 : List UInt8 := dkwX12_carryOut_0 ++ dktX12_carryOut_1
theorem dksX12_carryOut_0 : cX12_carryOut.data.toList.drop 0 = dktX12_carryOut_0 := by decide +kernel
theorem dksX12_carryOut_1 : cX12_carryOut.data.toList.drop 22 = dktX12_carryOut_1 := dk_seg dksX12_carryOut_0 22 rfl rfl
theorem dX12_carryOut_0 : decode cX12_carryOut 0 = .ok (.iconst 0, 1) := dk_3 (dk_at dksX12_carryOut_0 0 rfl rfl)
theorem dX12_carryOut_1 : decode cX12_carryOut 1 = .ok (.istore_n 3, 1) := dk_62 (dk_at dksX12_carryOut_0 1 rfl rfl)
theorem dX12_carryOut_2 : decode cX12_carryOut 2 = .ok (.aload_n 0, 1) := dk_42 (dk_at dksX12_carryOut_0 2 rfl rfl)
theorem dX12_carryOut_3 : decode cX12_carryOut 3 = .ok (.aload_n 1, 1) := dk_43 (dk_at dksX12_carryOut_0 3 rfl rfl)
theorem dX12_carryOut_4 : decode cX12_carryOut 4 = .ok (.invokevirtual 101, 3) := dk_182 0 101 (dk_at dksX12_carryOut_0 4 rfl rfl)
theorem dX12_carryOut_7 : decode cX12_carryOut 7 = .ok (.istore_n 3, 1) := dk_62 (dk_at dksX12_carryOut_0 7 rfl rfl)
theorem dX12_carryOut_8 : decode cX12_carryOut 8 = .ok (.goto 18, 3) := dk_167 0 18 (dk_at dksX12_carryOut_0 8 rfl rfl)
theorem dX12_carryOut_11 : decode cX12_carryOut 11 = .ok (.astore 4, 2) := dk_58 4 (dk_at dksX12_carryOut_0 11 rfl rfl)
theorem dX12_carryOut_13 : decode cX12_carryOut 13 = .ok (.new 104, 3) := dk_187 0 104 (dk_at dksX12_carryOut_0 13 rfl rfl)
theorem dX12_carryOut_16 : decode cX12_carryOut 16 = .ok (.dup, 1) := dk_89 (dk_at dksX12_carryOut_0 16 rfl rfl)
theorem dX12_carryOut_17 : decode cX12_carryOut 17 = .ok (.bipush 16, 2) := dk_16 16 (dk_at dksX12_carryOut_0 17 rfl rfl)
theorem dX12_carryOut_19 : decode cX12_carryOut 19 = .ok (.iload_n 2, 1) := dk_28 (dk_at dksX12_carryOut_0 19 rfl rfl)
theorem dX12_carryOut_20 : decode cX12_carryOut 20 = .ok (.aload 4, 2) := dk_25 4 (dk_at dksX12_carryOut_0 20 rfl rfl)
theorem dX12_carryOut_22 : decode cX12_carryOut 22 = .ok (.invokespecial 106, 3) := dk_183 0 106 (dk_at dksX12_carryOut_1 0 rfl rfl)
theorem dX12_carryOut_25 : decode cX12_carryOut 25 = .ok (.athrow, 1) := dk_191 (dk_at dksX12_carryOut_1 3 rfl rfl)
theorem dX12_carryOut_26 : decode cX12_carryOut 26 = .ok (.iload_n 3, 1) := dk_29 (dk_at dksX12_carryOut_1 4 rfl rfl)
theorem dX12_carryOut_27 : decode cX12_carryOut 27 = .ok (.ifCond .ne 7, 3) := dk_154 0 7 (dk_at dksX12_carryOut_1 5 rfl rfl)
theorem dX12_carryOut_30 : decode cX12_carryOut 30 = .ok (.iconst 1, 1) := dk_4 (dk_at dksX12_carryOut_1 8 rfl rfl)
theorem dX12_carryOut_31 : decode cX12_carryOut 31 = .ok (.goto 4, 3) := dk_167 0 4 (dk_at dksX12_carryOut_1 9 rfl rfl)
theorem dX12_carryOut_34 : decode cX12_carryOut 34 = .ok (.iconst 0, 1) := dk_3 (dk_at dksX12_carryOut_1 12 rfl rfl)
theorem dX12_carryOut_35 : decode cX12_carryOut 35 = .ok (.bipush 16, 2) := dk_16 16 (dk_at dksX12_carryOut_1 13 rfl rfl)
theorem dX12_carryOut_37 : decode cX12_carryOut 37 = .ok (.iload_n 2, 1) := dk_28 (dk_at dksX12_carryOut_1 15 rfl rfl)
theorem dX12_carryOut_38 : decode cX12_carryOut 38 = .ok (.invokestatic 109, 3) := dk_184 0 109 (dk_at dksX12_carryOut_1 16 rfl rfl)
theorem dX12_carryOut_41 : decode cX12_carryOut 41 = .ok (.return_, 1) := dk_177 (dk_at dksX12_carryOut_1 19 rfl rfl)
abbrev cX12_isDone : ByteArray := prog_3_method_4_code
def yX12_isDone : MethodName := ⟨RX12, "isDone", "(LCandleStatute$Statute;)Z"⟩
def dkwX12_isDone_4 : List UInt8 := [182, 0, 98, 172]
abbrev dktX12_isDone_4 : List UInt8 := dkwX12_isDone_4 ++ []
def dkwX12_isDone_3 : List UInt8 := [42, 180, 0, 21, 182, 0, 91, 155, 0, 7, 4, 167, 0, 4, 3, 172, 42, 43, 182, 0, 94, 172, 42, 43]
abbrev dktX12_isDone_3 : List UInt8 := dkwX12_isDone_3 ++ dktX12_isDone_4
def dkwX12_isDone_2 : List UInt8 := [43, 182, 0, 87, 155, 0, 7, 4, 167, 0, 4, 3, 172, 42, 180, 0, 21, 184, 0, 74, 153, 0, 18, 43]
abbrev dktX12_isDone_2 : List UInt8 := dkwX12_isDone_2 ++ dktX12_isDone_3
def dkwX12_isDone_1 : List UInt8 := [171, 0, 0, 0, 0, 0, 0, 98, 0, 0, 0, 5, 0, 0, 0, 98, 0, 0, 0, 92, 0, 0, 0, 100, 0, 0, 0, 52, 0, 0, 0, 111, 0, 0, 0, 92, 0, 0, 0, 112, 0, 0, 0, 92, 0, 0, 0, 116, 0, 0, 0, 65]
abbrev dktX12_isDone_1 : List UInt8 := dkwX12_isDone_1 ++ dktX12_isDone_2
def dkwX12_isDone_0 : List UInt8 := [42, 180, 0, 9]
abbrev dktX12_isDone_0 : List UInt8 := dkwX12_isDone_0 ++ dktX12_isDone_1
theorem dksX12_isDone_0 : cX12_isDone.data.toList.drop 0 = dktX12_isDone_0 := by decide +kernel
theorem dksX12_isDone_1 : cX12_isDone.data.toList.drop 4 = dktX12_isDone_1 := dk_seg dksX12_isDone_0 4 rfl rfl
theorem dksX12_isDone_2 : cX12_isDone.data.toList.drop 56 = dktX12_isDone_2 := dk_seg dksX12_isDone_1 52 rfl rfl
theorem dksX12_isDone_3 : cX12_isDone.data.toList.drop 80 = dktX12_isDone_3 := dk_seg dksX12_isDone_2 24 rfl rfl
theorem dksX12_isDone_4 : cX12_isDone.data.toList.drop 104 = dktX12_isDone_4 := dk_seg dksX12_isDone_3 24 rfl rfl
theorem dX12_isDone_0 : decode cX12_isDone 0 = .ok (.aload_n 0, 1) := dk_42 (dk_at dksX12_isDone_0 0 rfl rfl)
theorem dX12_isDone_1 : decode cX12_isDone 1 = .ok (.getfield 9, 3) := dk_180 0 9 (dk_at dksX12_isDone_0 1 rfl rfl)
theorem dX12_isDone_4 : decode cX12_isDone 4 = .ok (.lookupswitch 98 #[(98, 92), (100, 52), (111, 92), (112, 92), (116, 65)], 52) := by decide +kernel
theorem dX12_isDone_56 : decode cX12_isDone 56 = .ok (.aload_n 1, 1) := dk_43 (dk_at dksX12_isDone_2 0 rfl rfl)
theorem dX12_isDone_57 : decode cX12_isDone 57 = .ok (.invokevirtual 87, 3) := dk_182 0 87 (dk_at dksX12_isDone_2 1 rfl rfl)
theorem dX12_isDone_60 : decode cX12_isDone 60 = .ok (.ifCond .lt 7, 3) := dk_155 0 7 (dk_at dksX12_isDone_2 4 rfl rfl)
theorem dX12_isDone_63 : decode cX12_isDone 63 = .ok (.iconst 1, 1) := dk_4 (dk_at dksX12_isDone_2 7 rfl rfl)
theorem dX12_isDone_64 : decode cX12_isDone 64 = .ok (.goto 4, 3) := dk_167 0 4 (dk_at dksX12_isDone_2 8 rfl rfl)
theorem dX12_isDone_67 : decode cX12_isDone 67 = .ok (.iconst 0, 1) := dk_3 (dk_at dksX12_isDone_2 11 rfl rfl)
theorem dX12_isDone_68 : decode cX12_isDone 68 = .ok (.ireturn, 1) := dk_172 (dk_at dksX12_isDone_2 12 rfl rfl)
theorem dX12_isDone_69 : decode cX12_isDone 69 = .ok (.aload_n 0, 1) := dk_42 (dk_at dksX12_isDone_2 13 rfl rfl)
theorem dX12_isDone_70 : decode cX12_isDone 70 = .ok (.getfield 21, 3) := dk_180 0 21 (dk_at dksX12_isDone_2 14 rfl rfl)
theorem dX12_isDone_73 : decode cX12_isDone 73 = .ok (.invokestatic 74, 3) := dk_184 0 74 (dk_at dksX12_isDone_2 17 rfl rfl)
theorem dX12_isDone_76 : decode cX12_isDone 76 = .ok (.ifCond .eq 18, 3) := dk_153 0 18 (dk_at dksX12_isDone_2 20 rfl rfl)
theorem dX12_isDone_79 : decode cX12_isDone 79 = .ok (.aload_n 1, 1) := dk_43 (dk_at dksX12_isDone_2 23 rfl rfl)
theorem dX12_isDone_80 : decode cX12_isDone 80 = .ok (.aload_n 0, 1) := dk_42 (dk_at dksX12_isDone_3 0 rfl rfl)
theorem dX12_isDone_81 : decode cX12_isDone 81 = .ok (.getfield 21, 3) := dk_180 0 21 (dk_at dksX12_isDone_3 1 rfl rfl)
theorem dX12_isDone_84 : decode cX12_isDone 84 = .ok (.invokevirtual 91, 3) := dk_182 0 91 (dk_at dksX12_isDone_3 4 rfl rfl)
theorem dX12_isDone_87 : decode cX12_isDone 87 = .ok (.ifCond .lt 7, 3) := dk_155 0 7 (dk_at dksX12_isDone_3 7 rfl rfl)
theorem dX12_isDone_90 : decode cX12_isDone 90 = .ok (.iconst 1, 1) := dk_4 (dk_at dksX12_isDone_3 10 rfl rfl)
theorem dX12_isDone_91 : decode cX12_isDone 91 = .ok (.goto 4, 3) := dk_167 0 4 (dk_at dksX12_isDone_3 11 rfl rfl)
theorem dX12_isDone_94 : decode cX12_isDone 94 = .ok (.iconst 0, 1) := dk_3 (dk_at dksX12_isDone_3 14 rfl rfl)
theorem dX12_isDone_95 : decode cX12_isDone 95 = .ok (.ireturn, 1) := dk_172 (dk_at dksX12_isDone_3 15 rfl rfl)
theorem dX12_isDone_96 : decode cX12_isDone 96 = .ok (.aload_n 0, 1) := dk_42 (dk_at dksX12_isDone_3 16 rfl rfl)
theorem dX12_isDone_97 : decode cX12_isDone 97 = .ok (.aload_n 1, 1) := dk_43 (dk_at dksX12_isDone_3 17 rfl rfl)
theorem dX12_isDone_98 : decode cX12_isDone 98 = .ok (.invokevirtual 94, 3) := dk_182 0 94 (dk_at dksX12_isDone_3 18 rfl rfl)
theorem dX12_isDone_101 : decode cX12_isDone 101 = .ok (.ireturn, 1) := dk_172 (dk_at dksX12_isDone_3 21 rfl rfl)
theorem dX12_isDone_102 : decode cX12_isDone 102 = .ok (.aload_n 0, 1) := dk_42 (dk_at dksX12_isDone_3 22 rfl rfl)
theorem dX12_isDone_103 : decode cX12_isDone 103 = .ok (.aload_n 1, 1) := dk_43 (dk_at dksX12_isDone_3 23 rfl rfl)
theorem dX12_isDone_104 : decode cX12_isDone 104 = .ok (.invokevirtual 98, 3) := dk_182 0 98 (dk_at dksX12_isDone_4 0 rfl rfl)
theorem dX12_isDone_107 : decode cX12_isDone 107 = .ok (.ireturn, 1) := dk_172 (dk_at dksX12_isDone_4 3 rfl rfl)
abbrev cX12_isOfStub : ByteArray := prog_3_method_2_code
def yX12_isOfStub : MethodName := ⟨RX12, "isOfStub", "(LCandleStatute$Statute;)Z"⟩
def dkwX12_isOfStub_6 : List UInt8 := [42, 180, 0, 30, 182, 0, 56, 155, 0, 7, 4, 167, 0, 4, 3, 172]
abbrev dktX12_isOfStub_6 : List UInt8 := dkwX12_isOfStub_6 ++ []
def dkwX12_isOfStub_5 : List UInt8 := [155, 0, 7, 4, 167, 0, 4, 3, 172, 42, 180, 0, 30, 184, 0, 53, 153, 0, 22, 43, 42, 180, 0, 21]
abbrev dktX12_isOfStub_5 : List UInt8 := dkwX12_isOfStub_5 ++ dktX12_isOfStub_6
def dkwX12_isOfStub_4 : List UInt8 := [184, 0, 46, 153, 0, 26, 43, 42, 180, 0, 21, 42, 180, 0, 30, 42, 180, 0, 43, 182, 0, 49]
abbrev dktX12_isOfStub_4 : List UInt8 := dkwX12_isOfStub_4 ++ dktX12_isOfStub_5
def dkwX12_isOfStub_3 : List UInt8 := [155, 0, 7, 4, 167, 0, 4, 3, 172, 42, 180, 0, 30, 184, 0, 40, 153, 0, 36, 42, 180, 0, 43]
abbrev dktX12_isOfStub_3 : List UInt8 := dkwX12_isOfStub_3 ++ dktX12_isOfStub_4
def dkwX12_isOfStub_2 : List UInt8 := [42, 180, 0, 30, 184, 0, 33, 153, 0, 22, 43, 42, 180, 0, 21, 42, 180, 0, 30, 182, 0, 36]
abbrev dktX12_isOfStub_2 : List UInt8 := dkwX12_isOfStub_2 ++ dktX12_isOfStub_3
def dkwX12_isOfStub_1 : List UInt8 := [171, 0, 0, 0, 0, 0, 0, 104, 0, 0, 0, 2, 0, 0, 0, 98, 0, 0, 0, 28, 0, 0, 0, 111, 0, 0, 0, 59]
abbrev dktX12_isOfStub_1 : List UInt8 := dkwX12_isOfStub_1 ++ dktX12_isOfStub_2
def dkwX12_isOfStub_0 : List UInt8 := [43, 180, 0, 15, 42, 180, 0, 21, 182, 0, 24, 154, 0, 5, 3, 172, 42, 180, 0, 9]
abbrev dktX12_isOfStub_0 : List UInt8 := dkwX12_isOfStub_0 ++ dktX12_isOfStub_1
theorem dksX12_isOfStub_0 : cX12_isOfStub.data.toList.drop 0 = dktX12_isOfStub_0 := by decide +kernel
theorem dksX12_isOfStub_1 : cX12_isOfStub.data.toList.drop 20 = dktX12_isOfStub_1 := dk_seg dksX12_isOfStub_0 20 rfl rfl
theorem dksX12_isOfStub_2 : cX12_isOfStub.data.toList.drop 48 = dktX12_isOfStub_2 := dk_seg dksX12_isOfStub_1 28 rfl rfl
theorem dksX12_isOfStub_3 : cX12_isOfStub.data.toList.drop 70 = dktX12_isOfStub_3 := dk_seg dksX12_isOfStub_2 22 rfl rfl
theorem dksX12_isOfStub_4 : cX12_isOfStub.data.toList.drop 93 = dktX12_isOfStub_4 := dk_seg dksX12_isOfStub_3 23 rfl rfl
theorem dksX12_isOfStub_5 : cX12_isOfStub.data.toList.drop 115 = dktX12_isOfStub_5 := dk_seg dksX12_isOfStub_4 22 rfl rfl
theorem dksX12_isOfStub_6 : cX12_isOfStub.data.toList.drop 139 = dktX12_isOfStub_6 := dk_seg dksX12_isOfStub_5 24 rfl rfl
theorem dX12_isOfStub_0 : decode cX12_isOfStub 0 = .ok (.aload_n 1, 1) := dk_43 (dk_at dksX12_isOfStub_0 0 rfl rfl)
theorem dX12_isOfStub_1 : decode cX12_isOfStub 1 = .ok (.getfield 15, 3) := dk_180 0 15 (dk_at dksX12_isOfStub_0 1 rfl rfl)
theorem dX12_isOfStub_4 : decode cX12_isOfStub 4 = .ok (.aload_n 0, 1) := dk_42 (dk_at dksX12_isOfStub_0 4 rfl rfl)
theorem dX12_isOfStub_5 : decode cX12_isOfStub 5 = .ok (.getfield 21, 3) := dk_180 0 21 (dk_at dksX12_isOfStub_0 5 rfl rfl)
theorem dX12_isOfStub_8 : decode cX12_isOfStub 8 = .ok (.invokevirtual 24, 3) := dk_182 0 24 (dk_at dksX12_isOfStub_0 8 rfl rfl)
theorem dX12_isOfStub_11 : decode cX12_isOfStub 11 = .ok (.ifCond .ne 5, 3) := dk_154 0 5 (dk_at dksX12_isOfStub_0 11 rfl rfl)
theorem dX12_isOfStub_14 : decode cX12_isOfStub 14 = .ok (.iconst 0, 1) := dk_3 (dk_at dksX12_isOfStub_0 14 rfl rfl)
theorem dX12_isOfStub_15 : decode cX12_isOfStub 15 = .ok (.ireturn, 1) := dk_172 (dk_at dksX12_isOfStub_0 15 rfl rfl)
theorem dX12_isOfStub_16 : decode cX12_isOfStub 16 = .ok (.aload_n 0, 1) := dk_42 (dk_at dksX12_isOfStub_0 16 rfl rfl)
theorem dX12_isOfStub_17 : decode cX12_isOfStub 17 = .ok (.getfield 9, 3) := dk_180 0 9 (dk_at dksX12_isOfStub_0 17 rfl rfl)
theorem dX12_isOfStub_20 : decode cX12_isOfStub 20 = .ok (.lookupswitch 104 #[(98, 28), (111, 59)], 28) := by decide +kernel
theorem dX12_isOfStub_48 : decode cX12_isOfStub 48 = .ok (.aload_n 0, 1) := dk_42 (dk_at dksX12_isOfStub_2 0 rfl rfl)
theorem dX12_isOfStub_49 : decode cX12_isOfStub 49 = .ok (.getfield 30, 3) := dk_180 0 30 (dk_at dksX12_isOfStub_2 1 rfl rfl)
theorem dX12_isOfStub_52 : decode cX12_isOfStub 52 = .ok (.invokestatic 33, 3) := dk_184 0 33 (dk_at dksX12_isOfStub_2 4 rfl rfl)
theorem dX12_isOfStub_55 : decode cX12_isOfStub 55 = .ok (.ifCond .eq 22, 3) := dk_153 0 22 (dk_at dksX12_isOfStub_2 7 rfl rfl)
theorem dX12_isOfStub_58 : decode cX12_isOfStub 58 = .ok (.aload_n 1, 1) := dk_43 (dk_at dksX12_isOfStub_2 10 rfl rfl)
theorem dX12_isOfStub_59 : decode cX12_isOfStub 59 = .ok (.aload_n 0, 1) := dk_42 (dk_at dksX12_isOfStub_2 11 rfl rfl)
theorem dX12_isOfStub_60 : decode cX12_isOfStub 60 = .ok (.getfield 21, 3) := dk_180 0 21 (dk_at dksX12_isOfStub_2 12 rfl rfl)
theorem dX12_isOfStub_63 : decode cX12_isOfStub 63 = .ok (.aload_n 0, 1) := dk_42 (dk_at dksX12_isOfStub_2 15 rfl rfl)
theorem dX12_isOfStub_64 : decode cX12_isOfStub 64 = .ok (.getfield 30, 3) := dk_180 0 30 (dk_at dksX12_isOfStub_2 16 rfl rfl)
theorem dX12_isOfStub_67 : decode cX12_isOfStub 67 = .ok (.invokevirtual 36, 3) := dk_182 0 36 (dk_at dksX12_isOfStub_2 19 rfl rfl)
theorem dX12_isOfStub_70 : decode cX12_isOfStub 70 = .ok (.ifCond .lt 7, 3) := dk_155 0 7 (dk_at dksX12_isOfStub_3 0 rfl rfl)
theorem dX12_isOfStub_73 : decode cX12_isOfStub 73 = .ok (.iconst 1, 1) := dk_4 (dk_at dksX12_isOfStub_3 3 rfl rfl)
theorem dX12_isOfStub_74 : decode cX12_isOfStub 74 = .ok (.goto 4, 3) := dk_167 0 4 (dk_at dksX12_isOfStub_3 4 rfl rfl)
theorem dX12_isOfStub_77 : decode cX12_isOfStub 77 = .ok (.iconst 0, 1) := dk_3 (dk_at dksX12_isOfStub_3 7 rfl rfl)
theorem dX12_isOfStub_78 : decode cX12_isOfStub 78 = .ok (.ireturn, 1) := dk_172 (dk_at dksX12_isOfStub_3 8 rfl rfl)
theorem dX12_isOfStub_79 : decode cX12_isOfStub 79 = .ok (.aload_n 0, 1) := dk_42 (dk_at dksX12_isOfStub_3 9 rfl rfl)
theorem dX12_isOfStub_80 : decode cX12_isOfStub 80 = .ok (.getfield 30, 3) := dk_180 0 30 (dk_at dksX12_isOfStub_3 10 rfl rfl)
theorem dX12_isOfStub_83 : decode cX12_isOfStub 83 = .ok (.invokestatic 40, 3) := dk_184 0 40 (dk_at dksX12_isOfStub_3 13 rfl rfl)
theorem dX12_isOfStub_86 : decode cX12_isOfStub 86 = .ok (.ifCond .eq 36, 3) := dk_153 0 36 (dk_at dksX12_isOfStub_3 16 rfl rfl)
theorem dX12_isOfStub_89 : decode cX12_isOfStub 89 = .ok (.aload_n 0, 1) := dk_42 (dk_at dksX12_isOfStub_3 19 rfl rfl)
theorem dX12_isOfStub_90 : decode cX12_isOfStub 90 = .ok (.getfield 43, 3) := dk_180 0 43 (dk_at dksX12_isOfStub_3 20 rfl rfl)
theorem dX12_isOfStub_93 : decode cX12_isOfStub 93 = .ok (.invokestatic 46, 3) := dk_184 0 46 (dk_at dksX12_isOfStub_4 0 rfl rfl)
theorem dX12_isOfStub_96 : decode cX12_isOfStub 96 = .ok (.ifCond .eq 26, 3) := dk_153 0 26 (dk_at dksX12_isOfStub_4 3 rfl rfl)
theorem dX12_isOfStub_99 : decode cX12_isOfStub 99 = .ok (.aload_n 1, 1) := dk_43 (dk_at dksX12_isOfStub_4 6 rfl rfl)
theorem dX12_isOfStub_100 : decode cX12_isOfStub 100 = .ok (.aload_n 0, 1) := dk_42 (dk_at dksX12_isOfStub_4 7 rfl rfl)
theorem dX12_isOfStub_101 : decode cX12_isOfStub 101 = .ok (.getfield 21, 3) := dk_180 0 21 (dk_at dksX12_isOfStub_4 8 rfl rfl)
theorem dX12_isOfStub_104 : decode cX12_isOfStub 104 = .ok (.aload_n 0, 1) := dk_42 (dk_at dksX12_isOfStub_4 11 rfl rfl)
theorem dX12_isOfStub_105 : decode cX12_isOfStub 105 = .ok (.getfield 30, 3) := dk_180 0 30 (dk_at dksX12_isOfStub_4 12 rfl rfl)
theorem dX12_isOfStub_108 : decode cX12_isOfStub 108 = .ok (.aload_n 0, 1) := dk_42 (dk_at dksX12_isOfStub_4 15 rfl rfl)
theorem dX12_isOfStub_109 : decode cX12_isOfStub 109 = .ok (.getfield 43, 3) := dk_180 0 43 (dk_at dksX12_isOfStub_4 16 rfl rfl)
theorem dX12_isOfStub_112 : decode cX12_isOfStub 112 = .ok (.invokevirtual 49, 3) := dk_182 0 49 (dk_at dksX12_isOfStub_4 19 rfl rfl)
theorem dX12_isOfStub_115 : decode cX12_isOfStub 115 = .ok (.ifCond .lt 7, 3) := dk_155 0 7 (dk_at dksX12_isOfStub_5 0 rfl rfl)
theorem dX12_isOfStub_118 : decode cX12_isOfStub 118 = .ok (.iconst 1, 1) := dk_4 (dk_at dksX12_isOfStub_5 3 rfl rfl)
theorem dX12_isOfStub_119 : decode cX12_isOfStub 119 = .ok (.goto 4, 3) := dk_167 0 4 (dk_at dksX12_isOfStub_5 4 rfl rfl)
theorem dX12_isOfStub_122 : decode cX12_isOfStub 122 = .ok (.iconst 0, 1) := dk_3 (dk_at dksX12_isOfStub_5 7 rfl rfl)
theorem dX12_isOfStub_123 : decode cX12_isOfStub 123 = .ok (.ireturn, 1) := dk_172 (dk_at dksX12_isOfStub_5 8 rfl rfl)
theorem dX12_isOfStub_124 : decode cX12_isOfStub 124 = .ok (.aload_n 0, 1) := dk_42 (dk_at dksX12_isOfStub_5 9 rfl rfl)
theorem dX12_isOfStub_125 : decode cX12_isOfStub 125 = .ok (.getfield 30, 3) := dk_180 0 30 (dk_at dksX12_isOfStub_5 10 rfl rfl)
theorem dX12_isOfStub_128 : decode cX12_isOfStub 128 = .ok (.invokestatic 53, 3) := dk_184 0 53 (dk_at dksX12_isOfStub_5 13 rfl rfl)
theorem dX12_isOfStub_131 : decode cX12_isOfStub 131 = .ok (.ifCond .eq 22, 3) := dk_153 0 22 (dk_at dksX12_isOfStub_5 16 rfl rfl)
theorem dX12_isOfStub_134 : decode cX12_isOfStub 134 = .ok (.aload_n 1, 1) := dk_43 (dk_at dksX12_isOfStub_5 19 rfl rfl)
theorem dX12_isOfStub_135 : decode cX12_isOfStub 135 = .ok (.aload_n 0, 1) := dk_42 (dk_at dksX12_isOfStub_5 20 rfl rfl)
theorem dX12_isOfStub_136 : decode cX12_isOfStub 136 = .ok (.getfield 21, 3) := dk_180 0 21 (dk_at dksX12_isOfStub_5 21 rfl rfl)
theorem dX12_isOfStub_139 : decode cX12_isOfStub 139 = .ok (.aload_n 0, 1) := dk_42 (dk_at dksX12_isOfStub_6 0 rfl rfl)
theorem dX12_isOfStub_140 : decode cX12_isOfStub 140 = .ok (.getfield 30, 3) := dk_180 0 30 (dk_at dksX12_isOfStub_6 1 rfl rfl)
theorem dX12_isOfStub_143 : decode cX12_isOfStub 143 = .ok (.invokevirtual 56, 3) := dk_182 0 56 (dk_at dksX12_isOfStub_6 4 rfl rfl)
theorem dX12_isOfStub_146 : decode cX12_isOfStub 146 = .ok (.ifCond .lt 7, 3) := dk_155 0 7 (dk_at dksX12_isOfStub_6 7 rfl rfl)
theorem dX12_isOfStub_149 : decode cX12_isOfStub 149 = .ok (.iconst 1, 1) := dk_4 (dk_at dksX12_isOfStub_6 10 rfl rfl)
theorem dX12_isOfStub_150 : decode cX12_isOfStub 150 = .ok (.goto 4, 3) := dk_167 0 4 (dk_at dksX12_isOfStub_6 11 rfl rfl)
theorem dX12_isOfStub_153 : decode cX12_isOfStub 153 = .ok (.iconst 0, 1) := dk_3 (dk_at dksX12_isOfStub_6 14 rfl rfl)
theorem dX12_isOfStub_154 : decode cX12_isOfStub 154 = .ok (.ireturn, 1) := dk_172 (dk_at dksX12_isOfStub_6 15 rfl rfl)
abbrev cX12_isOfHouse : ByteArray := prog_3_method_3_code
def yX12_isOfHouse : MethodName := ⟨RX12, "isOfHouse", "(LCandleStatute$Statute;)Z"⟩
def dkwX12_isOfHouse_10 : List UInt8 := [43, 42, 180, 0, 21, 182, 0, 83, 155, 0, 7, 4, 167, 0, 4, 3, 172]
abbrev dktX12_isOfHouse_10 : List UInt8 := dkwX12_isOfHouse_10 ++ []
def dkwX12_isOfHouse_9 : List UInt8 := [153, 0, 22, 43, 42, 180, 0, 21, 42, 180, 0, 30, 182, 0, 80, 155, 0, 7, 4, 167, 0, 4, 3, 172]
abbrev dktX12_isOfHouse_9 : List UInt8 := dkwX12_isOfHouse_9 ++ dktX12_isOfHouse_10
def dkwX12_isOfHouse_8 : List UInt8 := [180, 0, 43, 182, 0, 77, 155, 0, 7, 4, 167, 0, 4, 3, 172, 42, 180, 0, 30, 184, 0, 40]
abbrev dktX12_isOfHouse_8 : List UInt8 := dkwX12_isOfHouse_8 ++ dktX12_isOfHouse_9
def dkwX12_isOfHouse_7 : List UInt8 := [153, 0, 36, 42, 180, 0, 43, 184, 0, 74, 153, 0, 26, 43, 42, 180, 0, 21, 42, 180, 0, 30, 42]
abbrev dktX12_isOfHouse_7 : List UInt8 := dkwX12_isOfHouse_7 ++ dktX12_isOfHouse_8
def dkwX12_isOfHouse_6 : List UInt8 := [182, 0, 71, 155, 0, 7, 4, 167, 0, 4, 3, 172, 43, 180, 0, 15, 42, 180, 0, 30, 182, 0, 24]
abbrev dktX12_isOfHouse_6 : List UInt8 := dkwX12_isOfHouse_6 ++ dktX12_isOfHouse_7
def dkwX12_isOfHouse_5 : List UInt8 := [153, 0, 33, 43, 187, 0, 62, 89, 42, 180, 0, 21, 42, 180, 0, 30, 42, 180, 0, 43, 183, 0, 64]
abbrev dktX12_isOfHouse_5 : List UInt8 := dkwX12_isOfHouse_5 ++ dktX12_isOfHouse_6
def dkwX12_isOfHouse_4 : List UInt8 := [167, 0, 4, 3, 172, 42, 180, 0, 30, 184, 0, 53, 153, 0, 43, 42, 180, 0, 43, 184, 0, 59]
abbrev dktX12_isOfHouse_4 : List UInt8 := dkwX12_isOfHouse_4 ++ dktX12_isOfHouse_5
def dkwX12_isOfHouse_3 : List UInt8 := [89, 42, 180, 0, 21, 42, 180, 0, 30, 42, 180, 0, 43, 183, 0, 64, 182, 0, 67, 155, 0, 7, 4]
abbrev dktX12_isOfHouse_3 : List UInt8 := dkwX12_isOfHouse_3 ++ dktX12_isOfHouse_4
def dkwX12_isOfHouse_2 : List UInt8 := [42, 180, 0, 30, 184, 0, 53, 153, 0, 43, 42, 180, 0, 43, 184, 0, 59, 153, 0, 33, 43, 187, 0, 62]
abbrev dktX12_isOfHouse_2 : List UInt8 := dkwX12_isOfHouse_2 ++ dktX12_isOfHouse_3
def dkwX12_isOfHouse_1 : List UInt8 := [171, 0, 0, 0, 0, 0, 0, 228, 0, 0, 0, 4, 0, 0, 0, 104, 0, 0, 0, 197, 0, 0, 0, 109, 0, 0, 0, 96, 0, 0, 0, 115, 0, 0, 0, 44, 0, 0, 0, 119, 0, 0, 0, 148]
abbrev dktX12_isOfHouse_1 : List UInt8 := dkwX12_isOfHouse_1 ++ dktX12_isOfHouse_2
def dkwX12_isOfHouse_0 : List UInt8 := [42, 180, 0, 21, 184, 0, 40, 154, 0, 5, 3, 172, 42, 180, 0, 9]
abbrev dktX12_isOfHouse_0 : List UInt8 := dkwX12_isOfHouse_0 ++ dktX12_isOfHouse_1
theorem dksX12_isOfHouse_0 : cX12_isOfHouse.data.toList.drop 0 = dktX12_isOfHouse_0 := by decide +kernel
theorem dksX12_isOfHouse_1 : cX12_isOfHouse.data.toList.drop 16 = dktX12_isOfHouse_1 := dk_seg dksX12_isOfHouse_0 16 rfl rfl
theorem dksX12_isOfHouse_2 : cX12_isOfHouse.data.toList.drop 60 = dktX12_isOfHouse_2 := dk_seg dksX12_isOfHouse_1 44 rfl rfl
theorem dksX12_isOfHouse_3 : cX12_isOfHouse.data.toList.drop 84 = dktX12_isOfHouse_3 := dk_seg dksX12_isOfHouse_2 24 rfl rfl
theorem dksX12_isOfHouse_4 : cX12_isOfHouse.data.toList.drop 107 = dktX12_isOfHouse_4 := dk_seg dksX12_isOfHouse_3 23 rfl rfl
theorem dksX12_isOfHouse_5 : cX12_isOfHouse.data.toList.drop 129 = dktX12_isOfHouse_5 := dk_seg dksX12_isOfHouse_4 22 rfl rfl
theorem dksX12_isOfHouse_6 : cX12_isOfHouse.data.toList.drop 152 = dktX12_isOfHouse_6 := dk_seg dksX12_isOfHouse_5 23 rfl rfl
theorem dksX12_isOfHouse_7 : cX12_isOfHouse.data.toList.drop 175 = dktX12_isOfHouse_7 := dk_seg dksX12_isOfHouse_6 23 rfl rfl
theorem dksX12_isOfHouse_8 : cX12_isOfHouse.data.toList.drop 198 = dktX12_isOfHouse_8 := dk_seg dksX12_isOfHouse_7 23 rfl rfl
theorem dksX12_isOfHouse_9 : cX12_isOfHouse.data.toList.drop 220 = dktX12_isOfHouse_9 := dk_seg dksX12_isOfHouse_8 22 rfl rfl
theorem dksX12_isOfHouse_10 : cX12_isOfHouse.data.toList.drop 244 = dktX12_isOfHouse_10 := dk_seg dksX12_isOfHouse_9 24 rfl rfl
theorem dX12_isOfHouse_0 : decode cX12_isOfHouse 0 = .ok (.aload_n 0, 1) := dk_42 (dk_at dksX12_isOfHouse_0 0 rfl rfl)
theorem dX12_isOfHouse_1 : decode cX12_isOfHouse 1 = .ok (.getfield 21, 3) := dk_180 0 21 (dk_at dksX12_isOfHouse_0 1 rfl rfl)
theorem dX12_isOfHouse_4 : decode cX12_isOfHouse 4 = .ok (.invokestatic 40, 3) := dk_184 0 40 (dk_at dksX12_isOfHouse_0 4 rfl rfl)
theorem dX12_isOfHouse_7 : decode cX12_isOfHouse 7 = .ok (.ifCond .ne 5, 3) := dk_154 0 5 (dk_at dksX12_isOfHouse_0 7 rfl rfl)
theorem dX12_isOfHouse_10 : decode cX12_isOfHouse 10 = .ok (.iconst 0, 1) := dk_3 (dk_at dksX12_isOfHouse_0 10 rfl rfl)
theorem dX12_isOfHouse_11 : decode cX12_isOfHouse 11 = .ok (.ireturn, 1) := dk_172 (dk_at dksX12_isOfHouse_0 11 rfl rfl)
theorem dX12_isOfHouse_12 : decode cX12_isOfHouse 12 = .ok (.aload_n 0, 1) := dk_42 (dk_at dksX12_isOfHouse_0 12 rfl rfl)
theorem dX12_isOfHouse_13 : decode cX12_isOfHouse 13 = .ok (.getfield 9, 3) := dk_180 0 9 (dk_at dksX12_isOfHouse_0 13 rfl rfl)
theorem dX12_isOfHouse_16 : decode cX12_isOfHouse 16 = .ok (.lookupswitch 228 #[(104, 197), (109, 96), (115, 44), (119, 148)], 44) := by decide +kernel
theorem dX12_isOfHouse_60 : decode cX12_isOfHouse 60 = .ok (.aload_n 0, 1) := dk_42 (dk_at dksX12_isOfHouse_2 0 rfl rfl)
theorem dX12_isOfHouse_61 : decode cX12_isOfHouse 61 = .ok (.getfield 30, 3) := dk_180 0 30 (dk_at dksX12_isOfHouse_2 1 rfl rfl)
theorem dX12_isOfHouse_64 : decode cX12_isOfHouse 64 = .ok (.invokestatic 53, 3) := dk_184 0 53 (dk_at dksX12_isOfHouse_2 4 rfl rfl)
theorem dX12_isOfHouse_67 : decode cX12_isOfHouse 67 = .ok (.ifCond .eq 43, 3) := dk_153 0 43 (dk_at dksX12_isOfHouse_2 7 rfl rfl)
theorem dX12_isOfHouse_70 : decode cX12_isOfHouse 70 = .ok (.aload_n 0, 1) := dk_42 (dk_at dksX12_isOfHouse_2 10 rfl rfl)
theorem dX12_isOfHouse_71 : decode cX12_isOfHouse 71 = .ok (.getfield 43, 3) := dk_180 0 43 (dk_at dksX12_isOfHouse_2 11 rfl rfl)
theorem dX12_isOfHouse_74 : decode cX12_isOfHouse 74 = .ok (.invokestatic 59, 3) := dk_184 0 59 (dk_at dksX12_isOfHouse_2 14 rfl rfl)
theorem dX12_isOfHouse_77 : decode cX12_isOfHouse 77 = .ok (.ifCond .eq 33, 3) := dk_153 0 33 (dk_at dksX12_isOfHouse_2 17 rfl rfl)
theorem dX12_isOfHouse_80 : decode cX12_isOfHouse 80 = .ok (.aload_n 1, 1) := dk_43 (dk_at dksX12_isOfHouse_2 20 rfl rfl)
theorem dX12_isOfHouse_81 : decode cX12_isOfHouse 81 = .ok (.new 62, 3) := dk_187 0 62 (dk_at dksX12_isOfHouse_2 21 rfl rfl)
theorem dX12_isOfHouse_84 : decode cX12_isOfHouse 84 = .ok (.dup, 1) := dk_89 (dk_at dksX12_isOfHouse_3 0 rfl rfl)
theorem dX12_isOfHouse_85 : decode cX12_isOfHouse 85 = .ok (.aload_n 0, 1) := dk_42 (dk_at dksX12_isOfHouse_3 1 rfl rfl)
theorem dX12_isOfHouse_86 : decode cX12_isOfHouse 86 = .ok (.getfield 21, 3) := dk_180 0 21 (dk_at dksX12_isOfHouse_3 2 rfl rfl)
theorem dX12_isOfHouse_89 : decode cX12_isOfHouse 89 = .ok (.aload_n 0, 1) := dk_42 (dk_at dksX12_isOfHouse_3 5 rfl rfl)
theorem dX12_isOfHouse_90 : decode cX12_isOfHouse 90 = .ok (.getfield 30, 3) := dk_180 0 30 (dk_at dksX12_isOfHouse_3 6 rfl rfl)
theorem dX12_isOfHouse_93 : decode cX12_isOfHouse 93 = .ok (.aload_n 0, 1) := dk_42 (dk_at dksX12_isOfHouse_3 9 rfl rfl)
theorem dX12_isOfHouse_94 : decode cX12_isOfHouse 94 = .ok (.getfield 43, 3) := dk_180 0 43 (dk_at dksX12_isOfHouse_3 10 rfl rfl)
theorem dX12_isOfHouse_97 : decode cX12_isOfHouse 97 = .ok (.invokespecial 64, 3) := dk_183 0 64 (dk_at dksX12_isOfHouse_3 13 rfl rfl)
theorem dX12_isOfHouse_100 : decode cX12_isOfHouse 100 = .ok (.invokevirtual 67, 3) := dk_182 0 67 (dk_at dksX12_isOfHouse_3 16 rfl rfl)
theorem dX12_isOfHouse_103 : decode cX12_isOfHouse 103 = .ok (.ifCond .lt 7, 3) := dk_155 0 7 (dk_at dksX12_isOfHouse_3 19 rfl rfl)
theorem dX12_isOfHouse_106 : decode cX12_isOfHouse 106 = .ok (.iconst 1, 1) := dk_4 (dk_at dksX12_isOfHouse_3 22 rfl rfl)
theorem dX12_isOfHouse_107 : decode cX12_isOfHouse 107 = .ok (.goto 4, 3) := dk_167 0 4 (dk_at dksX12_isOfHouse_4 0 rfl rfl)
theorem dX12_isOfHouse_110 : decode cX12_isOfHouse 110 = .ok (.iconst 0, 1) := dk_3 (dk_at dksX12_isOfHouse_4 3 rfl rfl)
theorem dX12_isOfHouse_111 : decode cX12_isOfHouse 111 = .ok (.ireturn, 1) := dk_172 (dk_at dksX12_isOfHouse_4 4 rfl rfl)
theorem dX12_isOfHouse_112 : decode cX12_isOfHouse 112 = .ok (.aload_n 0, 1) := dk_42 (dk_at dksX12_isOfHouse_4 5 rfl rfl)
theorem dX12_isOfHouse_113 : decode cX12_isOfHouse 113 = .ok (.getfield 30, 3) := dk_180 0 30 (dk_at dksX12_isOfHouse_4 6 rfl rfl)
theorem dX12_isOfHouse_116 : decode cX12_isOfHouse 116 = .ok (.invokestatic 53, 3) := dk_184 0 53 (dk_at dksX12_isOfHouse_4 9 rfl rfl)
theorem dX12_isOfHouse_119 : decode cX12_isOfHouse 119 = .ok (.ifCond .eq 43, 3) := dk_153 0 43 (dk_at dksX12_isOfHouse_4 12 rfl rfl)
theorem dX12_isOfHouse_122 : decode cX12_isOfHouse 122 = .ok (.aload_n 0, 1) := dk_42 (dk_at dksX12_isOfHouse_4 15 rfl rfl)
theorem dX12_isOfHouse_123 : decode cX12_isOfHouse 123 = .ok (.getfield 43, 3) := dk_180 0 43 (dk_at dksX12_isOfHouse_4 16 rfl rfl)
theorem dX12_isOfHouse_126 : decode cX12_isOfHouse 126 = .ok (.invokestatic 59, 3) := dk_184 0 59 (dk_at dksX12_isOfHouse_4 19 rfl rfl)
theorem dX12_isOfHouse_129 : decode cX12_isOfHouse 129 = .ok (.ifCond .eq 33, 3) := dk_153 0 33 (dk_at dksX12_isOfHouse_5 0 rfl rfl)
theorem dX12_isOfHouse_132 : decode cX12_isOfHouse 132 = .ok (.aload_n 1, 1) := dk_43 (dk_at dksX12_isOfHouse_5 3 rfl rfl)
theorem dX12_isOfHouse_133 : decode cX12_isOfHouse 133 = .ok (.new 62, 3) := dk_187 0 62 (dk_at dksX12_isOfHouse_5 4 rfl rfl)
theorem dX12_isOfHouse_136 : decode cX12_isOfHouse 136 = .ok (.dup, 1) := dk_89 (dk_at dksX12_isOfHouse_5 7 rfl rfl)
theorem dX12_isOfHouse_137 : decode cX12_isOfHouse 137 = .ok (.aload_n 0, 1) := dk_42 (dk_at dksX12_isOfHouse_5 8 rfl rfl)
theorem dX12_isOfHouse_138 : decode cX12_isOfHouse 138 = .ok (.getfield 21, 3) := dk_180 0 21 (dk_at dksX12_isOfHouse_5 9 rfl rfl)
theorem dX12_isOfHouse_141 : decode cX12_isOfHouse 141 = .ok (.aload_n 0, 1) := dk_42 (dk_at dksX12_isOfHouse_5 12 rfl rfl)
theorem dX12_isOfHouse_142 : decode cX12_isOfHouse 142 = .ok (.getfield 30, 3) := dk_180 0 30 (dk_at dksX12_isOfHouse_5 13 rfl rfl)
theorem dX12_isOfHouse_145 : decode cX12_isOfHouse 145 = .ok (.aload_n 0, 1) := dk_42 (dk_at dksX12_isOfHouse_5 16 rfl rfl)
theorem dX12_isOfHouse_146 : decode cX12_isOfHouse 146 = .ok (.getfield 43, 3) := dk_180 0 43 (dk_at dksX12_isOfHouse_5 17 rfl rfl)
theorem dX12_isOfHouse_149 : decode cX12_isOfHouse 149 = .ok (.invokespecial 64, 3) := dk_183 0 64 (dk_at dksX12_isOfHouse_5 20 rfl rfl)
theorem dX12_isOfHouse_152 : decode cX12_isOfHouse 152 = .ok (.invokevirtual 71, 3) := dk_182 0 71 (dk_at dksX12_isOfHouse_6 0 rfl rfl)
theorem dX12_isOfHouse_155 : decode cX12_isOfHouse 155 = .ok (.ifCond .lt 7, 3) := dk_155 0 7 (dk_at dksX12_isOfHouse_6 3 rfl rfl)
theorem dX12_isOfHouse_158 : decode cX12_isOfHouse 158 = .ok (.iconst 1, 1) := dk_4 (dk_at dksX12_isOfHouse_6 6 rfl rfl)
theorem dX12_isOfHouse_159 : decode cX12_isOfHouse 159 = .ok (.goto 4, 3) := dk_167 0 4 (dk_at dksX12_isOfHouse_6 7 rfl rfl)
theorem dX12_isOfHouse_162 : decode cX12_isOfHouse 162 = .ok (.iconst 0, 1) := dk_3 (dk_at dksX12_isOfHouse_6 10 rfl rfl)
theorem dX12_isOfHouse_163 : decode cX12_isOfHouse 163 = .ok (.ireturn, 1) := dk_172 (dk_at dksX12_isOfHouse_6 11 rfl rfl)
theorem dX12_isOfHouse_164 : decode cX12_isOfHouse 164 = .ok (.aload_n 1, 1) := dk_43 (dk_at dksX12_isOfHouse_6 12 rfl rfl)
theorem dX12_isOfHouse_165 : decode cX12_isOfHouse 165 = .ok (.getfield 15, 3) := dk_180 0 15 (dk_at dksX12_isOfHouse_6 13 rfl rfl)
theorem dX12_isOfHouse_168 : decode cX12_isOfHouse 168 = .ok (.aload_n 0, 1) := dk_42 (dk_at dksX12_isOfHouse_6 16 rfl rfl)
theorem dX12_isOfHouse_169 : decode cX12_isOfHouse 169 = .ok (.getfield 30, 3) := dk_180 0 30 (dk_at dksX12_isOfHouse_6 17 rfl rfl)
theorem dX12_isOfHouse_172 : decode cX12_isOfHouse 172 = .ok (.invokevirtual 24, 3) := dk_182 0 24 (dk_at dksX12_isOfHouse_6 20 rfl rfl)
theorem dX12_isOfHouse_175 : decode cX12_isOfHouse 175 = .ok (.ifCond .eq 36, 3) := dk_153 0 36 (dk_at dksX12_isOfHouse_7 0 rfl rfl)
theorem dX12_isOfHouse_178 : decode cX12_isOfHouse 178 = .ok (.aload_n 0, 1) := dk_42 (dk_at dksX12_isOfHouse_7 3 rfl rfl)
theorem dX12_isOfHouse_179 : decode cX12_isOfHouse 179 = .ok (.getfield 43, 3) := dk_180 0 43 (dk_at dksX12_isOfHouse_7 4 rfl rfl)
theorem dX12_isOfHouse_182 : decode cX12_isOfHouse 182 = .ok (.invokestatic 74, 3) := dk_184 0 74 (dk_at dksX12_isOfHouse_7 7 rfl rfl)
theorem dX12_isOfHouse_185 : decode cX12_isOfHouse 185 = .ok (.ifCond .eq 26, 3) := dk_153 0 26 (dk_at dksX12_isOfHouse_7 10 rfl rfl)
theorem dX12_isOfHouse_188 : decode cX12_isOfHouse 188 = .ok (.aload_n 1, 1) := dk_43 (dk_at dksX12_isOfHouse_7 13 rfl rfl)
theorem dX12_isOfHouse_189 : decode cX12_isOfHouse 189 = .ok (.aload_n 0, 1) := dk_42 (dk_at dksX12_isOfHouse_7 14 rfl rfl)
theorem dX12_isOfHouse_190 : decode cX12_isOfHouse 190 = .ok (.getfield 21, 3) := dk_180 0 21 (dk_at dksX12_isOfHouse_7 15 rfl rfl)
theorem dX12_isOfHouse_193 : decode cX12_isOfHouse 193 = .ok (.aload_n 0, 1) := dk_42 (dk_at dksX12_isOfHouse_7 18 rfl rfl)
theorem dX12_isOfHouse_194 : decode cX12_isOfHouse 194 = .ok (.getfield 30, 3) := dk_180 0 30 (dk_at dksX12_isOfHouse_7 19 rfl rfl)
theorem dX12_isOfHouse_197 : decode cX12_isOfHouse 197 = .ok (.aload_n 0, 1) := dk_42 (dk_at dksX12_isOfHouse_7 22 rfl rfl)
theorem dX12_isOfHouse_198 : decode cX12_isOfHouse 198 = .ok (.getfield 43, 3) := dk_180 0 43 (dk_at dksX12_isOfHouse_8 0 rfl rfl)
theorem dX12_isOfHouse_201 : decode cX12_isOfHouse 201 = .ok (.invokevirtual 77, 3) := dk_182 0 77 (dk_at dksX12_isOfHouse_8 3 rfl rfl)
theorem dX12_isOfHouse_204 : decode cX12_isOfHouse 204 = .ok (.ifCond .lt 7, 3) := dk_155 0 7 (dk_at dksX12_isOfHouse_8 6 rfl rfl)
theorem dX12_isOfHouse_207 : decode cX12_isOfHouse 207 = .ok (.iconst 1, 1) := dk_4 (dk_at dksX12_isOfHouse_8 9 rfl rfl)
theorem dX12_isOfHouse_208 : decode cX12_isOfHouse 208 = .ok (.goto 4, 3) := dk_167 0 4 (dk_at dksX12_isOfHouse_8 10 rfl rfl)
theorem dX12_isOfHouse_211 : decode cX12_isOfHouse 211 = .ok (.iconst 0, 1) := dk_3 (dk_at dksX12_isOfHouse_8 13 rfl rfl)
theorem dX12_isOfHouse_212 : decode cX12_isOfHouse 212 = .ok (.ireturn, 1) := dk_172 (dk_at dksX12_isOfHouse_8 14 rfl rfl)
theorem dX12_isOfHouse_213 : decode cX12_isOfHouse 213 = .ok (.aload_n 0, 1) := dk_42 (dk_at dksX12_isOfHouse_8 15 rfl rfl)
theorem dX12_isOfHouse_214 : decode cX12_isOfHouse 214 = .ok (.getfield 30, 3) := dk_180 0 30 (dk_at dksX12_isOfHouse_8 16 rfl rfl)
theorem dX12_isOfHouse_217 : decode cX12_isOfHouse 217 = .ok (.invokestatic 40, 3) := dk_184 0 40 (dk_at dksX12_isOfHouse_8 19 rfl rfl)
theorem dX12_isOfHouse_220 : decode cX12_isOfHouse 220 = .ok (.ifCond .eq 22, 3) := dk_153 0 22 (dk_at dksX12_isOfHouse_9 0 rfl rfl)
theorem dX12_isOfHouse_223 : decode cX12_isOfHouse 223 = .ok (.aload_n 1, 1) := dk_43 (dk_at dksX12_isOfHouse_9 3 rfl rfl)
theorem dX12_isOfHouse_224 : decode cX12_isOfHouse 224 = .ok (.aload_n 0, 1) := dk_42 (dk_at dksX12_isOfHouse_9 4 rfl rfl)
theorem dX12_isOfHouse_225 : decode cX12_isOfHouse 225 = .ok (.getfield 21, 3) := dk_180 0 21 (dk_at dksX12_isOfHouse_9 5 rfl rfl)
theorem dX12_isOfHouse_228 : decode cX12_isOfHouse 228 = .ok (.aload_n 0, 1) := dk_42 (dk_at dksX12_isOfHouse_9 8 rfl rfl)
theorem dX12_isOfHouse_229 : decode cX12_isOfHouse 229 = .ok (.getfield 30, 3) := dk_180 0 30 (dk_at dksX12_isOfHouse_9 9 rfl rfl)
theorem dX12_isOfHouse_232 : decode cX12_isOfHouse 232 = .ok (.invokevirtual 80, 3) := dk_182 0 80 (dk_at dksX12_isOfHouse_9 12 rfl rfl)
theorem dX12_isOfHouse_235 : decode cX12_isOfHouse 235 = .ok (.ifCond .lt 7, 3) := dk_155 0 7 (dk_at dksX12_isOfHouse_9 15 rfl rfl)
theorem dX12_isOfHouse_238 : decode cX12_isOfHouse 238 = .ok (.iconst 1, 1) := dk_4 (dk_at dksX12_isOfHouse_9 18 rfl rfl)
theorem dX12_isOfHouse_239 : decode cX12_isOfHouse 239 = .ok (.goto 4, 3) := dk_167 0 4 (dk_at dksX12_isOfHouse_9 19 rfl rfl)
theorem dX12_isOfHouse_242 : decode cX12_isOfHouse 242 = .ok (.iconst 0, 1) := dk_3 (dk_at dksX12_isOfHouse_9 22 rfl rfl)
theorem dX12_isOfHouse_243 : decode cX12_isOfHouse 243 = .ok (.ireturn, 1) := dk_172 (dk_at dksX12_isOfHouse_9 23 rfl rfl)
theorem dX12_isOfHouse_244 : decode cX12_isOfHouse 244 = .ok (.aload_n 1, 1) := dk_43 (dk_at dksX12_isOfHouse_10 0 rfl rfl)
theorem dX12_isOfHouse_245 : decode cX12_isOfHouse 245 = .ok (.aload_n 0, 1) := dk_42 (dk_at dksX12_isOfHouse_10 1 rfl rfl)
theorem dX12_isOfHouse_246 : decode cX12_isOfHouse 246 = .ok (.getfield 21, 3) := dk_180 0 21 (dk_at dksX12_isOfHouse_10 2 rfl rfl)
theorem dX12_isOfHouse_249 : decode cX12_isOfHouse 249 = .ok (.invokevirtual 83, 3) := dk_182 0 83 (dk_at dksX12_isOfHouse_10 5 rfl rfl)
theorem dX12_isOfHouse_252 : decode cX12_isOfHouse 252 = .ok (.ifCond .lt 7, 3) := dk_155 0 7 (dk_at dksX12_isOfHouse_10 8 rfl rfl)
theorem dX12_isOfHouse_255 : decode cX12_isOfHouse 255 = .ok (.iconst 1, 1) := dk_4 (dk_at dksX12_isOfHouse_10 11 rfl rfl)
theorem dX12_isOfHouse_256 : decode cX12_isOfHouse 256 = .ok (.goto 4, 3) := dk_167 0 4 (dk_at dksX12_isOfHouse_10 12 rfl rfl)
theorem dX12_isOfHouse_259 : decode cX12_isOfHouse 259 = .ok (.iconst 0, 1) := dk_3 (dk_at dksX12_isOfHouse_10 15 rfl rfl)
theorem dX12_isOfHouse_260 : decode cX12_isOfHouse 260 = .ok (.ireturn, 1) := dk_172 (dk_at dksX12_isOfHouse_10 16 rfl rfl)
theorem q111 : (Jvm.Cond.initialized "CandleStatute$Command") ∈ lw_all := lw_g (lw_at lw_m1 33 rfl) rfl
theorem q179 : (Jvm.Cond.fieldLinkNest "CandleStatute$Command" (15 : Nat) "CandleStatute$Statute" "stubs" "LCandleStatute$Row;" "CandleStatute") ∈ lw_tbl := lw_at lw_m1 101 rfl
theorem q270 : (Jvm.Cond.selects "CandleStatute$Command" ({ cls := "java/lang/Object", name := "getClass", desc := "()Ljava/lang/Class;" } : Jvm.MethodName) ({ cls := "java/lang/Object", name := "getClass", desc := "()Ljava/lang/Class;" } : Jvm.MethodName)) ∈ lw_all := lw_g (lw_at lw_m1 192 rfl) rfl
theorem q1248 : (Jvm.Cond.instantiable "CandleStatute$Command" (4 : Nat)) ∈ lw_all := lw_g (lw_at lw_m5 210 rfl) rfl
theorem q1250 : (Jvm.Cond.instanceMethod ({ cls := "CandleStatute$Command", name := "<init>", desc := "(I)V" } : Jvm.MethodName)) ∈ lw_all := lw_g (lw_at lw_m5 212 rfl) rfl
theorem q1251 : (Jvm.Cond.code ({ cls := "CandleStatute$Command", name := "<init>", desc := "(I)V" } : Jvm.MethodName) prog_3_method_1_code (2 : Nat) (Option.none : Option Jvm.ClassFile.FieldType)) ∈ lw_all := lw_g (lw_at lw_m5 213 rfl) rfl
theorem q1252 : (Jvm.Cond.methodLink "CandleStatute$Command" (3 : Nat) ({ cls := "java/lang/Object", name := "<init>", desc := "()V" } : Jvm.MethodName)) ∈ lw_all := lw_g (lw_at lw_m5 214 rfl) rfl
theorem q1253 : (Jvm.Cond.fieldLink "CandleStatute$Command" (9 : Nat) "CandleStatute$Command" "kind" "I") ∈ lw_all := lw_g (lw_at lw_m5 215 rfl) rfl
theorem q1255 : (Jvm.Cond.fieldLink "CandleStatute$Command" (21 : Nat) "CandleStatute$Command" "one" "I") ∈ lw_all := lw_g (lw_at lw_m5 217 rfl) rfl
theorem q1257 : (Jvm.Cond.fieldLink "CandleStatute$Command" (30 : Nat) "CandleStatute$Command" "two" "I") ∈ lw_all := lw_g (lw_at lw_m5 219 rfl) rfl
theorem q1259 : (Jvm.Cond.fieldLink "CandleStatute$Command" (43 : Nat) "CandleStatute$Command" "three" "I") ∈ lw_all := lw_g (lw_at lw_m5 221 rfl) rfl
theorem q1261 : (Jvm.Cond.laysFinal "CandleStatute$Command" "CandleStatute$Command" "kind" "I") ∈ lw_all := lw_g (lw_at lw_m5 223 rfl) rfl
theorem q1262 : (Jvm.Cond.soleField "CandleStatute$Command" "kind") ∈ lw_all := lw_g (lw_at lw_m5 224 rfl) rfl
theorem q1263 : (Jvm.Cond.lays "CandleStatute$Command" "CandleStatute$Command" "one" "I") ∈ lw_all := lw_g (lw_at lw_m5 225 rfl) rfl
theorem q1264 : (Jvm.Cond.soleField "CandleStatute$Command" "one") ∈ lw_all := lw_g (lw_at lw_m5 226 rfl) rfl
theorem q1265 : (Jvm.Cond.lays "CandleStatute$Command" "CandleStatute$Command" "two" "I") ∈ lw_all := lw_g (lw_at lw_m5 227 rfl) rfl
theorem q1266 : (Jvm.Cond.soleField "CandleStatute$Command" "two") ∈ lw_all := lw_g (lw_at lw_m5 228 rfl) rfl
theorem q1267 : (Jvm.Cond.lays "CandleStatute$Command" "CandleStatute$Command" "three" "I") ∈ lw_all := lw_g (lw_at lw_m5 229 rfl) rfl
theorem q1268 : (Jvm.Cond.soleField "CandleStatute$Command" "three") ∈ lw_all := lw_g (lw_at lw_m5 230 rfl) rfl
theorem q1269 : (Jvm.Cond.superclass "CandleStatute$Command" "java/lang/Object") ∈ lw_all := lw_g (lw_at lw_m5 231 rfl) rfl
theorem q1338 : (Jvm.Cond.instanceMethod ({ cls := "CandleStatute$Command", name := "carryOut", desc := "(LCandleStatute$Statute;I)V" } : Jvm.MethodName)) ∈ lw_all := lw_g (lw_at lw_m6 60 rfl) rfl
theorem q1339 : (Jvm.Cond.selects "CandleStatute$Command" ({ cls := "CandleStatute$Command", name := "carryOut", desc := "(LCandleStatute$Statute;I)V" } : Jvm.MethodName) ({ cls := "CandleStatute$Command", name := "carryOut", desc := "(LCandleStatute$Statute;I)V" } : Jvm.MethodName)) ∈ lw_all := lw_g (lw_at lw_m6 61 rfl) rfl
theorem q1340 : (Jvm.Cond.codeWith ({ cls := "CandleStatute$Command", name := "carryOut", desc := "(LCandleStatute$Statute;I)V" } : Jvm.MethodName) prog_3_method_5_code (5 : Nat) (Option.none : Option Jvm.ClassFile.FieldType) [((2 : Nat), (8 : Nat), (11 : Nat), (104 : Nat))]) ∈ lw_all := lw_g (lw_at lw_m6 62 rfl) rfl
theorem q1341 : (Jvm.Cond.classLink "CandleStatute$Command" (104 : Nat) "CandleStatute$Refused") ∈ lw_all := lw_g (lw_at lw_m6 63 rfl) rfl
theorem q1342 : (Jvm.Cond.methodLink "CandleStatute$Command" (101 : Nat) ({ cls := "CandleStatute$Command", name := "isDone", desc := "(LCandleStatute$Statute;)Z" } : Jvm.MethodName)) ∈ lw_all := lw_g (lw_at lw_m6 64 rfl) rfl
theorem q1343 : (Jvm.Cond.privateMethod ({ cls := "CandleStatute$Command", name := "isDone", desc := "(LCandleStatute$Statute;)Z" } : Jvm.MethodName)) ∈ lw_tbl := lw_at lw_m6 65 rfl
theorem q1344 : (Jvm.Cond.instanceMethod ({ cls := "CandleStatute$Command", name := "isDone", desc := "(LCandleStatute$Statute;)Z" } : Jvm.MethodName)) ∈ lw_all := lw_g (lw_at lw_m6 66 rfl) rfl
theorem q1345 : (Jvm.Cond.code ({ cls := "CandleStatute$Command", name := "isDone", desc := "(LCandleStatute$Statute;)Z" } : Jvm.MethodName) prog_3_method_4_code (2 : Nat) (Option.some Jvm.ClassFile.FieldType.boolean)) ∈ lw_all := lw_g (lw_at lw_m6 67 rfl) rfl
theorem q1346 : (Jvm.Cond.methodLink "CandleStatute$Command" (87 : Nat) ({ cls := "CandleStatute$Statute", name := "shares", desc := "()I" } : Jvm.MethodName)) ∈ lw_all := lw_g (lw_at lw_m6 68 rfl) rfl
theorem q1347 : (Jvm.Cond.methodLinkNest "CandleStatute$Command" (74 : Nat) ({ cls := "CandleStatute", name := "isTime", desc := "(I)Z" } : Jvm.MethodName) "CandleStatute") ∈ lw_tbl := lw_at lw_m6 69 rfl
theorem q1348 : (Jvm.Cond.methodLink "CandleStatute$Command" (91 : Nat) ({ cls := "CandleStatute$Statute", name := "passes", desc := "(I)I" } : Jvm.MethodName)) ∈ lw_all := lw_g (lw_at lw_m6 70 rfl) rfl
theorem q1349 : (Jvm.Cond.methodLink "CandleStatute$Command" (94 : Nat) ({ cls := "CandleStatute$Command", name := "isOfStub", desc := "(LCandleStatute$Statute;)Z" } : Jvm.MethodName)) ∈ lw_all := lw_g (lw_at lw_m6 71 rfl) rfl
theorem q1350 : (Jvm.Cond.privateMethod ({ cls := "CandleStatute$Command", name := "isOfStub", desc := "(LCandleStatute$Statute;)Z" } : Jvm.MethodName)) ∈ lw_tbl := lw_at lw_m6 72 rfl
theorem q1351 : (Jvm.Cond.instanceMethod ({ cls := "CandleStatute$Command", name := "isOfStub", desc := "(LCandleStatute$Statute;)Z" } : Jvm.MethodName)) ∈ lw_all := lw_g (lw_at lw_m6 73 rfl) rfl
theorem q1352 : (Jvm.Cond.code ({ cls := "CandleStatute$Command", name := "isOfStub", desc := "(LCandleStatute$Statute;)Z" } : Jvm.MethodName) prog_3_method_2_code (2 : Nat) (Option.some Jvm.ClassFile.FieldType.boolean)) ∈ lw_all := lw_g (lw_at lw_m6 74 rfl) rfl
theorem q1353 : (Jvm.Cond.methodLink "CandleStatute$Command" (24 : Nat) ({ cls := "CandleStatute$Row", name := "has", desc := "(I)Z" } : Jvm.MethodName)) ∈ lw_all := lw_g (lw_at lw_m6 75 rfl) rfl
theorem q1354 : (Jvm.Cond.methodLinkNest "CandleStatute$Command" (33 : Nat) ({ cls := "CandleStatute", name := "isBurning", desc := "(I)Z" } : Jvm.MethodName) "CandleStatute") ∈ lw_tbl := lw_at lw_m6 76 rfl
theorem q1355 : (Jvm.Cond.methodLink "CandleStatute$Command" (36 : Nat) ({ cls := "CandleStatute$Statute", name := "burns", desc := "(II)I" } : Jvm.MethodName)) ∈ lw_all := lw_g (lw_at lw_m6 77 rfl) rfl
theorem q1356 : (Jvm.Cond.methodLinkNest "CandleStatute$Command" (40 : Nat) ({ cls := "CandleStatute", name := "isHouse", desc := "(I)Z" } : Jvm.MethodName) "CandleStatute") ∈ lw_tbl := lw_at lw_m6 78 rfl
theorem q1357 : (Jvm.Cond.methodLinkNest "CandleStatute$Command" (46 : Nat) ({ cls := "CandleStatute", name := "isLight", desc := "(I)Z" } : Jvm.MethodName) "CandleStatute") ∈ lw_tbl := lw_at lw_m6 79 rfl
theorem q1358 : (Jvm.Cond.methodLink "CandleStatute$Command" (49 : Nat) ({ cls := "CandleStatute$Statute", name := "owes", desc := "(III)I" } : Jvm.MethodName)) ∈ lw_all := lw_g (lw_at lw_m6 80 rfl) rfl
theorem q1359 : (Jvm.Cond.methodLinkNest "CandleStatute$Command" (53 : Nat) ({ cls := "CandleStatute", name := "isWax", desc := "(I)Z" } : Jvm.MethodName) "CandleStatute") ∈ lw_tbl := lw_at lw_m6 81 rfl
theorem q1360 : (Jvm.Cond.methodLink "CandleStatute$Command" (56 : Nat) ({ cls := "CandleStatute$Statute", name := "pools", desc := "(II)I" } : Jvm.MethodName)) ∈ lw_all := lw_g (lw_at lw_m6 82 rfl) rfl
theorem q1361 : (Jvm.Cond.methodLink "CandleStatute$Command" (98 : Nat) ({ cls := "CandleStatute$Command", name := "isOfHouse", desc := "(LCandleStatute$Statute;)Z" } : Jvm.MethodName)) ∈ lw_all := lw_g (lw_at lw_m6 83 rfl) rfl
theorem q1362 : (Jvm.Cond.privateMethod ({ cls := "CandleStatute$Command", name := "isOfHouse", desc := "(LCandleStatute$Statute;)Z" } : Jvm.MethodName)) ∈ lw_tbl := lw_at lw_m6 84 rfl
theorem q1363 : (Jvm.Cond.instanceMethod ({ cls := "CandleStatute$Command", name := "isOfHouse", desc := "(LCandleStatute$Statute;)Z" } : Jvm.MethodName)) ∈ lw_all := lw_g (lw_at lw_m6 85 rfl) rfl
theorem q1364 : (Jvm.Cond.code ({ cls := "CandleStatute$Command", name := "isOfHouse", desc := "(LCandleStatute$Statute;)Z" } : Jvm.MethodName) prog_3_method_3_code (2 : Nat) (Option.some Jvm.ClassFile.FieldType.boolean)) ∈ lw_all := lw_g (lw_at lw_m6 86 rfl) rfl
theorem q1365 : (Jvm.Cond.methodLinkNest "CandleStatute$Command" (59 : Nat) ({ cls := "CandleStatute", name := "isWick", desc := "(I)Z" } : Jvm.MethodName) "CandleStatute") ∈ lw_tbl := lw_at lw_m6 87 rfl
theorem q1366 : (Jvm.Cond.classLink "CandleStatute$Command" (62 : Nat) "CandleStatute$Stub") ∈ lw_all := lw_g (lw_at lw_m6 88 rfl) rfl
theorem q1367 : (Jvm.Cond.methodLink "CandleStatute$Command" (64 : Nat) ({ cls := "CandleStatute$Stub", name := "<init>", desc := "(III)V" } : Jvm.MethodName)) ∈ lw_all := lw_g (lw_at lw_m6 89 rfl) rfl
theorem q1368 : (Jvm.Cond.methodLink "CandleStatute$Command" (67 : Nat) ({ cls := "CandleStatute$Statute", name := "brings", desc := "(LCandleStatute$Stub;)I" } : Jvm.MethodName)) ∈ lw_all := lw_g (lw_at lw_m6 90 rfl) rfl
theorem q1369 : (Jvm.Cond.methodLink "CandleStatute$Command" (71 : Nat) ({ cls := "CandleStatute$Statute", name := "moulds", desc := "(LCandleStatute$Stub;)I" } : Jvm.MethodName)) ∈ lw_all := lw_g (lw_at lw_m6 91 rfl) rfl
theorem q1370 : (Jvm.Cond.methodLink "CandleStatute$Command" (77 : Nat) ({ cls := "CandleStatute$Statute", name := "snuffs", desc := "(III)I" } : Jvm.MethodName)) ∈ lw_all := lw_g (lw_at lw_m6 92 rfl) rfl
theorem q1371 : (Jvm.Cond.methodLink "CandleStatute$Command" (80 : Nat) ({ cls := "CandleStatute$Statute", name := "tellsHeir", desc := "(II)I" } : Jvm.MethodName)) ∈ lw_all := lw_g (lw_at lw_m6 93 rfl) rfl
theorem q1372 : (Jvm.Cond.methodLink "CandleStatute$Command" (83 : Nat) ({ cls := "CandleStatute$Statute", name := "ends", desc := "(I)I" } : Jvm.MethodName)) ∈ lw_all := lw_g (lw_at lw_m6 94 rfl) rfl
theorem q1373 : (Jvm.Cond.methodLink "CandleStatute$Command" (106 : Nat) ({ cls := "CandleStatute$Refused", name := "<init>", desc := "(IILjava/lang/Throwable;)V" } : Jvm.MethodName)) ∈ lw_all := lw_g (lw_at lw_m6 95 rfl) rfl
theorem q1374 : (Jvm.Cond.methodLinkNest "CandleStatute$Command" (109 : Nat) ({ cls := "CandleStatute", name := "refuse", desc := "(ZII)V" } : Jvm.MethodName) "CandleStatute") ∈ lw_tbl := lw_at lw_m6 96 rfl
theorem q2104 : (Jvm.Cond.castable "CandleStatute$Command" "java/lang/Object") ∈ lw_tbl := lw_at lw_m9 106 rfl
theorem in_X12 : ∀ w ∈ wsX120, w ∈ lw_all := lw_in wsX120 [1261, 1263, 1265, 1267] (by decide +kernel) (by decide +kernel)

