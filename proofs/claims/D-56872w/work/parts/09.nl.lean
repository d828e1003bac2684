/-! SwapWhileLaw -/
set_option maxRecDepth 100000
def RX0 : String := "SwapWhileLaw"
abbrev cX0_add : ByteArray := method_3_code
def yX0_add : MethodName := ⟨RX0, "add", "(LSwapWhile;ICIII[J)I"⟩
def dkwX0_add_1 : List UInt8 := [58, 7, 5, 172, 3, 172]
abbrev dktX0_add_1 : List UInt8 := dkwX0_add_1 ++ []
def dkwX0_add_0 : List UInt8 := [25, 6, 3, 42, 27, 28, 29, 21, 4, 21, 5, 182, 0, 7, 133, 80, 167, 0, 11, 58, 7, 4, 172]
abbrev dktX0_add_0 : List UInt8 := dkwX0_add_0 ++ dktX0_add_1
theorem dksX0_add_0 : cX0_add.data.toList.drop 0 = dktX0_add_0 := by decide +kernel
theorem dksX0_add_1 : cX0_add.data.toList.drop 23 = dktX0_add_1 := dk_seg dksX0_add_0 23 rfl rfl
theorem dX0_add_0 : decode cX0_add 0 = .ok (.aload 6, 2) := dk_25 6 (dk_at dksX0_add_0 0 rfl rfl)
theorem dX0_add_2 : decode cX0_add 2 = .ok (.iconst 0, 1) := dk_3 (dk_at dksX0_add_0 2 rfl rfl)
theorem dX0_add_3 : decode cX0_add 3 = .ok (.aload_n 0, 1) := dk_42 (dk_at dksX0_add_0 3 rfl rfl)
theorem dX0_add_4 : decode cX0_add 4 = .ok (.iload_n 1, 1) := dk_27 (dk_at dksX0_add_0 4 rfl rfl)
theorem dX0_add_5 : decode cX0_add 5 = .ok (.iload_n 2, 1) := dk_28 (dk_at dksX0_add_0 5 rfl rfl)
theorem dX0_add_6 : decode cX0_add 6 = .ok (.iload_n 3, 1) := dk_29 (dk_at dksX0_add_0 6 rfl rfl)
theorem dX0_add_7 : decode cX0_add 7 = .ok (.iload 4, 2) := dk_21 4 (dk_at dksX0_add_0 7 rfl rfl)
theorem dX0_add_9 : decode cX0_add 9 = .ok (.iload 5, 2) := dk_21 5 (dk_at dksX0_add_0 9 rfl rfl)
theorem dX0_add_11 : decode cX0_add 11 = .ok (.invokevirtual 7, 3) := dk_182 0 7 (dk_at dksX0_add_0 11 rfl rfl)
theorem dX0_add_14 : decode cX0_add 14 = .ok (.i2l, 1) := dk_133 (dk_at dksX0_add_0 14 rfl rfl)
theorem dX0_add_15 : decode cX0_add 15 = .ok (.lastore, 1) := dk_80 (dk_at dksX0_add_0 15 rfl rfl)
theorem dX0_add_16 : decode cX0_add 16 = .ok (.goto 11, 3) := dk_167 0 11 (dk_at dksX0_add_0 16 rfl rfl)
theorem dX0_add_19 : decode cX0_add 19 = .ok (.astore 7, 2) := dk_58 7 (dk_at dksX0_add_0 19 rfl rfl)
theorem dX0_add_21 : decode cX0_add 21 = .ok (.iconst 1, 1) := dk_4 (dk_at dksX0_add_0 21 rfl rfl)
theorem dX0_add_22 : decode cX0_add 22 = .ok (.ireturn, 1) := dk_172 (dk_at dksX0_add_0 22 rfl rfl)
theorem dX0_add_23 : decode cX0_add 23 = .ok (.astore 7, 2) := dk_58 7 (dk_at dksX0_add_1 0 rfl rfl)
theorem dX0_add_25 : decode cX0_add 25 = .ok (.iconst 2, 1) := dk_5 (dk_at dksX0_add_1 2 rfl rfl)
theorem dX0_add_26 : decode cX0_add 26 = .ok (.ireturn, 1) := dk_172 (dk_at dksX0_add_1 3 rfl rfl)
theorem dX0_add_27 : decode cX0_add 27 = .ok (.iconst 0, 1) := dk_3 (dk_at dksX0_add_1 4 rfl rfl)
theorem dX0_add_28 : decode cX0_add 28 = .ok (.ireturn, 1) := dk_172 (dk_at dksX0_add_1 5 rfl rfl)
abbrev cX0_empty : ByteArray := method_4_code
def yX0_empty : MethodName := ⟨RX0, "empty", "(LSwapWhile;I[J)I"⟩
def dkwX0_empty_0 : List UInt8 := [44, 3, 42, 27, 182, 0, 17, 133, 80, 167, 0, 6, 78, 4, 172, 3, 172]
abbrev dktX0_empty_0 : List UInt8 := dkwX0_empty_0 ++ []
theorem dksX0_empty_0 : cX0_empty.data.toList.drop 0 = dktX0_empty_0 := by decide +kernel
theorem dX0_empty_0 : decode cX0_empty 0 = .ok (.aload_n 2, 1) := dk_44 (dk_at dksX0_empty_0 0 rfl rfl)
theorem dX0_empty_1 : decode cX0_empty 1 = .ok (.iconst 0, 1) := dk_3 (dk_at dksX0_empty_0 1 rfl rfl)
theorem dX0_empty_2 : decode cX0_empty 2 = .ok (.aload_n 0, 1) := dk_42 (dk_at dksX0_empty_0 2 rfl rfl)
theorem dX0_empty_3 : decode cX0_empty 3 = .ok (.iload_n 1, 1) := dk_27 (dk_at dksX0_empty_0 3 rfl rfl)
theorem dX0_empty_4 : decode cX0_empty 4 = .ok (.invokevirtual 17, 3) := dk_182 0 17 (dk_at dksX0_empty_0 4 rfl rfl)
theorem dX0_empty_7 : decode cX0_empty 7 = .ok (.i2l, 1) := dk_133 (dk_at dksX0_empty_0 7 rfl rfl)
theorem dX0_empty_8 : decode cX0_empty 8 = .ok (.lastore, 1) := dk_80 (dk_at dksX0_empty_0 8 rfl rfl)
theorem dX0_empty_9 : decode cX0_empty 9 = .ok (.goto 6, 3) := dk_167 0 6 (dk_at dksX0_empty_0 9 rfl rfl)
theorem dX0_empty_12 : decode cX0_empty 12 = .ok (.astore_n 3, 1) := dk_78 (dk_at dksX0_empty_0 12 rfl rfl)
theorem dX0_empty_13 : decode cX0_empty 13 = .ok (.iconst 1, 1) := dk_4 (dk_at dksX0_empty_0 13 rfl rfl)
theorem dX0_empty_14 : decode cX0_empty 14 = .ok (.ireturn, 1) := dk_172 (dk_at dksX0_empty_0 14 rfl rfl)
theorem dX0_empty_15 : decode cX0_empty 15 = .ok (.iconst 0, 1) := dk_3 (dk_at dksX0_empty_0 15 rfl rfl)
theorem dX0_empty_16 : decode cX0_empty 16 = .ok (.ireturn, 1) := dk_172 (dk_at dksX0_empty_0 16 rfl rfl)
abbrev cX0_setFields : ByteArray := method_5_code
def yX0_setFields : MethodName := ⟨RX0, "setFields", "(LSwapWhile;II[J)I"⟩
def dkwX0_setFields_0 : List UInt8 := [45, 3, 42, 27, 28, 182, 0, 21, 133, 80, 167, 0, 7, 58, 4, 4, 172, 3, 172]
abbrev dktX0_setFields_0 : List UInt8 := dkwX0_setFields_0 ++ []
theorem dksX0_setFields_0 : cX0_setFields.data.toList.drop 0 = dktX0_setFields_0 := by decide +kernel
theorem dX0_setFields_0 : decode cX0_setFields 0 = .ok (.aload_n 3, 1) := dk_45 (dk_at dksX0_setFields_0 0 rfl rfl)
theorem dX0_setFields_1 : decode cX0_setFields 1 = .ok (.iconst 0, 1) := dk_3 (dk_at dksX0_setFields_0 1 rfl rfl)
theorem dX0_setFields_2 : decode cX0_setFields 2 = .ok (.aload_n 0, 1) := dk_42 (dk_at dksX0_setFields_0 2 rfl rfl)
theorem dX0_setFields_3 : decode cX0_setFields 3 = .ok (.iload_n 1, 1) := dk_27 (dk_at dksX0_setFields_0 3 rfl rfl)
theorem dX0_setFields_4 : decode cX0_setFields 4 = .ok (.iload_n 2, 1) := dk_28 (dk_at dksX0_setFields_0 4 rfl rfl)
theorem dX0_setFields_5 : decode cX0_setFields 5 = .ok (.invokevirtual 21, 3) := dk_182 0 21 (dk_at dksX0_setFields_0 5 rfl rfl)
theorem dX0_setFields_8 : decode cX0_setFields 8 = .ok (.i2l, 1) := dk_133 (dk_at dksX0_setFields_0 8 rfl rfl)
theorem dX0_setFields_9 : decode cX0_setFields 9 = .ok (.lastore, 1) := dk_80 (dk_at dksX0_setFields_0 9 rfl rfl)
theorem dX0_setFields_10 : decode cX0_setFields 10 = .ok (.goto 7, 3) := dk_167 0 7 (dk_at dksX0_setFields_0 10 rfl rfl)
theorem dX0_setFields_13 : decode cX0_setFields 13 = .ok (.astore 4, 2) := dk_58 4 (dk_at dksX0_setFields_0 13 rfl rfl)
theorem dX0_setFields_15 : decode cX0_setFields 15 = .ok (.iconst 1, 1) := dk_4 (dk_at dksX0_setFields_0 15 rfl rfl)
theorem dX0_setFields_16 : decode cX0_setFields 16 = .ok (.ireturn, 1) := dk_172 (dk_at dksX0_setFields_0 16 rfl rfl)
theorem dX0_setFields_17 : decode cX0_setFields 17 = .ok (.iconst 0, 1) := dk_3 (dk_at dksX0_setFields_0 17 rfl rfl)
theorem dX0_setFields_18 : decode cX0_setFields 18 = .ok (.ireturn, 1) := dk_172 (dk_at dksX0_setFields_0 18 rfl rfl)
abbrev cX0_setCarry : ByteArray := method_6_code
def yX0_setCarry : MethodName := ⟨RX0, "setCarry", "(LSwapWhile;IZIII[J)I"⟩
def dkwX0_setCarry_1 : List UInt8 := [172]
abbrev dktX0_setCarry_1 : List UInt8 := dkwX0_setCarry_1 ++ []
def dkwX0_setCarry_0 : List UInt8 := [25, 6, 3, 42, 27, 28, 29, 21, 4, 21, 5, 182, 0, 25, 133, 80, 167, 0, 7, 58, 7, 4, 172, 3]
abbrev dktX0_setCarry_0 : List UInt8 := dkwX0_setCarry_0 ++ dktX0_setCarry_1
theorem dksX0_setCarry_0 : cX0_setCarry.data.toList.drop 0 = dktX0_setCarry_0 := by decide +kernel
theorem dksX0_setCarry_1 : cX0_setCarry.data.toList.drop 24 = dktX0_setCarry_1 := dk_seg dksX0_setCarry_0 24 rfl rfl
theorem dX0_setCarry_0 : decode cX0_setCarry 0 = .ok (.aload 6, 2) := dk_25 6 (dk_at dksX0_setCarry_0 0 rfl rfl)
theorem dX0_setCarry_2 : decode cX0_setCarry 2 = .ok (.iconst 0, 1) := dk_3 (dk_at dksX0_setCarry_0 2 rfl rfl)
theorem dX0_setCarry_3 : decode cX0_setCarry 3 = .ok (.aload_n 0, 1) := dk_42 (dk_at dksX0_setCarry_0 3 rfl rfl)
theorem dX0_setCarry_4 : decode cX0_setCarry 4 = .ok (.iload_n 1, 1) := dk_27 (dk_at dksX0_setCarry_0 4 rfl rfl)
theorem dX0_setCarry_5 : decode cX0_setCarry 5 = .ok (.iload_n 2, 1) := dk_28 (dk_at dksX0_setCarry_0 5 rfl rfl)
theorem dX0_setCarry_6 : decode cX0_setCarry 6 = .ok (.iload_n 3, 1) := dk_29 (dk_at dksX0_setCarry_0 6 rfl rfl)
theorem dX0_setCarry_7 : decode cX0_setCarry 7 = .ok (.iload 4, 2) := dk_21 4 (dk_at dksX0_setCarry_0 7 rfl rfl)
theorem dX0_setCarry_9 : decode cX0_setCarry 9 = .ok (.iload 5, 2) := dk_21 5 (dk_at dksX0_setCarry_0 9 rfl rfl)
theorem dX0_setCarry_11 : decode cX0_setCarry 11 = .ok (.invokevirtual 25, 3) := dk_182 0 25 (dk_at dksX0_setCarry_0 11 rfl rfl)
theorem dX0_setCarry_14 : decode cX0_setCarry 14 = .ok (.i2l, 1) := dk_133 (dk_at dksX0_setCarry_0 14 rfl rfl)
theorem dX0_setCarry_15 : decode cX0_setCarry 15 = .ok (.lastore, 1) := dk_80 (dk_at dksX0_setCarry_0 15 rfl rfl)
theorem dX0_setCarry_16 : decode cX0_setCarry 16 = .ok (.goto 7, 3) := dk_167 0 7 (dk_at dksX0_setCarry_0 16 rfl rfl)
theorem dX0_setCarry_19 : decode cX0_setCarry 19 = .ok (.astore 7, 2) := dk_58 7 (dk_at dksX0_setCarry_0 19 rfl rfl)
theorem dX0_setCarry_21 : decode cX0_setCarry 21 = .ok (.iconst 1, 1) := dk_4 (dk_at dksX0_setCarry_0 21 rfl rfl)
theorem dX0_setCarry_22 : decode cX0_setCarry 22 = .ok (.ireturn, 1) := dk_172 (dk_at dksX0_setCarry_0 22 rfl rfl)
theorem dX0_setCarry_23 : decode cX0_setCarry 23 = .ok (.iconst 0, 1) := dk_3 (dk_at dksX0_setCarry_0 23 rfl rfl)
theorem dX0_setCarry_24 : decode cX0_setCarry 24 = .ok (.ireturn, 1) := dk_172 (dk_at dksX0_setCarry_1 0 rfl rfl)
abbrev cX0_map : ByteArray := method_7_code
def yX0_map : MethodName := ⟨RX0, "map", "(LSwapWhile;III[J)I"⟩
def dkwX0_map_0 : List UInt8 := [25, 4, 3, 42, 27, 28, 29, 182, 0, 29, 133, 80, 167, 0, 7, 58, 5, 4, 172, 3, 172]
abbrev dktX0_map_0 : List UInt8 := dkwX0_map_0 ++ []
theorem dksX0_map_0 : cX0_map.data.toList.drop 0 = dktX0_map_0 := by decide +kernel
theorem dX0_map_0 : decode cX0_map 0 = .ok (.aload 4, 2) := dk_25 4 (dk_at dksX0_map_0 0 rfl rfl)
theorem dX0_map_2 : decode cX0_map 2 = .ok (.iconst 0, 1) := dk_3 (dk_at dksX0_map_0 2 rfl rfl)
theorem dX0_map_3 : decode cX0_map 3 = .ok (.aload_n 0, 1) := dk_42 (dk_at dksX0_map_0 3 rfl rfl)
theorem dX0_map_4 : decode cX0_map 4 = .ok (.iload_n 1, 1) := dk_27 (dk_at dksX0_map_0 4 rfl rfl)
theorem dX0_map_5 : decode cX0_map 5 = .ok (.iload_n 2, 1) := dk_28 (dk_at dksX0_map_0 5 rfl rfl)
theorem dX0_map_6 : decode cX0_map 6 = .ok (.iload_n 3, 1) := dk_29 (dk_at dksX0_map_0 6 rfl rfl)
theorem dX0_map_7 : decode cX0_map 7 = .ok (.invokevirtual 29, 3) := dk_182 0 29 (dk_at dksX0_map_0 7 rfl rfl)
theorem dX0_map_10 : decode cX0_map 10 = .ok (.i2l, 1) := dk_133 (dk_at dksX0_map_0 10 rfl rfl)
theorem dX0_map_11 : decode cX0_map 11 = .ok (.lastore, 1) := dk_80 (dk_at dksX0_map_0 11 rfl rfl)
theorem dX0_map_12 : decode cX0_map 12 = .ok (.goto 7, 3) := dk_167 0 7 (dk_at dksX0_map_0 12 rfl rfl)
theorem dX0_map_15 : decode cX0_map 15 = .ok (.astore 5, 2) := dk_58 5 (dk_at dksX0_map_0 15 rfl rfl)
theorem dX0_map_17 : decode cX0_map 17 = .ok (.iconst 1, 1) := dk_4 (dk_at dksX0_map_0 17 rfl rfl)
theorem dX0_map_18 : decode cX0_map 18 = .ok (.ireturn, 1) := dk_172 (dk_at dksX0_map_0 18 rfl rfl)
theorem dX0_map_19 : decode cX0_map 19 = .ok (.iconst 0, 1) := dk_3 (dk_at dksX0_map_0 19 rfl rfl)
theorem dX0_map_20 : decode cX0_map 20 = .ok (.ireturn, 1) := dk_172 (dk_at dksX0_map_0 20 rfl rfl)
abbrev cX0_publish : ByteArray := method_8_code
def yX0_publish : MethodName := ⟨RX0, "publish", "(LSwapWhile;[J)I"⟩
def dkwX0_publish_0 : List UInt8 := [43, 3, 42, 182, 0, 33, 133, 80, 167, 0, 6, 77, 4, 172, 3, 172]
abbrev dktX0_publish_0 : List UInt8 := dkwX0_publish_0 ++ []
theorem dksX0_publish_0 : cX0_publish.data.toList.drop 0 = dktX0_publish_0 := by decide +kernel
theorem dX0_publish_0 : decode cX0_publish 0 = .ok (.aload_n 1, 1) := dk_43 (dk_at dksX0_publish_0 0 rfl rfl)
theorem dX0_publish_1 : decode cX0_publish 1 = .ok (.iconst 0, 1) := dk_3 (dk_at dksX0_publish_0 1 rfl rfl)
theorem dX0_publish_2 : decode cX0_publish 2 = .ok (.aload_n 0, 1) := dk_42 (dk_at dksX0_publish_0 2 rfl rfl)
theorem dX0_publish_3 : decode cX0_publish 3 = .ok (.invokevirtual 33, 3) := dk_182 0 33 (dk_at dksX0_publish_0 3 rfl rfl)
theorem dX0_publish_6 : decode cX0_publish 6 = .ok (.i2l, 1) := dk_133 (dk_at dksX0_publish_0 6 rfl rfl)
theorem dX0_publish_7 : decode cX0_publish 7 = .ok (.lastore, 1) := dk_80 (dk_at dksX0_publish_0 7 rfl rfl)
theorem dX0_publish_8 : decode cX0_publish 8 = .ok (.goto 6, 3) := dk_167 0 6 (dk_at dksX0_publish_0 8 rfl rfl)
theorem dX0_publish_11 : decode cX0_publish 11 = .ok (.astore_n 2, 1) := dk_77 (dk_at dksX0_publish_0 11 rfl rfl)
theorem dX0_publish_12 : decode cX0_publish 12 = .ok (.iconst 1, 1) := dk_4 (dk_at dksX0_publish_0 12 rfl rfl)
theorem dX0_publish_13 : decode cX0_publish 13 = .ok (.ireturn, 1) := dk_172 (dk_at dksX0_publish_0 13 rfl rfl)
theorem dX0_publish_14 : decode cX0_publish 14 = .ok (.iconst 0, 1) := dk_3 (dk_at dksX0_publish_0 14 rfl rfl)
theorem dX0_publish_15 : decode cX0_publish 15 = .ok (.ireturn, 1) := dk_172 (dk_at dksX0_publish_0 15 rfl rfl)
abbrev cX0_isTouched : ByteArray := method_9_code
def yX0_isTouched : MethodName := ⟨RX0, "isTouched", "(LSwapWhile;II[J)I"⟩
def dkwX0_isTouched_1 : List UInt8 := [58, 4, 5, 172, 3, 172]
abbrev dktX0_isTouched_1 : List UInt8 := dkwX0_isTouched_1 ++ []
def dkwX0_isTouched_0 : List UInt8 := [45, 3, 42, 27, 28, 182, 0, 37, 153, 0, 7, 10, 167, 0, 4, 9, 80, 167, 0, 11, 58, 4, 4, 172]
abbrev dktX0_isTouched_0 : List UInt8 := dkwX0_isTouched_0 ++ dktX0_isTouched_1
theorem dksX0_isTouched_0 : cX0_isTouched.data.toList.drop 0 = dktX0_isTouched_0 := by decide +kernel
theorem dksX0_isTouched_1 : cX0_isTouched.data.toList.drop 24 = dktX0_isTouched_1 := dk_seg dksX0_isTouched_0 24 rfl rfl
theorem dX0_isTouched_0 : decode cX0_isTouched 0 = .ok (.aload_n 3, 1) := dk_45 (dk_at dksX0_isTouched_0 0 rfl rfl)
theorem dX0_isTouched_1 : decode cX0_isTouched 1 = .ok (.iconst 0, 1) := dk_3 (dk_at dksX0_isTouched_0 1 rfl rfl)
theorem dX0_isTouched_2 : decode cX0_isTouched 2 = .ok (.aload_n 0, 1) := dk_42 (dk_at dksX0_isTouched_0 2 rfl rfl)
theorem dX0_isTouched_3 : decode cX0_isTouched 3 = .ok (.iload_n 1, 1) := dk_27 (dk_at dksX0_isTouched_0 3 rfl rfl)
theorem dX0_isTouched_4 : decode cX0_isTouched 4 = .ok (.iload_n 2, 1) := dk_28 (dk_at dksX0_isTouched_0 4 rfl rfl)
theorem dX0_isTouched_5 : decode cX0_isTouched 5 = .ok (.invokevirtual 37, 3) := dk_182 0 37 (dk_at dksX0_isTouched_0 5 rfl rfl)
theorem dX0_isTouched_8 : decode cX0_isTouched 8 = .ok (.ifCond .eq 7, 3) := dk_153 0 7 (dk_at dksX0_isTouched_0 8 rfl rfl)
theorem dX0_isTouched_11 : decode cX0_isTouched 11 = .ok (.lconst 1, 1) := dk_10 (dk_at dksX0_isTouched_0 11 rfl rfl)
theorem dX0_isTouched_12 : decode cX0_isTouched 12 = .ok (.goto 4, 3) := dk_167 0 4 (dk_at dksX0_isTouched_0 12 rfl rfl)
theorem dX0_isTouched_15 : decode cX0_isTouched 15 = .ok (.lconst 0, 1) := dk_9 (dk_at dksX0_isTouched_0 15 rfl rfl)
theorem dX0_isTouched_16 : decode cX0_isTouched 16 = .ok (.lastore, 1) := dk_80 (dk_at dksX0_isTouched_0 16 rfl rfl)
theorem dX0_isTouched_17 : decode cX0_isTouched 17 = .ok (.goto 11, 3) := dk_167 0 11 (dk_at dksX0_isTouched_0 17 rfl rfl)
theorem dX0_isTouched_20 : decode cX0_isTouched 20 = .ok (.astore 4, 2) := dk_58 4 (dk_at dksX0_isTouched_0 20 rfl rfl)
theorem dX0_isTouched_22 : decode cX0_isTouched 22 = .ok (.iconst 1, 1) := dk_4 (dk_at dksX0_isTouched_0 22 rfl rfl)
theorem dX0_isTouched_23 : decode cX0_isTouched 23 = .ok (.ireturn, 1) := dk_172 (dk_at dksX0_isTouched_0 23 rfl rfl)
theorem dX0_isTouched_24 : decode cX0_isTouched 24 = .ok (.astore 4, 2) := dk_58 4 (dk_at dksX0_isTouched_1 0 rfl rfl)
theorem dX0_isTouched_26 : decode cX0_isTouched 26 = .ok (.iconst 2, 1) := dk_5 (dk_at dksX0_isTouched_1 2 rfl rfl)
theorem dX0_isTouched_27 : decode cX0_isTouched 27 = .ok (.ireturn, 1) := dk_172 (dk_at dksX0_isTouched_1 3 rfl rfl)
theorem dX0_isTouched_28 : decode cX0_isTouched 28 = .ok (.iconst 0, 1) := dk_3 (dk_at dksX0_isTouched_1 4 rfl rfl)
theorem dX0_isTouched_29 : decode cX0_isTouched 29 = .ok (.ireturn, 1) := dk_172 (dk_at dksX0_isTouched_1 5 rfl rfl)
abbrev cX0_start : ByteArray := method_10_code
def yX0_start : MethodName := ⟨RX0, "start", "(LSwapWhile;II[J)I"⟩
def dkwX0_start_0 : List UInt8 := [45, 3, 42, 27, 28, 182, 0, 43, 133, 80, 167, 0, 11, 58, 4, 4, 172, 58, 4, 5, 172, 3, 172]
abbrev dktX0_start_0 : List UInt8 := dkwX0_start_0 ++ []
theorem dksX0_start_0 : cX0_start.data.toList.drop 0 = dktX0_start_0 := by decide +kernel
theorem dX0_start_0 : decode cX0_start 0 = .ok (.aload_n 3, 1) := dk_45 (dk_at dksX0_start_0 0 rfl rfl)
theorem dX0_start_1 : decode cX0_start 1 = .ok (.iconst 0, 1) := dk_3 (dk_at dksX0_start_0 1 rfl rfl)
theorem dX0_start_2 : decode cX0_start 2 = .ok (.aload_n 0, 1) := dk_42 (dk_at dksX0_start_0 2 rfl rfl)
theorem dX0_start_3 : decode cX0_start 3 = .ok (.iload_n 1, 1) := dk_27 (dk_at dksX0_start_0 3 rfl rfl)
theorem dX0_start_4 : decode cX0_start 4 = .ok (.iload_n 2, 1) := dk_28 (dk_at dksX0_start_0 4 rfl rfl)
theorem dX0_start_5 : decode cX0_start 5 = .ok (.invokevirtual 43, 3) := dk_182 0 43 (dk_at dksX0_start_0 5 rfl rfl)
theorem dX0_start_8 : decode cX0_start 8 = .ok (.i2l, 1) := dk_133 (dk_at dksX0_start_0 8 rfl rfl)
theorem dX0_start_9 : decode cX0_start 9 = .ok (.lastore, 1) := dk_80 (dk_at dksX0_start_0 9 rfl rfl)
theorem dX0_start_10 : decode cX0_start 10 = .ok (.goto 11, 3) := dk_167 0 11 (dk_at dksX0_start_0 10 rfl rfl)
theorem dX0_start_13 : decode cX0_start 13 = .ok (.astore 4, 2) := dk_58 4 (dk_at dksX0_start_0 13 rfl rfl)
theorem dX0_start_15 : decode cX0_start 15 = .ok (.iconst 1, 1) := dk_4 (dk_at dksX0_start_0 15 rfl rfl)
theorem dX0_start_16 : decode cX0_start 16 = .ok (.ireturn, 1) := dk_172 (dk_at dksX0_start_0 16 rfl rfl)
theorem dX0_start_17 : decode cX0_start 17 = .ok (.astore 4, 2) := dk_58 4 (dk_at dksX0_start_0 17 rfl rfl)
theorem dX0_start_19 : decode cX0_start 19 = .ok (.iconst 2, 1) := dk_5 (dk_at dksX0_start_0 19 rfl rfl)
theorem dX0_start_20 : decode cX0_start 20 = .ok (.ireturn, 1) := dk_172 (dk_at dksX0_start_0 20 rfl rfl)
theorem dX0_start_21 : decode cX0_start 21 = .ok (.iconst 0, 1) := dk_3 (dk_at dksX0_start_0 21 rfl rfl)
theorem dX0_start_22 : decode cX0_start 22 = .ok (.ireturn, 1) := dk_172 (dk_at dksX0_start_0 22 rfl rfl)
abbrev cX0_step : ByteArray := method_11_code
def yX0_step : MethodName := ⟨RX0, "step", "(LSwapWhile;II[J)I"⟩
def dkwX0_step_0 : List UInt8 := [45, 3, 42, 27, 28, 182, 0, 46, 133, 80, 167, 0, 7, 58, 4, 4, 172, 3, 172]
abbrev dktX0_step_0 : List UInt8 := dkwX0_step_0 ++ []
theorem dksX0_step_0 : cX0_step.data.toList.drop 0 = dktX0_step_0 := by decide +kernel
theorem dX0_step_0 : decode cX0_step 0 = .ok (.aload_n 3, 1) := dk_45 (dk_at dksX0_step_0 0 rfl rfl)
theorem dX0_step_1 : decode cX0_step 1 = .ok (.iconst 0, 1) := dk_3 (dk_at dksX0_step_0 1 rfl rfl)
theorem dX0_step_2 : decode cX0_step 2 = .ok (.aload_n 0, 1) := dk_42 (dk_at dksX0_step_0 2 rfl rfl)
theorem dX0_step_3 : decode cX0_step 3 = .ok (.iload_n 1, 1) := dk_27 (dk_at dksX0_step_0 3 rfl rfl)
theorem dX0_step_4 : decode cX0_step 4 = .ok (.iload_n 2, 1) := dk_28 (dk_at dksX0_step_0 4 rfl rfl)
theorem dX0_step_5 : decode cX0_step 5 = .ok (.invokevirtual 46, 3) := dk_182 0 46 (dk_at dksX0_step_0 5 rfl rfl)
theorem dX0_step_8 : decode cX0_step 8 = .ok (.i2l, 1) := dk_133 (dk_at dksX0_step_0 8 rfl rfl)
theorem dX0_step_9 : decode cX0_step 9 = .ok (.lastore, 1) := dk_80 (dk_at dksX0_step_0 9 rfl rfl)
theorem dX0_step_10 : decode cX0_step 10 = .ok (.goto 7, 3) := dk_167 0 7 (dk_at dksX0_step_0 10 rfl rfl)
theorem dX0_step_13 : decode cX0_step 13 = .ok (.astore 4, 2) := dk_58 4 (dk_at dksX0_step_0 13 rfl rfl)
theorem dX0_step_15 : decode cX0_step 15 = .ok (.iconst 1, 1) := dk_4 (dk_at dksX0_step_0 15 rfl rfl)
theorem dX0_step_16 : decode cX0_step 16 = .ok (.ireturn, 1) := dk_172 (dk_at dksX0_step_0 16 rfl rfl)
theorem dX0_step_17 : decode cX0_step 17 = .ok (.iconst 0, 1) := dk_3 (dk_at dksX0_step_0 17 rfl rfl)
theorem dX0_step_18 : decode cX0_step 18 = .ok (.ireturn, 1) := dk_172 (dk_at dksX0_step_0 18 rfl rfl)
abbrev cX0_release : ByteArray := method_12_code
def yX0_release : MethodName := ⟨RX0, "release", "(LSwapWhile;I[J)I"⟩
def dkwX0_release_0 : List UInt8 := [44, 3, 42, 27, 182, 0, 49, 133, 80, 167, 0, 9, 78, 4, 172, 78, 5, 172, 3, 172]
abbrev dktX0_release_0 : List UInt8 := dkwX0_release_0 ++ []
theorem dksX0_release_0 : cX0_release.data.toList.drop 0 = dktX0_release_0 := by decide +kernel
theorem dX0_release_0 : decode cX0_release 0 = .ok (.aload_n 2, 1) := dk_44 (dk_at dksX0_release_0 0 rfl rfl)
theorem dX0_release_1 : decode cX0_release 1 = .ok (.iconst 0, 1) := dk_3 (dk_at dksX0_release_0 1 rfl rfl)
theorem dX0_release_2 : decode cX0_release 2 = .ok (.aload_n 0, 1) := dk_42 (dk_at dksX0_release_0 2 rfl rfl)
theorem dX0_release_3 : decode cX0_release 3 = .ok (.iload_n 1, 1) := dk_27 (dk_at dksX0_release_0 3 rfl rfl)
theorem dX0_release_4 : decode cX0_release 4 = .ok (.invokevirtual 49, 3) := dk_182 0 49 (dk_at dksX0_release_0 4 rfl rfl)
theorem dX0_release_7 : decode cX0_release 7 = .ok (.i2l, 1) := dk_133 (dk_at dksX0_release_0 7 rfl rfl)
theorem dX0_release_8 : decode cX0_release 8 = .ok (.lastore, 1) := dk_80 (dk_at dksX0_release_0 8 rfl rfl)
theorem dX0_release_9 : decode cX0_release 9 = .ok (.goto 9, 3) := dk_167 0 9 (dk_at dksX0_release_0 9 rfl rfl)
theorem dX0_release_12 : decode cX0_release 12 = .ok (.astore_n 3, 1) := dk_78 (dk_at dksX0_release_0 12 rfl rfl)
theorem dX0_release_13 : decode cX0_release 13 = .ok (.iconst 1, 1) := dk_4 (dk_at dksX0_release_0 13 rfl rfl)
theorem dX0_release_14 : decode cX0_release 14 = .ok (.ireturn, 1) := dk_172 (dk_at dksX0_release_0 14 rfl rfl)
theorem dX0_release_15 : decode cX0_release 15 = .ok (.astore_n 3, 1) := dk_78 (dk_at dksX0_release_0 15 rfl rfl)
theorem dX0_release_16 : decode cX0_release 16 = .ok (.iconst 2, 1) := dk_5 (dk_at dksX0_release_0 16 rfl rfl)
theorem dX0_release_17 : decode cX0_release 17 = .ok (.ireturn, 1) := dk_172 (dk_at dksX0_release_0 17 rfl rfl)
theorem dX0_release_18 : decode cX0_release 18 = .ok (.iconst 0, 1) := dk_3 (dk_at dksX0_release_0 18 rfl rfl)
theorem dX0_release_19 : decode cX0_release 19 = .ok (.ireturn, 1) := dk_172 (dk_at dksX0_release_0 19 rfl rfl)
abbrev cX0_state : ByteArray := method_13_code
def yX0_state : MethodName := ⟨RX0, "state", "(LSwapWhile;I[J)I"⟩
def dkwX0_state_0 : List UInt8 := [44, 3, 42, 27, 182, 0, 52, 133, 80, 167, 0, 6, 78, 4, 172, 3, 172]
abbrev dktX0_state_0 : List UInt8 := dkwX0_state_0 ++ []
theorem dksX0_state_0 : cX0_state.data.toList.drop 0 = dktX0_state_0 := by decide +kernel
theorem dX0_state_0 : decode cX0_state 0 = .ok (.aload_n 2, 1) := dk_44 (dk_at dksX0_state_0 0 rfl rfl)
theorem dX0_state_1 : decode cX0_state 1 = .ok (.iconst 0, 1) := dk_3 (dk_at dksX0_state_0 1 rfl rfl)
theorem dX0_state_2 : decode cX0_state 2 = .ok (.aload_n 0, 1) := dk_42 (dk_at dksX0_state_0 2 rfl rfl)
theorem dX0_state_3 : decode cX0_state 3 = .ok (.iload_n 1, 1) := dk_27 (dk_at dksX0_state_0 3 rfl rfl)
theorem dX0_state_4 : decode cX0_state 4 = .ok (.invokevirtual 52, 3) := dk_182 0 52 (dk_at dksX0_state_0 4 rfl rfl)
theorem dX0_state_7 : decode cX0_state 7 = .ok (.i2l, 1) := dk_133 (dk_at dksX0_state_0 7 rfl rfl)
theorem dX0_state_8 : decode cX0_state 8 = .ok (.lastore, 1) := dk_80 (dk_at dksX0_state_0 8 rfl rfl)
theorem dX0_state_9 : decode cX0_state 9 = .ok (.goto 6, 3) := dk_167 0 6 (dk_at dksX0_state_0 9 rfl rfl)
theorem dX0_state_12 : decode cX0_state 12 = .ok (.astore_n 3, 1) := dk_78 (dk_at dksX0_state_0 12 rfl rfl)
theorem dX0_state_13 : decode cX0_state 13 = .ok (.iconst 1, 1) := dk_4 (dk_at dksX0_state_0 13 rfl rfl)
theorem dX0_state_14 : decode cX0_state 14 = .ok (.ireturn, 1) := dk_172 (dk_at dksX0_state_0 14 rfl rfl)
theorem dX0_state_15 : decode cX0_state 15 = .ok (.iconst 0, 1) := dk_3 (dk_at dksX0_state_0 15 rfl rfl)
theorem dX0_state_16 : decode cX0_state 16 = .ok (.ireturn, 1) := dk_172 (dk_at dksX0_state_0 16 rfl rfl)
abbrev cX0_frames : ByteArray := method_14_code
def yX0_frames : MethodName := ⟨RX0, "frames", "(LSwapWhile;I[J)I"⟩
def dkwX0_frames_0 : List UInt8 := [44, 3, 42, 27, 182, 0, 56, 133, 80, 167, 0, 6, 78, 4, 172, 3, 172]
abbrev dktX0_frames_0 : List UInt8 := dkwX0_frames_0 ++ []
theorem dksX0_frames_0 : cX0_frames.data.toList.drop 0 = dktX0_frames_0 := by decide +kernel
theorem dX0_frames_0 : decode cX0_frames 0 = .ok (.aload_n 2, 1) := dk_44 (dk_at dksX0_frames_0 0 rfl rfl)
theorem dX0_frames_1 : decode cX0_frames 1 = .ok (.iconst 0, 1) := dk_3 (dk_at dksX0_frames_0 1 rfl rfl)
theorem dX0_frames_2 : decode cX0_frames 2 = .ok (.aload_n 0, 1) := dk_42 (dk_at dksX0_frames_0 2 rfl rfl)
theorem dX0_frames_3 : decode cX0_frames 3 = .ok (.iload_n 1, 1) := dk_27 (dk_at dksX0_frames_0 3 rfl rfl)
theorem dX0_frames_4 : decode cX0_frames 4 = .ok (.invokevirtual 56, 3) := dk_182 0 56 (dk_at dksX0_frames_0 4 rfl rfl)
theorem dX0_frames_7 : decode cX0_frames 7 = .ok (.i2l, 1) := dk_133 (dk_at dksX0_frames_0 7 rfl rfl)
theorem dX0_frames_8 : decode cX0_frames 8 = .ok (.lastore, 1) := dk_80 (dk_at dksX0_frames_0 8 rfl rfl)
theorem dX0_frames_9 : decode cX0_frames 9 = .ok (.goto 6, 3) := dk_167 0 6 (dk_at dksX0_frames_0 9 rfl rfl)
theorem dX0_frames_12 : decode cX0_frames 12 = .ok (.astore_n 3, 1) := dk_78 (dk_at dksX0_frames_0 12 rfl rfl)
theorem dX0_frames_13 : decode cX0_frames 13 = .ok (.iconst 1, 1) := dk_4 (dk_at dksX0_frames_0 13 rfl rfl)
theorem dX0_frames_14 : decode cX0_frames 14 = .ok (.ireturn, 1) := dk_172 (dk_at dksX0_frames_0 14 rfl rfl)
theorem dX0_frames_15 : decode cX0_frames 15 = .ok (.iconst 0, 1) := dk_3 (dk_at dksX0_frames_0 15 rfl rfl)
theorem dX0_frames_16 : decode cX0_frames 16 = .ok (.ireturn, 1) := dk_172 (dk_at dksX0_frames_0 16 rfl rfl)
abbrev cX0_at : ByteArray := method_15_code
def yX0_at : MethodName := ⟨RX0, "at", "(LSwapWhile;II[J)I"⟩
def dkwX0_at_0 : List UInt8 := [45, 3, 42, 27, 28, 182, 0, 59, 133, 80, 167, 0, 11, 58, 4, 4, 172, 58, 4, 5, 172, 3, 172]
abbrev dktX0_at_0 : List UInt8 := dkwX0_at_0 ++ []
theorem dksX0_at_0 : cX0_at.data.toList.drop 0 = dktX0_at_0 := by decide +kernel
theorem dX0_at_0 : decode cX0_at 0 = .ok (.aload_n 3, 1) := dk_45 (dk_at dksX0_at_0 0 rfl rfl)
theorem dX0_at_1 : decode cX0_at 1 = .ok (.iconst 0, 1) := dk_3 (dk_at dksX0_at_0 1 rfl rfl)
theorem dX0_at_2 : decode cX0_at 2 = .ok (.aload_n 0, 1) := dk_42 (dk_at dksX0_at_0 2 rfl rfl)
theorem dX0_at_3 : decode cX0_at 3 = .ok (.iload_n 1, 1) := dk_27 (dk_at dksX0_at_0 3 rfl rfl)
theorem dX0_at_4 : decode cX0_at 4 = .ok (.iload_n 2, 1) := dk_28 (dk_at dksX0_at_0 4 rfl rfl)
theorem dX0_at_5 : decode cX0_at 5 = .ok (.invokevirtual 59, 3) := dk_182 0 59 (dk_at dksX0_at_0 5 rfl rfl)
theorem dX0_at_8 : decode cX0_at 8 = .ok (.i2l, 1) := dk_133 (dk_at dksX0_at_0 8 rfl rfl)
theorem dX0_at_9 : decode cX0_at 9 = .ok (.lastore, 1) := dk_80 (dk_at dksX0_at_0 9 rfl rfl)
theorem dX0_at_10 : decode cX0_at 10 = .ok (.goto 11, 3) := dk_167 0 11 (dk_at dksX0_at_0 10 rfl rfl)
theorem dX0_at_13 : decode cX0_at 13 = .ok (.astore 4, 2) := dk_58 4 (dk_at dksX0_at_0 13 rfl rfl)
theorem dX0_at_15 : decode cX0_at 15 = .ok (.iconst 1, 1) := dk_4 (dk_at dksX0_at_0 15 rfl rfl)
theorem dX0_at_16 : decode cX0_at 16 = .ok (.ireturn, 1) := dk_172 (dk_at dksX0_at_0 16 rfl rfl)
theorem dX0_at_17 : decode cX0_at 17 = .ok (.astore 4, 2) := dk_58 4 (dk_at dksX0_at_0 17 rfl rfl)
theorem dX0_at_19 : decode cX0_at 19 = .ok (.iconst 2, 1) := dk_5 (dk_at dksX0_at_0 19 rfl rfl)
theorem dX0_at_20 : decode cX0_at 20 = .ok (.ireturn, 1) := dk_172 (dk_at dksX0_at_0 20 rfl rfl)
theorem dX0_at_21 : decode cX0_at 21 = .ok (.iconst 0, 1) := dk_3 (dk_at dksX0_at_0 21 rfl rfl)
theorem dX0_at_22 : decode cX0_at 22 = .ok (.ireturn, 1) := dk_172 (dk_at dksX0_at_0 22 rfl rfl)
abbrev cX0_local : ByteArray := method_16_code
def yX0_local : MethodName := ⟨RX0, "local", "(LSwapWhile;III[J)I"⟩
def dkwX0_local_1 : List UInt8 := [172]
abbrev dktX0_local_1 : List UInt8 := dkwX0_local_1 ++ []
def dkwX0_local_0 : List UInt8 := [25, 4, 3, 42, 27, 28, 29, 182, 0, 62, 133, 80, 167, 0, 11, 58, 5, 4, 172, 58, 5, 5, 172, 3]
abbrev dktX0_local_0 : List UInt8 := dkwX0_local_0 ++ dktX0_local_1
theorem dksX0_local_0 : cX0_local.data.toList.drop 0 = dktX0_local_0 := by decide +kernel
theorem dksX0_local_1 : cX0_local.data.toList.drop 24 = dktX0_local_1 := dk_seg dksX0_local_0 24 rfl rfl
theorem dX0_local_0 : decode cX0_local 0 = .ok (.aload 4, 2) := dk_25 4 (dk_at dksX0_local_0 0 rfl rfl)
theorem dX0_local_2 : decode cX0_local 2 = .ok (.iconst 0, 1) := dk_3 (dk_at dksX0_local_0 2 rfl rfl)
theorem dX0_local_3 : decode cX0_local 3 = .ok (.aload_n 0, 1) := dk_42 (dk_at dksX0_local_0 3 rfl rfl)
theorem dX0_local_4 : decode cX0_local 4 = .ok (.iload_n 1, 1) := dk_27 (dk_at dksX0_local_0 4 rfl rfl)
theorem dX0_local_5 : decode cX0_local 5 = .ok (.iload_n 2, 1) := dk_28 (dk_at dksX0_local_0 5 rfl rfl)
theorem dX0_local_6 : decode cX0_local 6 = .ok (.iload_n 3, 1) := dk_29 (dk_at dksX0_local_0 6 rfl rfl)
theorem dX0_local_7 : decode cX0_local 7 = .ok (.invokevirtual 62, 3) := dk_182 0 62 (dk_at dksX0_local_0 7 rfl rfl)
theorem dX0_local_10 : decode cX0_local 10 = .ok (.i2l, 1) := dk_133 (dk_at dksX0_local_0 10 rfl rfl)
theorem dX0_local_11 : decode cX0_local 11 = .ok (.lastore, 1) := dk_80 (dk_at dksX0_local_0 11 rfl rfl)
theorem dX0_local_12 : decode cX0_local 12 = .ok (.goto 11, 3) := dk_167 0 11 (dk_at dksX0_local_0 12 rfl rfl)
theorem dX0_local_15 : decode cX0_local 15 = .ok (.astore 5, 2) := dk_58 5 (dk_at dksX0_local_0 15 rfl rfl)
theorem dX0_local_17 : decode cX0_local 17 = .ok (.iconst 1, 1) := dk_4 (dk_at dksX0_local_0 17 rfl rfl)
theorem dX0_local_18 : decode cX0_local 18 = .ok (.ireturn, 1) := dk_172 (dk_at dksX0_local_0 18 rfl rfl)
theorem dX0_local_19 : decode cX0_local 19 = .ok (.astore 5, 2) := dk_58 5 (dk_at dksX0_local_0 19 rfl rfl)
theorem dX0_local_21 : decode cX0_local 21 = .ok (.iconst 2, 1) := dk_5 (dk_at dksX0_local_0 21 rfl rfl)
theorem dX0_local_22 : decode cX0_local 22 = .ok (.ireturn, 1) := dk_172 (dk_at dksX0_local_0 22 rfl rfl)
theorem dX0_local_23 : decode cX0_local 23 = .ok (.iconst 0, 1) := dk_3 (dk_at dksX0_local_0 23 rfl rfl)
theorem dX0_local_24 : decode cX0_local 24 = .ok (.ireturn, 1) := dk_172 (dk_at dksX0_local_1 0 rfl rfl)
abbrev cX0_change : ByteArray := method_17_code
def yX0_change : MethodName := ⟨RX0, "change", "(LSwapWhile;CZZI[J)I"⟩
def dkwX0_change_1 : List UInt8 := [172, 3, 172]
abbrev dktX0_change_1 : List UInt8 := dkwX0_change_1 ++ []
def dkwX0_change_0 : List UInt8 := [25, 5, 3, 42, 27, 28, 29, 21, 4, 182, 0, 65, 133, 80, 167, 0, 11, 58, 6, 4, 172, 58, 6, 5]
abbrev dktX0_change_0 : List UInt8 := dkwX0_change_0 ++ dktX0_change_1
theorem dksX0_change_0 : cX0_change.data.toList.drop 0 = dktX0_change_0 := by decide +kernel
theorem dksX0_change_1 : cX0_change.data.toList.drop 24 = dktX0_change_1 := dk_seg dksX0_change_0 24 rfl rfl
theorem dX0_change_0 : decode cX0_change 0 = .ok (.aload 5, 2) := dk_25 5 (dk_at dksX0_change_0 0 rfl rfl)
theorem dX0_change_2 : decode cX0_change 2 = .ok (.iconst 0, 1) := dk_3 (dk_at dksX0_change_0 2 rfl rfl)
theorem dX0_change_3 : decode cX0_change 3 = .ok (.aload_n 0, 1) := dk_42 (dk_at dksX0_change_0 3 rfl rfl)
theorem dX0_change_4 : decode cX0_change 4 = .ok (.iload_n 1, 1) := dk_27 (dk_at dksX0_change_0 4 rfl rfl)
theorem dX0_change_5 : decode cX0_change 5 = .ok (.iload_n 2, 1) := dk_28 (dk_at dksX0_change_0 5 rfl rfl)
theorem dX0_change_6 : decode cX0_change 6 = .ok (.iload_n 3, 1) := dk_29 (dk_at dksX0_change_0 6 rfl rfl)
theorem dX0_change_7 : decode cX0_change 7 = .ok (.iload 4, 2) := dk_21 4 (dk_at dksX0_change_0 7 rfl rfl)
theorem dX0_change_9 : decode cX0_change 9 = .ok (.invokevirtual 65, 3) := dk_182 0 65 (dk_at dksX0_change_0 9 rfl rfl)
theorem dX0_change_12 : decode cX0_change 12 = .ok (.i2l, 1) := dk_133 (dk_at dksX0_change_0 12 rfl rfl)
theorem dX0_change_13 : decode cX0_change 13 = .ok (.lastore, 1) := dk_80 (dk_at dksX0_change_0 13 rfl rfl)
theorem dX0_change_14 : decode cX0_change 14 = .ok (.goto 11, 3) := dk_167 0 11 (dk_at dksX0_change_0 14 rfl rfl)
theorem dX0_change_17 : decode cX0_change 17 = .ok (.astore 6, 2) := dk_58 6 (dk_at dksX0_change_0 17 rfl rfl)
theorem dX0_change_19 : decode cX0_change 19 = .ok (.iconst 1, 1) := dk_4 (dk_at dksX0_change_0 19 rfl rfl)
theorem dX0_change_20 : decode cX0_change 20 = .ok (.ireturn, 1) := dk_172 (dk_at dksX0_change_0 20 rfl rfl)
theorem dX0_change_21 : decode cX0_change 21 = .ok (.astore 6, 2) := dk_58 6 (dk_at dksX0_change_0 21 rfl rfl)
theorem dX0_change_23 : decode cX0_change 23 = .ok (.iconst 2, 1) := dk_5 (dk_at dksX0_change_0 23 rfl rfl)
theorem dX0_change_24 : decode cX0_change 24 = .ok (.ireturn, 1) := dk_172 (dk_at dksX0_change_1 0 rfl rfl)
theorem dX0_change_25 : decode cX0_change 25 = .ok (.iconst 0, 1) := dk_3 (dk_at dksX0_change_1 1 rfl rfl)
theorem dX0_change_26 : decode cX0_change 26 = .ok (.ireturn, 1) := dk_172 (dk_at dksX0_change_1 2 rfl rfl)
abbrev cX0_changed : ByteArray := method_18_code
def yX0_changed : MethodName := ⟨RX0, "changed", "(LSwapWhile;I[J)I"⟩
def dkwX0_changed_0 : List UInt8 := [44, 3, 42, 27, 182, 0, 69, 133, 80, 167, 0, 6, 78, 4, 172, 3, 172]
abbrev dktX0_changed_0 : List UInt8 := dkwX0_changed_0 ++ []
theorem dksX0_changed_0 : cX0_changed.data.toList.drop 0 = dktX0_changed_0 := by decide +kernel
theorem dX0_changed_0 : decode cX0_changed 0 = .ok (.aload_n 2, 1) := dk_44 (dk_at dksX0_changed_0 0 rfl rfl)
theorem dX0_changed_1 : decode cX0_changed 1 = .ok (.iconst 0, 1) := dk_3 (dk_at dksX0_changed_0 1 rfl rfl)
theorem dX0_changed_2 : decode cX0_changed 2 = .ok (.aload_n 0, 1) := dk_42 (dk_at dksX0_changed_0 2 rfl rfl)
theorem dX0_changed_3 : decode cX0_changed 3 = .ok (.iload_n 1, 1) := dk_27 (dk_at dksX0_changed_0 3 rfl rfl)
theorem dX0_changed_4 : decode cX0_changed 4 = .ok (.invokevirtual 69, 3) := dk_182 0 69 (dk_at dksX0_changed_0 4 rfl rfl)
theorem dX0_changed_7 : decode cX0_changed 7 = .ok (.i2l, 1) := dk_133 (dk_at dksX0_changed_0 7 rfl rfl)
theorem dX0_changed_8 : decode cX0_changed 8 = .ok (.lastore, 1) := dk_80 (dk_at dksX0_changed_0 8 rfl rfl)
theorem dX0_changed_9 : decode cX0_changed 9 = .ok (.goto 6, 3) := dk_167 0 6 (dk_at dksX0_changed_0 9 rfl rfl)
theorem dX0_changed_12 : decode cX0_changed 12 = .ok (.astore_n 3, 1) := dk_78 (dk_at dksX0_changed_0 12 rfl rfl)
theorem dX0_changed_13 : decode cX0_changed 13 = .ok (.iconst 1, 1) := dk_4 (dk_at dksX0_changed_0 13 rfl rfl)
theorem dX0_changed_14 : decode cX0_changed 14 = .ok (.ireturn, 1) := dk_172 (dk_at dksX0_changed_0 14 rfl rfl)
theorem dX0_changed_15 : decode cX0_changed 15 = .ok (.iconst 0, 1) := dk_3 (dk_at dksX0_changed_0 15 rfl rfl)
theorem dX0_changed_16 : decode cX0_changed 16 = .ok (.ireturn, 1) := dk_172 (dk_at dksX0_changed_0 16 rfl rfl)
abbrev cX0_against : ByteArray := method_19_code
def yX0_against : MethodName := ⟨RX0, "against", "(LSwapWhile;[J)I"⟩
def dkwX0_against_0 : List UInt8 := [43, 3, 42, 182, 0, 72, 133, 80, 167, 0, 6, 77, 4, 172, 3, 172]
abbrev dktX0_against_0 : List UInt8 := dkwX0_against_0 ++ []
theorem dksX0_against_0 : cX0_against.data.toList.drop 0 = dktX0_against_0 := by decide +kernel
theorem dX0_against_0 : decode cX0_against 0 = .ok (.aload_n 1, 1) := dk_43 (dk_at dksX0_against_0 0 rfl rfl)
theorem dX0_against_1 : decode cX0_against 1 = .ok (.iconst 0, 1) := dk_3 (dk_at dksX0_against_0 1 rfl rfl)
theorem dX0_against_2 : decode cX0_against 2 = .ok (.aload_n 0, 1) := dk_42 (dk_at dksX0_against_0 2 rfl rfl)
theorem dX0_against_3 : decode cX0_against 3 = .ok (.invokevirtual 72, 3) := dk_182 0 72 (dk_at dksX0_against_0 3 rfl rfl)
theorem dX0_against_6 : decode cX0_against 6 = .ok (.i2l, 1) := dk_133 (dk_at dksX0_against_0 6 rfl rfl)
theorem dX0_against_7 : decode cX0_against 7 = .ok (.lastore, 1) := dk_80 (dk_at dksX0_against_0 7 rfl rfl)
theorem dX0_against_8 : decode cX0_against 8 = .ok (.goto 6, 3) := dk_167 0 6 (dk_at dksX0_against_0 8 rfl rfl)
theorem dX0_against_11 : decode cX0_against 11 = .ok (.astore_n 2, 1) := dk_77 (dk_at dksX0_against_0 11 rfl rfl)
theorem dX0_against_12 : decode cX0_against 12 = .ok (.iconst 1, 1) := dk_4 (dk_at dksX0_against_0 12 rfl rfl)
theorem dX0_against_13 : decode cX0_against 13 = .ok (.ireturn, 1) := dk_172 (dk_at dksX0_against_0 13 rfl rfl)
theorem dX0_against_14 : decode cX0_against 14 = .ok (.iconst 0, 1) := dk_3 (dk_at dksX0_against_0 14 rfl rfl)
theorem dX0_against_15 : decode cX0_against 15 = .ok (.ireturn, 1) := dk_172 (dk_at dksX0_against_0 15 rfl rfl)
abbrev cX0_shape : ByteArray := method_20_code
def yX0_shape : MethodName := ⟨RX0, "shape", "(LSwapWhile;I[J)I"⟩
def dkwX0_shape_0 : List UInt8 := [44, 3, 42, 27, 182, 0, 77, 133, 80, 167, 0, 6, 78, 4, 172, 3, 172]
abbrev dktX0_shape_0 : List UInt8 := dkwX0_shape_0 ++ []
theorem dksX0_shape_0 : cX0_shape.data.toList.drop 0 = dktX0_shape_0 := by decide +kernel
theorem dX0_shape_0 : decode cX0_shape 0 = .ok (.aload_n 2, 1) := dk_44 (dk_at dksX0_shape_0 0 rfl rfl)
theorem dX0_shape_1 : decode cX0_shape 1 = .ok (.iconst 0, 1) := dk_3 (dk_at dksX0_shape_0 1 rfl rfl)
theorem dX0_shape_2 : decode cX0_shape 2 = .ok (.aload_n 0, 1) := dk_42 (dk_at dksX0_shape_0 2 rfl rfl)
theorem dX0_shape_3 : decode cX0_shape 3 = .ok (.iload_n 1, 1) := dk_27 (dk_at dksX0_shape_0 3 rfl rfl)
theorem dX0_shape_4 : decode cX0_shape 4 = .ok (.invokevirtual 77, 3) := dk_182 0 77 (dk_at dksX0_shape_0 4 rfl rfl)
theorem dX0_shape_7 : decode cX0_shape 7 = .ok (.i2l, 1) := dk_133 (dk_at dksX0_shape_0 7 rfl rfl)
theorem dX0_shape_8 : decode cX0_shape 8 = .ok (.lastore, 1) := dk_80 (dk_at dksX0_shape_0 8 rfl rfl)
theorem dX0_shape_9 : decode cX0_shape 9 = .ok (.goto 6, 3) := dk_167 0 6 (dk_at dksX0_shape_0 9 rfl rfl)
theorem dX0_shape_12 : decode cX0_shape 12 = .ok (.astore_n 3, 1) := dk_78 (dk_at dksX0_shape_0 12 rfl rfl)
theorem dX0_shape_13 : decode cX0_shape 13 = .ok (.iconst 1, 1) := dk_4 (dk_at dksX0_shape_0 13 rfl rfl)
theorem dX0_shape_14 : decode cX0_shape 14 = .ok (.ireturn, 1) := dk_172 (dk_at dksX0_shape_0 14 rfl rfl)
theorem dX0_shape_15 : decode cX0_shape 15 = .ok (.iconst 0, 1) := dk_3 (dk_at dksX0_shape_0 15 rfl rfl)
theorem dX0_shape_16 : decode cX0_shape 16 = .ok (.ireturn, 1) := dk_172 (dk_at dksX0_shape_0 16 rfl rfl)
abbrev cX0_field : ByteArray := method_21_code
def yX0_field : MethodName := ⟨RX0, "field", "(LSwapWhile;II[J)I"⟩
def dkwX0_field_0 : List UInt8 := [45, 3, 42, 27, 28, 182, 0, 80, 133, 80, 167, 0, 7, 58, 4, 4, 172, 3, 172]
abbrev dktX0_field_0 : List UInt8 := dkwX0_field_0 ++ []
theorem dksX0_field_0 : cX0_field.data.toList.drop 0 = dktX0_field_0 := by decide +kernel
theorem dX0_field_0 : decode cX0_field 0 = .ok (.aload_n 3, 1) := dk_45 (dk_at dksX0_field_0 0 rfl rfl)
theorem dX0_field_1 : decode cX0_field 1 = .ok (.iconst 0, 1) := dk_3 (dk_at dksX0_field_0 1 rfl rfl)
theorem dX0_field_2 : decode cX0_field 2 = .ok (.aload_n 0, 1) := dk_42 (dk_at dksX0_field_0 2 rfl rfl)
theorem dX0_field_3 : decode cX0_field 3 = .ok (.iload_n 1, 1) := dk_27 (dk_at dksX0_field_0 3 rfl rfl)
theorem dX0_field_4 : decode cX0_field 4 = .ok (.iload_n 2, 1) := dk_28 (dk_at dksX0_field_0 4 rfl rfl)
theorem dX0_field_5 : decode cX0_field 5 = .ok (.invokevirtual 80, 3) := dk_182 0 80 (dk_at dksX0_field_0 5 rfl rfl)
theorem dX0_field_8 : decode cX0_field 8 = .ok (.i2l, 1) := dk_133 (dk_at dksX0_field_0 8 rfl rfl)
theorem dX0_field_9 : decode cX0_field 9 = .ok (.lastore, 1) := dk_80 (dk_at dksX0_field_0 9 rfl rfl)
theorem dX0_field_10 : decode cX0_field 10 = .ok (.goto 7, 3) := dk_167 0 7 (dk_at dksX0_field_0 10 rfl rfl)
theorem dX0_field_13 : decode cX0_field 13 = .ok (.astore 4, 2) := dk_58 4 (dk_at dksX0_field_0 13 rfl rfl)
theorem dX0_field_15 : decode cX0_field 15 = .ok (.iconst 1, 1) := dk_4 (dk_at dksX0_field_0 15 rfl rfl)
theorem dX0_field_16 : decode cX0_field 16 = .ok (.ireturn, 1) := dk_172 (dk_at dksX0_field_0 16 rfl rfl)
theorem dX0_field_17 : decode cX0_field 17 = .ok (.iconst 0, 1) := dk_3 (dk_at dksX0_field_0 17 rfl rfl)
theorem dX0_field_18 : decode cX0_field 18 = .ok (.ireturn, 1) := dk_172 (dk_at dksX0_field_0 18 rfl rfl)
abbrev cX0_fieldIn : ByteArray := method_22_code
def yX0_fieldIn : MethodName := ⟨RX0, "fieldIn", "(LSwapWhile;III[J)I"⟩
def dkwX0_fieldIn_0 : List UInt8 := [25, 4, 3, 42, 27, 28, 29, 182, 0, 83, 133, 80, 167, 0, 7, 58, 5, 4, 172, 3, 172]
abbrev dktX0_fieldIn_0 : List UInt8 := dkwX0_fieldIn_0 ++ []
theorem dksX0_fieldIn_0 : cX0_fieldIn.data.toList.drop 0 = dktX0_fieldIn_0 := by decide +kernel
theorem dX0_fieldIn_0 : decode cX0_fieldIn 0 = .ok (.aload 4, 2) := dk_25 4 (dk_at dksX0_fieldIn_0 0 rfl rfl)
theorem dX0_fieldIn_2 : decode cX0_fieldIn 2 = .ok (.iconst 0, 1) := dk_3 (dk_at dksX0_fieldIn_0 2 rfl rfl)
theorem dX0_fieldIn_3 : decode cX0_fieldIn 3 = .ok (.aload_n 0, 1) := dk_42 (dk_at dksX0_fieldIn_0 3 rfl rfl)
theorem dX0_fieldIn_4 : decode cX0_fieldIn 4 = .ok (.iload_n 1, 1) := dk_27 (dk_at dksX0_fieldIn_0 4 rfl rfl)
theorem dX0_fieldIn_5 : decode cX0_fieldIn 5 = .ok (.iload_n 2, 1) := dk_28 (dk_at dksX0_fieldIn_0 5 rfl rfl)
theorem dX0_fieldIn_6 : decode cX0_fieldIn 6 = .ok (.iload_n 3, 1) := dk_29 (dk_at dksX0_fieldIn_0 6 rfl rfl)
theorem dX0_fieldIn_7 : decode cX0_fieldIn 7 = .ok (.invokevirtual 83, 3) := dk_182 0 83 (dk_at dksX0_fieldIn_0 7 rfl rfl)
theorem dX0_fieldIn_10 : decode cX0_fieldIn 10 = .ok (.i2l, 1) := dk_133 (dk_at dksX0_fieldIn_0 10 rfl rfl)
theorem dX0_fieldIn_11 : decode cX0_fieldIn 11 = .ok (.lastore, 1) := dk_80 (dk_at dksX0_fieldIn_0 11 rfl rfl)
theorem dX0_fieldIn_12 : decode cX0_fieldIn 12 = .ok (.goto 7, 3) := dk_167 0 7 (dk_at dksX0_fieldIn_0 12 rfl rfl)
theorem dX0_fieldIn_15 : decode cX0_fieldIn 15 = .ok (.astore 5, 2) := dk_58 5 (dk_at dksX0_fieldIn_0 15 rfl rfl)
theorem dX0_fieldIn_17 : decode cX0_fieldIn 17 = .ok (.iconst 1, 1) := dk_4 (dk_at dksX0_fieldIn_0 17 rfl rfl)
theorem dX0_fieldIn_18 : decode cX0_fieldIn 18 = .ok (.ireturn, 1) := dk_172 (dk_at dksX0_fieldIn_0 18 rfl rfl)
theorem dX0_fieldIn_19 : decode cX0_fieldIn 19 = .ok (.iconst 0, 1) := dk_3 (dk_at dksX0_fieldIn_0 19 rfl rfl)
theorem dX0_fieldIn_20 : decode cX0_fieldIn 20 = .ok (.ireturn, 1) := dk_172 (dk_at dksX0_fieldIn_0 20 rfl rfl)
abbrev cX0_entry : ByteArray := method_23_code
def yX0_entry : MethodName := ⟨RX0, "entry", "(LSwapWhile;I[J)I"⟩
def dkwX0_entry_0 : List UInt8 := [44, 3, 42, 27, 182, 0, 86, 133, 80, 167, 0, 6, 78, 4, 172, 3, 172]
abbrev dktX0_entry_0 : List UInt8 := dkwX0_entry_0 ++ []
theorem dksX0_entry_0 : cX0_entry.data.toList.drop 0 = dktX0_entry_0 := by decide +kernel
theorem dX0_entry_0 : decode cX0_entry 0 = .ok (.aload_n 2, 1) := dk_44 (dk_at dksX0_entry_0 0 rfl rfl)
theorem dX0_entry_1 : decode cX0_entry 1 = .ok (.iconst 0, 1) := dk_3 (dk_at dksX0_entry_0 1 rfl rfl)
theorem dX0_entry_2 : decode cX0_entry 2 = .ok (.aload_n 0, 1) := dk_42 (dk_at dksX0_entry_0 2 rfl rfl)
theorem dX0_entry_3 : decode cX0_entry 3 = .ok (.iload_n 1, 1) := dk_27 (dk_at dksX0_entry_0 3 rfl rfl)
theorem dX0_entry_4 : decode cX0_entry 4 = .ok (.invokevirtual 86, 3) := dk_182 0 86 (dk_at dksX0_entry_0 4 rfl rfl)
theorem dX0_entry_7 : decode cX0_entry 7 = .ok (.i2l, 1) := dk_133 (dk_at dksX0_entry_0 7 rfl rfl)
theorem dX0_entry_8 : decode cX0_entry 8 = .ok (.lastore, 1) := dk_80 (dk_at dksX0_entry_0 8 rfl rfl)
theorem dX0_entry_9 : decode cX0_entry 9 = .ok (.goto 6, 3) := dk_167 0 6 (dk_at dksX0_entry_0 9 rfl rfl)
theorem dX0_entry_12 : decode cX0_entry 12 = .ok (.astore_n 3, 1) := dk_78 (dk_at dksX0_entry_0 12 rfl rfl)
theorem dX0_entry_13 : decode cX0_entry 13 = .ok (.iconst 1, 1) := dk_4 (dk_at dksX0_entry_0 13 rfl rfl)
theorem dX0_entry_14 : decode cX0_entry 14 = .ok (.ireturn, 1) := dk_172 (dk_at dksX0_entry_0 14 rfl rfl)
theorem dX0_entry_15 : decode cX0_entry 15 = .ok (.iconst 0, 1) := dk_3 (dk_at dksX0_entry_0 15 rfl rfl)
theorem dX0_entry_16 : decode cX0_entry 16 = .ok (.ireturn, 1) := dk_172 (dk_at dksX0_entry_0 16 rfl rfl)
abbrev cX0_putAt : ByteArray := method_24_code
def yX0_putAt : MethodName := ⟨RX0, "putAt", "(LSwapWhile;I[J)I"⟩
def dkwX0_putAt_0 : List UInt8 := [44, 3, 42, 27, 182, 0, 89, 133, 80, 167, 0, 6, 78, 4, 172, 3, 172]
abbrev dktX0_putAt_0 : List UInt8 := dkwX0_putAt_0 ++ []
theorem dksX0_putAt_0 : cX0_putAt.data.toList.drop 0 = dktX0_putAt_0 := by decide +kernel
theorem dX0_putAt_0 : decode cX0_putAt 0 = .ok (.aload_n 2, 1) := dk_44 (dk_at dksX0_putAt_0 0 rfl rfl)
theorem dX0_putAt_1 : decode cX0_putAt 1 = .ok (.iconst 0, 1) := dk_3 (dk_at dksX0_putAt_0 1 rfl rfl)
theorem dX0_putAt_2 : decode cX0_putAt 2 = .ok (.aload_n 0, 1) := dk_42 (dk_at dksX0_putAt_0 2 rfl rfl)
theorem dX0_putAt_3 : decode cX0_putAt 3 = .ok (.iload_n 1, 1) := dk_27 (dk_at dksX0_putAt_0 3 rfl rfl)
theorem dX0_putAt_4 : decode cX0_putAt 4 = .ok (.invokevirtual 89, 3) := dk_182 0 89 (dk_at dksX0_putAt_0 4 rfl rfl)
theorem dX0_putAt_7 : decode cX0_putAt 7 = .ok (.i2l, 1) := dk_133 (dk_at dksX0_putAt_0 7 rfl rfl)
theorem dX0_putAt_8 : decode cX0_putAt 8 = .ok (.lastore, 1) := dk_80 (dk_at dksX0_putAt_0 8 rfl rfl)
theorem dX0_putAt_9 : decode cX0_putAt 9 = .ok (.goto 6, 3) := dk_167 0 6 (dk_at dksX0_putAt_0 9 rfl rfl)
theorem dX0_putAt_12 : decode cX0_putAt 12 = .ok (.astore_n 3, 1) := dk_78 (dk_at dksX0_putAt_0 12 rfl rfl)
theorem dX0_putAt_13 : decode cX0_putAt 13 = .ok (.iconst 1, 1) := dk_4 (dk_at dksX0_putAt_0 13 rfl rfl)
theorem dX0_putAt_14 : decode cX0_putAt 14 = .ok (.ireturn, 1) := dk_172 (dk_at dksX0_putAt_0 14 rfl rfl)
theorem dX0_putAt_15 : decode cX0_putAt 15 = .ok (.iconst 0, 1) := dk_3 (dk_at dksX0_putAt_0 15 rfl rfl)
theorem dX0_putAt_16 : decode cX0_putAt 16 = .ok (.ireturn, 1) := dk_172 (dk_at dksX0_putAt_0 16 rfl rfl)
abbrev cX0_putIn : ByteArray := method_25_code
def yX0_putIn : MethodName := ⟨RX0, "putIn", "(LSwapWhile;I[J)I"⟩
def dkwX0_putIn_0 : List UInt8 := [44, 3, 42, 27, 182, 0, 92, 133, 80, 167, 0, 6, 78, 4, 172, 3, 172]
abbrev dktX0_putIn_0 : List UInt8 := dkwX0_putIn_0 ++ []
theorem dksX0_putIn_0 : cX0_putIn.data.toList.drop 0 = dktX0_putIn_0 := by decide +kernel
theorem dX0_putIn_0 : decode cX0_putIn 0 = .ok (.aload_n 2, 1) := dk_44 (dk_at dksX0_putIn_0 0 rfl rfl)
theorem dX0_putIn_1 : decode cX0_putIn 1 = .ok (.iconst 0, 1) := dk_3 (dk_at dksX0_putIn_0 1 rfl rfl)
theorem dX0_putIn_2 : decode cX0_putIn 2 = .ok (.aload_n 0, 1) := dk_42 (dk_at dksX0_putIn_0 2 rfl rfl)
theorem dX0_putIn_3 : decode cX0_putIn 3 = .ok (.iload_n 1, 1) := dk_27 (dk_at dksX0_putIn_0 3 rfl rfl)
theorem dX0_putIn_4 : decode cX0_putIn 4 = .ok (.invokevirtual 92, 3) := dk_182 0 92 (dk_at dksX0_putIn_0 4 rfl rfl)
theorem dX0_putIn_7 : decode cX0_putIn 7 = .ok (.i2l, 1) := dk_133 (dk_at dksX0_putIn_0 7 rfl rfl)
theorem dX0_putIn_8 : decode cX0_putIn 8 = .ok (.lastore, 1) := dk_80 (dk_at dksX0_putIn_0 8 rfl rfl)
theorem dX0_putIn_9 : decode cX0_putIn 9 = .ok (.goto 6, 3) := dk_167 0 6 (dk_at dksX0_putIn_0 9 rfl rfl)
theorem dX0_putIn_12 : decode cX0_putIn 12 = .ok (.astore_n 3, 1) := dk_78 (dk_at dksX0_putIn_0 12 rfl rfl)
theorem dX0_putIn_13 : decode cX0_putIn 13 = .ok (.iconst 1, 1) := dk_4 (dk_at dksX0_putIn_0 13 rfl rfl)
theorem dX0_putIn_14 : decode cX0_putIn 14 = .ok (.ireturn, 1) := dk_172 (dk_at dksX0_putIn_0 14 rfl rfl)
theorem dX0_putIn_15 : decode cX0_putIn 15 = .ok (.iconst 0, 1) := dk_3 (dk_at dksX0_putIn_0 15 rfl rfl)
theorem dX0_putIn_16 : decode cX0_putIn 16 = .ok (.ireturn, 1) := dk_172 (dk_at dksX0_putIn_0 16 rfl rfl)
abbrev cX0_carriedShare : ByteArray := method_26_code
def yX0_carriedShare : MethodName := ⟨RX0, "carriedShare", "(LSwapWhile;[D)I"⟩
def dkwX0_carriedShare_0 : List UInt8 := [43, 3, 42, 182, 0, 95, 141, 82, 167, 0, 6, 77, 4, 172, 3, 172]
abbrev dktX0_carriedShare_0 : List UInt8 := dkwX0_carriedShare_0 ++ []
theorem dksX0_carriedShare_0 : cX0_carriedShare.data.toList.drop 0 = dktX0_carriedShare_0 := by decide +kernel
theorem dX0_carriedShare_0 : decode cX0_carriedShare 0 = .ok (.aload_n 1, 1) := dk_43 (dk_at dksX0_carriedShare_0 0 rfl rfl)
theorem dX0_carriedShare_1 : decode cX0_carriedShare 1 = .ok (.iconst 0, 1) := dk_3 (dk_at dksX0_carriedShare_0 1 rfl rfl)
theorem dX0_carriedShare_2 : decode cX0_carriedShare 2 = .ok (.aload_n 0, 1) := dk_42 (dk_at dksX0_carriedShare_0 2 rfl rfl)
theorem dX0_carriedShare_3 : decode cX0_carriedShare 3 = .ok (.invokevirtual 95, 3) := dk_182 0 95 (dk_at dksX0_carriedShare_0 3 rfl rfl)
theorem dX0_carriedShare_6 : decode cX0_carriedShare 6 = .ok (.f2d, 1) := dk_141 (dk_at dksX0_carriedShare_0 6 rfl rfl)
theorem dX0_carriedShare_7 : decode cX0_carriedShare 7 = .ok (.dastore, 1) := dk_82 (dk_at dksX0_carriedShare_0 7 rfl rfl)
theorem dX0_carriedShare_8 : decode cX0_carriedShare 8 = .ok (.goto 6, 3) := dk_167 0 6 (dk_at dksX0_carriedShare_0 8 rfl rfl)
theorem dX0_carriedShare_11 : decode cX0_carriedShare 11 = .ok (.astore_n 2, 1) := dk_77 (dk_at dksX0_carriedShare_0 11 rfl rfl)
theorem dX0_carriedShare_12 : decode cX0_carriedShare 12 = .ok (.iconst 1, 1) := dk_4 (dk_at dksX0_carriedShare_0 12 rfl rfl)
theorem dX0_carriedShare_13 : decode cX0_carriedShare 13 = .ok (.ireturn, 1) := dk_172 (dk_at dksX0_carriedShare_0 13 rfl rfl)
theorem dX0_carriedShare_14 : decode cX0_carriedShare 14 = .ok (.iconst 0, 1) := dk_3 (dk_at dksX0_carriedShare_0 14 rfl rfl)
theorem dX0_carriedShare_15 : decode cX0_carriedShare 15 = .ok (.ireturn, 1) := dk_172 (dk_at dksX0_carriedShare_0 15 rfl rfl)
abbrev cX0_meanFrames : ByteArray := method_27_code
def yX0_meanFrames : MethodName := ⟨RX0, "meanFrames", "(LSwapWhile;[D)I"⟩
def dkwX0_meanFrames_0 : List UInt8 := [43, 3, 42, 182, 0, 101, 82, 167, 0, 6, 77, 4, 172, 3, 172]
abbrev dktX0_meanFrames_0 : List UInt8 := dkwX0_meanFrames_0 ++ []
theorem dksX0_meanFrames_0 : cX0_meanFrames.data.toList.drop 0 = dktX0_meanFrames_0 := by decide +kernel
theorem dX0_meanFrames_0 : decode cX0_meanFrames 0 = .ok (.aload_n 1, 1) := dk_43 (dk_at dksX0_meanFrames_0 0 rfl rfl)
theorem dX0_meanFrames_1 : decode cX0_meanFrames 1 = .ok (.iconst 0, 1) := dk_3 (dk_at dksX0_meanFrames_0 1 rfl rfl)
theorem dX0_meanFrames_2 : decode cX0_meanFrames 2 = .ok (.aload_n 0, 1) := dk_42 (dk_at dksX0_meanFrames_0 2 rfl rfl)
theorem dX0_meanFrames_3 : decode cX0_meanFrames 3 = .ok (.invokevirtual 101, 3) := dk_182 0 101 (dk_at dksX0_meanFrames_0 3 rfl rfl)
theorem dX0_meanFrames_6 : decode cX0_meanFrames 6 = .ok (.dastore, 1) := dk_82 (dk_at dksX0_meanFrames_0 6 rfl rfl)
theorem dX0_meanFrames_7 : decode cX0_meanFrames 7 = .ok (.goto 6, 3) := dk_167 0 6 (dk_at dksX0_meanFrames_0 7 rfl rfl)
theorem dX0_meanFrames_10 : decode cX0_meanFrames 10 = .ok (.astore_n 2, 1) := dk_77 (dk_at dksX0_meanFrames_0 10 rfl rfl)
theorem dX0_meanFrames_11 : decode cX0_meanFrames 11 = .ok (.iconst 1, 1) := dk_4 (dk_at dksX0_meanFrames_0 11 rfl rfl)
theorem dX0_meanFrames_12 : decode cX0_meanFrames 12 = .ok (.ireturn, 1) := dk_172 (dk_at dksX0_meanFrames_0 12 rfl rfl)
theorem dX0_meanFrames_13 : decode cX0_meanFrames 13 = .ok (.iconst 0, 1) := dk_3 (dk_at dksX0_meanFrames_0 13 rfl rfl)
theorem dX0_meanFrames_14 : decode cX0_meanFrames 14 = .ok (.ireturn, 1) := dk_172 (dk_at dksX0_meanFrames_0 14 rfl rfl)
theorem q64 : (Jvm.Cond.initialized "SwapWhileLaw") ∈ lw_all := lw_g (lw_at lw_m1 0 rfl) rfl
theorem q112 : (Jvm.Cond.classLink "SwapWhileLaw" (8 : Nat) "SwapWhile") ∈ lw_all := lw_g (lw_at lw_m1 48 rfl) rfl
theorem q114 : (Jvm.Cond.methodLink "SwapWhileLaw" (105 : Nat) ({ cls := "SwapWhile", name := "<init>", desc := "()V" } : Jvm.MethodName)) ∈ lw_all := lw_g (lw_at lw_m1 50 rfl) rfl
theorem q400 : (Jvm.Cond.methodLink "SwapWhileLaw" (169 : Nat) ({ cls := "SwapWhile", name := "queued", desc := "()I" } : Jvm.MethodName)) ∈ lw_all := lw_g (lw_at lw_m2 96 rfl) rfl
theorem q413 : (Jvm.Cond.methodLink "SwapWhileLaw" (173 : Nat) ({ cls := "SwapWhile", name := "present", desc := "()I" } : Jvm.MethodName)) ∈ lw_all := lw_g (lw_at lw_m2 109 rfl) rfl
theorem q417 : (Jvm.Cond.methodLink "SwapWhileLaw" (177 : Nat) ({ cls := "SwapWhile", name := "versions", desc := "()I" } : Jvm.MethodName)) ∈ lw_all := lw_g (lw_at lw_m2 113 rfl) rfl
theorem q421 : (Jvm.Cond.methodLink "SwapWhileLaw" (184 : Nat) ({ cls := "SwapWhile", name := "watch", desc := "(I)Z" } : Jvm.MethodName)) ∈ lw_all := lw_g (lw_at lw_m2 117 rfl) rfl
theorem q425 : (Jvm.Cond.methodLink "SwapWhileLaw" (189 : Nat) ({ cls := "SwapWhile", name := "isWatched", desc := "()Z" } : Jvm.MethodName)) ∈ lw_all := lw_g (lw_at lw_m2 121 rfl) rfl
theorem q429 : (Jvm.Cond.methodLink "SwapWhileLaw" (194 : Nat) ({ cls := "SwapWhile", name := "objects", desc := "()I" } : Jvm.MethodName)) ∈ lw_all := lw_g (lw_at lw_m2 125 rfl) rfl
theorem q433 : (Jvm.Cond.methodLink "SwapWhileLaw" (210 : Nat) ({ cls := "SwapWhile", name := "puts", desc := "()I" } : Jvm.MethodName)) ∈ lw_all := lw_g (lw_at lw_m2 129 rfl) rfl
theorem q437 : (Jvm.Cond.methodLink "SwapWhileLaw" (220 : Nat) ({ cls := "SwapWhile", name := "steps", desc := "()J" } : Jvm.MethodName)) ∈ lw_all := lw_g (lw_at lw_m2 133 rfl) rfl
theorem q441 : (Jvm.Cond.methodLink "SwapWhileLaw" (109 : Nat) ({ cls := "SwapWhileLaw", name := "add", desc := "(LSwapWhile;ICIII[J)I" } : Jvm.MethodName)) ∈ lw_all := lw_g (lw_at lw_m2 137 rfl) rfl
theorem q442 : (Jvm.Cond.static ({ cls := "SwapWhileLaw", name := "add", desc := "(LSwapWhile;ICIII[J)I" } : Jvm.MethodName)) ∈ lw_all := lw_g (lw_at lw_m2 138 rfl) rfl
theorem q443 : (Jvm.Cond.codeWith ({ cls := "SwapWhileLaw", name := "add", desc := "(LSwapWhile;ICIII[J)I" } : Jvm.MethodName) method_3_code (8 : Nat) (Option.some Jvm.ClassFile.FieldType.int) [((0 : Nat), (16 : Nat), (19 : Nat), (13 : Nat)), ((0 : Nat), (16 : Nat), (23 : Nat), (15 : Nat))]) ∈ lw_all := lw_g (lw_at lw_m2 139 rfl) rfl
theorem q444 : (Jvm.Cond.classLink "SwapWhileLaw" (13 : Nat) "java/lang/IllegalArgumentException") ∈ lw_all := lw_g (lw_at lw_m2 140 rfl) rfl
theorem q445 : (Jvm.Cond.classLink "SwapWhileLaw" (15 : Nat) "java/lang/IllegalStateException") ∈ lw_all := lw_g (lw_at lw_m2 141 rfl) rfl
theorem q446 : (Jvm.Cond.methodLink "SwapWhileLaw" (7 : Nat) ({ cls := "SwapWhile", name := "add", desc := "(ICIII)I" } : Jvm.MethodName)) ∈ lw_all := lw_g (lw_at lw_m2 142 rfl) rfl
theorem q633 : (Jvm.Cond.methodLink "SwapWhileLaw" (118 : Nat) ({ cls := "SwapWhileLaw", name := "empty", desc := "(LSwapWhile;I[J)I" } : Jvm.MethodName)) ∈ lw_all := lw_g (lw_at lw_m3 89 rfl) rfl
theorem q634 : (Jvm.Cond.static ({ cls := "SwapWhileLaw", name := "empty", desc := "(LSwapWhile;I[J)I" } : Jvm.MethodName)) ∈ lw_all := lw_g (lw_at lw_m3 90 rfl) rfl
theorem q635 : (Jvm.Cond.codeWith ({ cls := "SwapWhileLaw", name := "empty", desc := "(LSwapWhile;I[J)I" } : Jvm.MethodName) method_4_code (4 : Nat) (Option.some Jvm.ClassFile.FieldType.int) [((0 : Nat), (9 : Nat), (12 : Nat), (13 : Nat))]) ∈ lw_all := lw_g (lw_at lw_m3 91 rfl) rfl
theorem q636 : (Jvm.Cond.methodLink "SwapWhileLaw" (17 : Nat) ({ cls := "SwapWhile", name := "empty", desc := "(I)I" } : Jvm.MethodName)) ∈ lw_all := lw_g (lw_at lw_m3 92 rfl) rfl
theorem q649 : (Jvm.Cond.methodLink "SwapWhileLaw" (122 : Nat) ({ cls := "SwapWhileLaw", name := "setFields", desc := "(LSwapWhile;II[J)I" } : Jvm.MethodName)) ∈ lw_all := lw_g (lw_at lw_m3 105 rfl) rfl
theorem q650 : (Jvm.Cond.static ({ cls := "SwapWhileLaw", name := "setFields", desc := "(LSwapWhile;II[J)I" } : Jvm.MethodName)) ∈ lw_all := lw_g (lw_at lw_m3 106 rfl) rfl
theorem q651 : (Jvm.Cond.codeWith ({ cls := "SwapWhileLaw", name := "setFields", desc := "(LSwapWhile;II[J)I" } : Jvm.MethodName) method_5_code (5 : Nat) (Option.some Jvm.ClassFile.FieldType.int) [((0 : Nat), (10 : Nat), (13 : Nat), (13 : Nat))]) ∈ lw_all := lw_g (lw_at lw_m3 107 rfl) rfl
theorem q652 : (Jvm.Cond.methodLink "SwapWhileLaw" (21 : Nat) ({ cls := "SwapWhile", name := "setFields", desc := "(II)I" } : Jvm.MethodName)) ∈ lw_all := lw_g (lw_at lw_m3 108 rfl) rfl
theorem q664 : (Jvm.Cond.methodLink "SwapWhileLaw" (126 : Nat) ({ cls := "SwapWhileLaw", name := "setCarry", desc := "(LSwapWhile;IZIII[J)I" } : Jvm.MethodName)) ∈ lw_all := lw_g (lw_at lw_m3 120 rfl) rfl
theorem q665 : (Jvm.Cond.static ({ cls := "SwapWhileLaw", name := "setCarry", desc := "(LSwapWhile;IZIII[J)I" } : Jvm.MethodName)) ∈ lw_all := lw_g (lw_at lw_m3 121 rfl) rfl
theorem q666 : (Jvm.Cond.codeWith ({ cls := "SwapWhileLaw", name := "setCarry", desc := "(LSwapWhile;IZIII[J)I" } : Jvm.MethodName) method_6_code (8 : Nat) (Option.some Jvm.ClassFile.FieldType.int) [((0 : Nat), (16 : Nat), (19 : Nat), (13 : Nat))]) ∈ lw_all := lw_g (lw_at lw_m3 122 rfl) rfl
theorem q667 : (Jvm.Cond.methodLink "SwapWhileLaw" (25 : Nat) ({ cls := "SwapWhile", name := "setCarry", desc := "(IZIII)I" } : Jvm.MethodName)) ∈ lw_all := lw_g (lw_at lw_m3 123 rfl) rfl
theorem q671 : (Jvm.Cond.methodLink "SwapWhileLaw" (130 : Nat) ({ cls := "SwapWhileLaw", name := "map", desc := "(LSwapWhile;III[J)I" } : Jvm.MethodName)) ∈ lw_all := lw_g (lw_at lw_m3 127 rfl) rfl
theorem q672 : (Jvm.Cond.static ({ cls := "SwapWhileLaw", name := "map", desc := "(LSwapWhile;III[J)I" } : Jvm.MethodName)) ∈ lw_all := lw_g (lw_at lw_m3 128 rfl) rfl
theorem q673 : (Jvm.Cond.codeWith ({ cls := "SwapWhileLaw", name := "map", desc := "(LSwapWhile;III[J)I" } : Jvm.MethodName) method_7_code (6 : Nat) (Option.some Jvm.ClassFile.FieldType.int) [((0 : Nat), (12 : Nat), (15 : Nat), (13 : Nat))]) ∈ lw_all := lw_g (lw_at lw_m3 129 rfl) rfl
theorem q674 : (Jvm.Cond.methodLink "SwapWhileLaw" (29 : Nat) ({ cls := "SwapWhile", name := "map", desc := "(III)I" } : Jvm.MethodName)) ∈ lw_all := lw_g (lw_at lw_m3 130 rfl) rfl
theorem q682 : (Jvm.Cond.methodLink "SwapWhileLaw" (134 : Nat) ({ cls := "SwapWhileLaw", name := "publish", desc := "(LSwapWhile;[J)I" } : Jvm.MethodName)) ∈ lw_all := lw_g (lw_at lw_m3 138 rfl) rfl
theorem q683 : (Jvm.Cond.static ({ cls := "SwapWhileLaw", name := "publish", desc := "(LSwapWhile;[J)I" } : Jvm.MethodName)) ∈ lw_all := lw_g (lw_at lw_m3 139 rfl) rfl
theorem q684 : (Jvm.Cond.codeWith ({ cls := "SwapWhileLaw", name := "publish", desc := "(LSwapWhile;[J)I" } : Jvm.MethodName) method_8_code (3 : Nat) (Option.some Jvm.ClassFile.FieldType.int) [((0 : Nat), (8 : Nat), (11 : Nat), (15 : Nat))]) ∈ lw_all := lw_g (lw_at lw_m3 140 rfl) rfl
theorem q685 : (Jvm.Cond.methodLink "SwapWhileLaw" (33 : Nat) ({ cls := "SwapWhile", name := "publish", desc := "()I" } : Jvm.MethodName)) ∈ lw_all := lw_g (lw_at lw_m3 141 rfl) rfl
theorem q695 : (Jvm.Cond.methodLink "SwapWhileLaw" (138 : Nat) ({ cls := "SwapWhileLaw", name := "isTouched", desc := "(LSwapWhile;II[J)I" } : Jvm.MethodName)) ∈ lw_all := lw_g (lw_at lw_m3 151 rfl) rfl
theorem q696 : (Jvm.Cond.static ({ cls := "SwapWhileLaw", name := "isTouched", desc := "(LSwapWhile;II[J)I" } : Jvm.MethodName)) ∈ lw_all := lw_g (lw_at lw_m3 152 rfl) rfl
theorem q697 : (Jvm.Cond.codeWith ({ cls := "SwapWhileLaw", name := "isTouched", desc := "(LSwapWhile;II[J)I" } : Jvm.MethodName) method_9_code (5 : Nat) (Option.some Jvm.ClassFile.FieldType.int) [((0 : Nat), (17 : Nat), (20 : Nat), (41 : Nat)), ((0 : Nat), (17 : Nat), (24 : Nat), (13 : Nat))]) ∈ lw_all := lw_g (lw_at lw_m3 153 rfl) rfl
theorem q698 : (Jvm.Cond.classLink "SwapWhileLaw" (41 : Nat) "java/lang/IndexOutOfBoundsException") ∈ lw_all := lw_g (lw_at lw_m3 154 rfl) rfl
theorem q731 : (Jvm.Cond.methodLink "SwapWhileLaw" (37 : Nat) ({ cls := "SwapWhile", name := "isTouched", desc := "(II)Z" } : Jvm.MethodName)) ∈ lw_all := lw_g (lw_at lw_m3 187 rfl) rfl
theorem q936 : (Jvm.Cond.methodLink "SwapWhileLaw" (141 : Nat) ({ cls := "SwapWhileLaw", name := "start", desc := "(LSwapWhile;II[J)I" } : Jvm.MethodName)) ∈ lw_all := lw_g (lw_at lw_m4 152 rfl) rfl
theorem q937 : (Jvm.Cond.static ({ cls := "SwapWhileLaw", name := "start", desc := "(LSwapWhile;II[J)I" } : Jvm.MethodName)) ∈ lw_all := lw_g (lw_at lw_m4 153 rfl) rfl
theorem q938 : (Jvm.Cond.codeWith ({ cls := "SwapWhileLaw", name := "start", desc := "(LSwapWhile;II[J)I" } : Jvm.MethodName) method_10_code (5 : Nat) (Option.some Jvm.ClassFile.FieldType.int) [((0 : Nat), (10 : Nat), (13 : Nat), (13 : Nat)), ((0 : Nat), (10 : Nat), (17 : Nat), (15 : Nat))]) ∈ lw_all := lw_g (lw_at lw_m4 154 rfl) rfl
theorem q939 : (Jvm.Cond.methodLink "SwapWhileLaw" (43 : Nat) ({ cls := "SwapWhile", name := "start", desc := "(II)I" } : Jvm.MethodName)) ∈ lw_all := lw_g (lw_at lw_m4 155 rfl) rfl
theorem q1127 : (Jvm.Cond.methodLink "SwapWhileLaw" (144 : Nat) ({ cls := "SwapWhileLaw", name := "step", desc := "(LSwapWhile;II[J)I" } : Jvm.MethodName)) ∈ lw_all := lw_g (lw_at lw_m5 103 rfl) rfl
theorem q1128 : (Jvm.Cond.static ({ cls := "SwapWhileLaw", name := "step", desc := "(LSwapWhile;II[J)I" } : Jvm.MethodName)) ∈ lw_all := lw_g (lw_at lw_m5 104 rfl) rfl
theorem q1129 : (Jvm.Cond.codeWith ({ cls := "SwapWhileLaw", name := "step", desc := "(LSwapWhile;II[J)I" } : Jvm.MethodName) method_11_code (5 : Nat) (Option.some Jvm.ClassFile.FieldType.int) [((0 : Nat), (10 : Nat), (13 : Nat), (13 : Nat))]) ∈ lw_all := lw_g (lw_at lw_m5 105 rfl) rfl
theorem q1130 : (Jvm.Cond.methodLink "SwapWhileLaw" (46 : Nat) ({ cls := "SwapWhile", name := "step", desc := "(II)I" } : Jvm.MethodName)) ∈ lw_all := lw_g (lw_at lw_m5 106 rfl) rfl
theorem q1489 : (Jvm.Cond.methodLink "SwapWhileLaw" (147 : Nat) ({ cls := "SwapWhileLaw", name := "release", desc := "(LSwapWhile;I[J)I" } : Jvm.MethodName)) ∈ lw_all := lw_g (lw_at lw_m6 225 rfl) rfl
theorem q1490 : (Jvm.Cond.static ({ cls := "SwapWhileLaw", name := "release", desc := "(LSwapWhile;I[J)I" } : Jvm.MethodName)) ∈ lw_all := lw_g (lw_at lw_m6 226 rfl) rfl
theorem q1491 : (Jvm.Cond.codeWith ({ cls := "SwapWhileLaw", name := "release", desc := "(LSwapWhile;I[J)I" } : Jvm.MethodName) method_12_code (4 : Nat) (Option.some Jvm.ClassFile.FieldType.int) [((0 : Nat), (9 : Nat), (12 : Nat), (13 : Nat)), ((0 : Nat), (9 : Nat), (15 : Nat), (15 : Nat))]) ∈ lw_all := lw_g (lw_at lw_m6 227 rfl) rfl
theorem q1492 : (Jvm.Cond.methodLink "SwapWhileLaw" (49 : Nat) ({ cls := "SwapWhile", name := "release", desc := "(I)I" } : Jvm.MethodName)) ∈ lw_all := lw_g (lw_at lw_m6 228 rfl) rfl
theorem q1496 : (Jvm.Cond.methodLink "SwapWhileLaw" (150 : Nat) ({ cls := "SwapWhileLaw", name := "state", desc := "(LSwapWhile;I[J)I" } : Jvm.MethodName)) ∈ lw_all := lw_g (lw_at lw_m6 232 rfl) rfl
theorem q1497 : (Jvm.Cond.static ({ cls := "SwapWhileLaw", name := "state", desc := "(LSwapWhile;I[J)I" } : Jvm.MethodName)) ∈ lw_all := lw_g (lw_at lw_m6 233 rfl) rfl
theorem q1498 : (Jvm.Cond.codeWith ({ cls := "SwapWhileLaw", name := "state", desc := "(LSwapWhile;I[J)I" } : Jvm.MethodName) method_13_code (4 : Nat) (Option.some Jvm.ClassFile.FieldType.int) [((0 : Nat), (9 : Nat), (12 : Nat), (13 : Nat))]) ∈ lw_all := lw_g (lw_at lw_m6 234 rfl) rfl
theorem q1499 : (Jvm.Cond.methodLink "SwapWhileLaw" (52 : Nat) ({ cls := "SwapWhile", name := "state", desc := "(I)C" } : Jvm.MethodName)) ∈ lw_all := lw_g (lw_at lw_m6 235 rfl) rfl
theorem q1503 : (Jvm.Cond.methodLink "SwapWhileLaw" (153 : Nat) ({ cls := "SwapWhileLaw", name := "frames", desc := "(LSwapWhile;I[J)I" } : Jvm.MethodName)) ∈ lw_all := lw_g (lw_at lw_m6 239 rfl) rfl
theorem q1504 : (Jvm.Cond.static ({ cls := "SwapWhileLaw", name := "frames", desc := "(LSwapWhile;I[J)I" } : Jvm.MethodName)) ∈ lw_all := lw_g (lw_at lw_m7 0 rfl) rfl
theorem q1505 : (Jvm.Cond.codeWith ({ cls := "SwapWhileLaw", name := "frames", desc := "(LSwapWhile;I[J)I" } : Jvm.MethodName) method_14_code (4 : Nat) (Option.some Jvm.ClassFile.FieldType.int) [((0 : Nat), (9 : Nat), (12 : Nat), (13 : Nat))]) ∈ lw_all := lw_g (lw_at lw_m7 1 rfl) rfl
theorem q1506 : (Jvm.Cond.methodLink "SwapWhileLaw" (56 : Nat) ({ cls := "SwapWhile", name := "frames", desc := "(I)I" } : Jvm.MethodName)) ∈ lw_all := lw_g (lw_at lw_m7 2 rfl) rfl
theorem q1510 : (Jvm.Cond.methodLink "SwapWhileLaw" (156 : Nat) ({ cls := "SwapWhileLaw", name := "at", desc := "(LSwapWhile;II[J)I" } : Jvm.MethodName)) ∈ lw_all := lw_g (lw_at lw_m7 6 rfl) rfl
theorem q1511 : (Jvm.Cond.static ({ cls := "SwapWhileLaw", name := "at", desc := "(LSwapWhile;II[J)I" } : Jvm.MethodName)) ∈ lw_all := lw_g (lw_at lw_m7 7 rfl) rfl
theorem q1512 : (Jvm.Cond.codeWith ({ cls := "SwapWhileLaw", name := "at", desc := "(LSwapWhile;II[J)I" } : Jvm.MethodName) method_15_code (5 : Nat) (Option.some Jvm.ClassFile.FieldType.int) [((0 : Nat), (10 : Nat), (13 : Nat), (13 : Nat)), ((0 : Nat), (10 : Nat), (17 : Nat), (41 : Nat))]) ∈ lw_all := lw_g (lw_at lw_m7 8 rfl) rfl
theorem q1513 : (Jvm.Cond.methodLink "SwapWhileLaw" (59 : Nat) ({ cls := "SwapWhile", name := "at", desc := "(II)I" } : Jvm.MethodName)) ∈ lw_all := lw_g (lw_at lw_m7 9 rfl) rfl
theorem q1521 : (Jvm.Cond.methodLink "SwapWhileLaw" (159 : Nat) ({ cls := "SwapWhileLaw", name := "local", desc := "(LSwapWhile;III[J)I" } : Jvm.MethodName)) ∈ lw_all := lw_g (lw_at lw_m7 17 rfl) rfl
theorem q1522 : (Jvm.Cond.static ({ cls := "SwapWhileLaw", name := "local", desc := "(LSwapWhile;III[J)I" } : Jvm.MethodName)) ∈ lw_all := lw_g (lw_at lw_m7 18 rfl) rfl
theorem q1523 : (Jvm.Cond.codeWith ({ cls := "SwapWhileLaw", name := "local", desc := "(LSwapWhile;III[J)I" } : Jvm.MethodName) method_16_code (6 : Nat) (Option.some Jvm.ClassFile.FieldType.int) [((0 : Nat), (12 : Nat), (15 : Nat), (13 : Nat)), ((0 : Nat), (12 : Nat), (19 : Nat), (41 : Nat))]) ∈ lw_all := lw_g (lw_at lw_m7 19 rfl) rfl
theorem q1524 : (Jvm.Cond.methodLink "SwapWhileLaw" (62 : Nat) ({ cls := "SwapWhile", name := "local", desc := "(III)I" } : Jvm.MethodName)) ∈ lw_all := lw_g (lw_at lw_m7 20 rfl) rfl
theorem q1528 : (Jvm.Cond.methodLink "SwapWhileLaw" (162 : Nat) ({ cls := "SwapWhileLaw", name := "change", desc := "(LSwapWhile;CZZI[J)I" } : Jvm.MethodName)) ∈ lw_all := lw_g (lw_at lw_m7 24 rfl) rfl
theorem q1529 : (Jvm.Cond.static ({ cls := "SwapWhileLaw", name := "change", desc := "(LSwapWhile;CZZI[J)I" } : Jvm.MethodName)) ∈ lw_all := lw_g (lw_at lw_m7 25 rfl) rfl
theorem q1530 : (Jvm.Cond.codeWith ({ cls := "SwapWhileLaw", name := "change", desc := "(LSwapWhile;CZZI[J)I" } : Jvm.MethodName) method_17_code (7 : Nat) (Option.some Jvm.ClassFile.FieldType.int) [((0 : Nat), (14 : Nat), (17 : Nat), (13 : Nat)), ((0 : Nat), (14 : Nat), (21 : Nat), (15 : Nat))]) ∈ lw_all := lw_g (lw_at lw_m7 26 rfl) rfl
theorem q1531 : (Jvm.Cond.methodLink "SwapWhileLaw" (65 : Nat) ({ cls := "SwapWhile", name := "change", desc := "(CZZI)I" } : Jvm.MethodName)) ∈ lw_all := lw_g (lw_at lw_m7 27 rfl) rfl
theorem q1549 : (Jvm.Cond.methodLink "SwapWhileLaw" (166 : Nat) ({ cls := "SwapWhileLaw", name := "changed", desc := "(LSwapWhile;I[J)I" } : Jvm.MethodName)) ∈ lw_all := lw_g (lw_at lw_m7 45 rfl) rfl
theorem q1550 : (Jvm.Cond.static ({ cls := "SwapWhileLaw", name := "changed", desc := "(LSwapWhile;I[J)I" } : Jvm.MethodName)) ∈ lw_all := lw_g (lw_at lw_m7 46 rfl) rfl
theorem q1551 : (Jvm.Cond.codeWith ({ cls := "SwapWhileLaw", name := "changed", desc := "(LSwapWhile;I[J)I" } : Jvm.MethodName) method_18_code (4 : Nat) (Option.some Jvm.ClassFile.FieldType.int) [((0 : Nat), (9 : Nat), (12 : Nat), (41 : Nat))]) ∈ lw_all := lw_g (lw_at lw_m7 47 rfl) rfl
theorem q1552 : (Jvm.Cond.methodLink "SwapWhileLaw" (69 : Nat) ({ cls := "SwapWhile", name := "changed", desc := "(I)C" } : Jvm.MethodName)) ∈ lw_all := lw_g (lw_at lw_m7 48 rfl) rfl
theorem q1556 : (Jvm.Cond.methodLink "SwapWhileLaw" (181 : Nat) ({ cls := "SwapWhileLaw", name := "against", desc := "(LSwapWhile;[J)I" } : Jvm.MethodName)) ∈ lw_all := lw_g (lw_at lw_m7 52 rfl) rfl
theorem q1557 : (Jvm.Cond.static ({ cls := "SwapWhileLaw", name := "against", desc := "(LSwapWhile;[J)I" } : Jvm.MethodName)) ∈ lw_all := lw_g (lw_at lw_m7 53 rfl) rfl
theorem q1558 : (Jvm.Cond.codeWith ({ cls := "SwapWhileLaw", name := "against", desc := "(LSwapWhile;[J)I" } : Jvm.MethodName) method_19_code (3 : Nat) (Option.some Jvm.ClassFile.FieldType.int) [((0 : Nat), (8 : Nat), (11 : Nat), (75 : Nat))]) ∈ lw_all := lw_g (lw_at lw_m7 54 rfl) rfl
theorem q1559 : (Jvm.Cond.classLink "SwapWhileLaw" (75 : Nat) "java/util/NoSuchElementException") ∈ lw_all := lw_g (lw_at lw_m7 55 rfl) rfl
theorem q1560 : (Jvm.Cond.methodLink "SwapWhileLaw" (72 : Nat) ({ cls := "SwapWhile", name := "against", desc := "()I" } : Jvm.MethodName)) ∈ lw_all := lw_g (lw_at lw_m7 56 rfl) rfl
theorem q1566 : (Jvm.Cond.methodLink "SwapWhileLaw" (198 : Nat) ({ cls := "SwapWhileLaw", name := "shape", desc := "(LSwapWhile;I[J)I" } : Jvm.MethodName)) ∈ lw_all := lw_g (lw_at lw_m7 62 rfl) rfl
theorem q1567 : (Jvm.Cond.static ({ cls := "SwapWhileLaw", name := "shape", desc := "(LSwapWhile;I[J)I" } : Jvm.MethodName)) ∈ lw_all := lw_g (lw_at lw_m7 63 rfl) rfl
theorem q1568 : (Jvm.Cond.codeWith ({ cls := "SwapWhileLaw", name := "shape", desc := "(LSwapWhile;I[J)I" } : Jvm.MethodName) method_20_code (4 : Nat) (Option.some Jvm.ClassFile.FieldType.int) [((0 : Nat), (9 : Nat), (12 : Nat), (41 : Nat))]) ∈ lw_all := lw_g (lw_at lw_m7 64 rfl) rfl
theorem q1569 : (Jvm.Cond.methodLink "SwapWhileLaw" (77 : Nat) ({ cls := "SwapWhile", name := "shape", desc := "(I)I" } : Jvm.MethodName)) ∈ lw_all := lw_g (lw_at lw_m7 65 rfl) rfl
theorem q1578 : (Jvm.Cond.methodLink "SwapWhileLaw" (201 : Nat) ({ cls := "SwapWhileLaw", name := "field", desc := "(LSwapWhile;II[J)I" } : Jvm.MethodName)) ∈ lw_all := lw_g (lw_at lw_m7 74 rfl) rfl
theorem q1579 : (Jvm.Cond.static ({ cls := "SwapWhileLaw", name := "field", desc := "(LSwapWhile;II[J)I" } : Jvm.MethodName)) ∈ lw_all := lw_g (lw_at lw_m7 75 rfl) rfl
theorem q1580 : (Jvm.Cond.codeWith ({ cls := "SwapWhileLaw", name := "field", desc := "(LSwapWhile;II[J)I" } : Jvm.MethodName) method_21_code (5 : Nat) (Option.some Jvm.ClassFile.FieldType.int) [((0 : Nat), (10 : Nat), (13 : Nat), (41 : Nat))]) ∈ lw_all := lw_g (lw_at lw_m7 76 rfl) rfl
theorem q1581 : (Jvm.Cond.methodLink "SwapWhileLaw" (80 : Nat) ({ cls := "SwapWhile", name := "field", desc := "(II)I" } : Jvm.MethodName)) ∈ lw_all := lw_g (lw_at lw_m7 77 rfl) rfl
theorem q1585 : (Jvm.Cond.methodLink "SwapWhileLaw" (204 : Nat) ({ cls := "SwapWhileLaw", name := "fieldIn", desc := "(LSwapWhile;III[J)I" } : Jvm.MethodName)) ∈ lw_all := lw_g (lw_at lw_m7 81 rfl) rfl
theorem q1586 : (Jvm.Cond.static ({ cls := "SwapWhileLaw", name := "fieldIn", desc := "(LSwapWhile;III[J)I" } : Jvm.MethodName)) ∈ lw_all := lw_g (lw_at lw_m7 82 rfl) rfl
theorem q1587 : (Jvm.Cond.codeWith ({ cls := "SwapWhileLaw", name := "fieldIn", desc := "(LSwapWhile;III[J)I" } : Jvm.MethodName) method_22_code (6 : Nat) (Option.some Jvm.ClassFile.FieldType.int) [((0 : Nat), (12 : Nat), (15 : Nat), (41 : Nat))]) ∈ lw_all := lw_g (lw_at lw_m7 83 rfl) rfl
theorem q1588 : (Jvm.Cond.methodLink "SwapWhileLaw" (83 : Nat) ({ cls := "SwapWhile", name := "fieldIn", desc := "(III)I" } : Jvm.MethodName)) ∈ lw_all := lw_g (lw_at lw_m7 84 rfl) rfl
theorem q1593 : (Jvm.Cond.methodLink "SwapWhileLaw" (207 : Nat) ({ cls := "SwapWhileLaw", name := "entry", desc := "(LSwapWhile;I[J)I" } : Jvm.MethodName)) ∈ lw_all := lw_g (lw_at lw_m7 89 rfl) rfl
theorem q1594 : (Jvm.Cond.static ({ cls := "SwapWhileLaw", name := "entry", desc := "(LSwapWhile;I[J)I" } : Jvm.MethodName)) ∈ lw_all := lw_g (lw_at lw_m7 90 rfl) rfl
theorem q1595 : (Jvm.Cond.codeWith ({ cls := "SwapWhileLaw", name := "entry", desc := "(LSwapWhile;I[J)I" } : Jvm.MethodName) method_23_code (4 : Nat) (Option.some Jvm.ClassFile.FieldType.int) [((0 : Nat), (9 : Nat), (12 : Nat), (41 : Nat))]) ∈ lw_all := lw_g (lw_at lw_m7 91 rfl) rfl
theorem q1596 : (Jvm.Cond.methodLink "SwapWhileLaw" (86 : Nat) ({ cls := "SwapWhile", name := "entry", desc := "(I)I" } : Jvm.MethodName)) ∈ lw_all := lw_g (lw_at lw_m7 92 rfl) rfl
theorem q1600 : (Jvm.Cond.methodLink "SwapWhileLaw" (214 : Nat) ({ cls := "SwapWhileLaw", name := "putAt", desc := "(LSwapWhile;I[J)I" } : Jvm.MethodName)) ∈ lw_all := lw_g (lw_at lw_m7 96 rfl) rfl
theorem q1601 : (Jvm.Cond.static ({ cls := "SwapWhileLaw", name := "putAt", desc := "(LSwapWhile;I[J)I" } : Jvm.MethodName)) ∈ lw_all := lw_g (lw_at lw_m7 97 rfl) rfl
theorem q1602 : (Jvm.Cond.codeWith ({ cls := "SwapWhileLaw", name := "putAt", desc := "(LSwapWhile;I[J)I" } : Jvm.MethodName) method_24_code (4 : Nat) (Option.some Jvm.ClassFile.FieldType.int) [((0 : Nat), (9 : Nat), (12 : Nat), (41 : Nat))]) ∈ lw_all := lw_g (lw_at lw_m7 98 rfl) rfl
theorem q1603 : (Jvm.Cond.methodLink "SwapWhileLaw" (89 : Nat) ({ cls := "SwapWhile", name := "putAt", desc := "(I)I" } : Jvm.MethodName)) ∈ lw_all := lw_g (lw_at lw_m7 99 rfl) rfl
theorem q1612 : (Jvm.Cond.methodLink "SwapWhileLaw" (217 : Nat) ({ cls := "SwapWhileLaw", name := "putIn", desc := "(LSwapWhile;I[J)I" } : Jvm.MethodName)) ∈ lw_all := lw_g (lw_at lw_m7 108 rfl) rfl
theorem q1613 : (Jvm.Cond.static ({ cls := "SwapWhileLaw", name := "putIn", desc := "(LSwapWhile;I[J)I" } : Jvm.MethodName)) ∈ lw_all := lw_g (lw_at lw_m7 109 rfl) rfl
theorem q1614 : (Jvm.Cond.codeWith ({ cls := "SwapWhileLaw", name := "putIn", desc := "(LSwapWhile;I[J)I" } : Jvm.MethodName) method_25_code (4 : Nat) (Option.some Jvm.ClassFile.FieldType.int) [((0 : Nat), (9 : Nat), (12 : Nat), (41 : Nat))]) ∈ lw_all := lw_g (lw_at lw_m7 110 rfl) rfl
theorem q1615 : (Jvm.Cond.methodLink "SwapWhileLaw" (92 : Nat) ({ cls := "SwapWhile", name := "putIn", desc := "(I)I" } : Jvm.MethodName)) ∈ lw_all := lw_g (lw_at lw_m7 111 rfl) rfl
theorem q1619 : (Jvm.Cond.methodLink "SwapWhileLaw" (225 : Nat) ({ cls := "SwapWhileLaw", name := "carriedShare", desc := "(LSwapWhile;[D)I" } : Jvm.MethodName)) ∈ lw_all := lw_g (lw_at lw_m7 115 rfl) rfl
theorem q1620 : (Jvm.Cond.static ({ cls := "SwapWhileLaw", name := "carriedShare", desc := "(LSwapWhile;[D)I" } : Jvm.MethodName)) ∈ lw_all := lw_g (lw_at lw_m7 116 rfl) rfl
theorem q1621 : (Jvm.Cond.codeWith ({ cls := "SwapWhileLaw", name := "carriedShare", desc := "(LSwapWhile;[D)I" } : Jvm.MethodName) method_26_code (3 : Nat) (Option.some Jvm.ClassFile.FieldType.int) [((0 : Nat), (8 : Nat), (11 : Nat), (99 : Nat))]) ∈ lw_all := lw_g (lw_at lw_m7 117 rfl) rfl
theorem q1622 : (Jvm.Cond.classLink "SwapWhileLaw" (99 : Nat) "java/lang/ArithmeticException") ∈ lw_all := lw_g (lw_at lw_m7 118 rfl) rfl
theorem q1636 : (Jvm.Cond.methodLink "SwapWhileLaw" (95 : Nat) ({ cls := "SwapWhile", name := "carriedShare", desc := "()F" } : Jvm.MethodName)) ∈ lw_all := lw_g (lw_at lw_m7 132 rfl) rfl
theorem q1651 : (Jvm.Cond.methodLink "SwapWhileLaw" (229 : Nat) ({ cls := "SwapWhileLaw", name := "meanFrames", desc := "(LSwapWhile;[D)I" } : Jvm.MethodName)) ∈ lw_all := lw_g (lw_at lw_m7 147 rfl) rfl
theorem q1652 : (Jvm.Cond.static ({ cls := "SwapWhileLaw", name := "meanFrames", desc := "(LSwapWhile;[D)I" } : Jvm.MethodName)) ∈ lw_all := lw_g (lw_at lw_m7 148 rfl) rfl
theorem q1653 : (Jvm.Cond.codeWith ({ cls := "SwapWhileLaw", name := "meanFrames", desc := "(LSwapWhile;[D)I" } : Jvm.MethodName) method_27_code (3 : Nat) (Option.some Jvm.ClassFile.FieldType.int) [((0 : Nat), (7 : Nat), (10 : Nat), (99 : Nat))]) ∈ lw_all := lw_g (lw_at lw_m7 149 rfl) rfl
theorem q1654 : (Jvm.Cond.methodLink "SwapWhileLaw" (101 : Nat) ({ cls := "SwapWhile", name := "meanFrames", desc := "()D" } : Jvm.MethodName)) ∈ lw_all := lw_g (lw_at lw_m7 150 rfl) rfl
theorem q1658 : (Jvm.Cond.classLink "SwapWhileLaw" (106 : Nat) "SwapWhileModel") ∈ lw_all := lw_g (lw_at lw_m7 154 rfl) rfl
theorem q1660 : (Jvm.Cond.methodLink "SwapWhileLaw" (108 : Nat) ({ cls := "SwapWhileModel", name := "<init>", desc := "()V" } : Jvm.MethodName)) ∈ lw_all := lw_g (lw_at lw_m7 156 rfl) rfl
theorem q1773 : (Jvm.Cond.methodLink "SwapWhileLaw" (115 : Nat) ({ cls := "SwapWhileModel", name := "thrown", desc := "()I" } : Jvm.MethodName)) ∈ lw_all := lw_g (lw_at lw_m8 29 rfl) rfl
theorem q1777 : (Jvm.Cond.methodLink "SwapWhileLaw" (114 : Nat) ({ cls := "SwapWhileModel", name := "add", desc := "(ICIII)I" } : Jvm.MethodName)) ∈ lw_all := lw_g (lw_at lw_m8 33 rfl) rfl
theorem q1821 : (Jvm.Cond.methodLink "SwapWhileLaw" (121 : Nat) ({ cls := "SwapWhileModel", name := "empty", desc := "(I)I" } : Jvm.MethodName)) ∈ lw_all := lw_g (lw_at lw_m8 77 rfl) rfl
theorem q1826 : (Jvm.Cond.methodLink "SwapWhileLaw" (125 : Nat) ({ cls := "SwapWhileModel", name := "setFields", desc := "(II)I" } : Jvm.MethodName)) ∈ lw_all := lw_g (lw_at lw_m8 82 rfl) rfl
theorem q1836 : (Jvm.Cond.methodLink "SwapWhileLaw" (129 : Nat) ({ cls := "SwapWhileModel", name := "setCarry", desc := "(IZIII)I" } : Jvm.MethodName)) ∈ lw_all := lw_g (lw_at lw_m8 92 rfl) rfl
theorem q1840 : (Jvm.Cond.methodLink "SwapWhileLaw" (133 : Nat) ({ cls := "SwapWhileModel", name := "map", desc := "(III)I" } : Jvm.MethodName)) ∈ lw_all := lw_g (lw_at lw_m8 96 rfl) rfl
theorem q1844 : (Jvm.Cond.methodLink "SwapWhileLaw" (137 : Nat) ({ cls := "SwapWhileModel", name := "publish", desc := "()I" } : Jvm.MethodName)) ∈ lw_all := lw_g (lw_at lw_m8 100 rfl) rfl
theorem q1848 : (Jvm.Cond.methodLink "SwapWhileLaw" (140 : Nat) ({ cls := "SwapWhileModel", name := "isTouched", desc := "(II)Z" } : Jvm.MethodName)) ∈ lw_all := lw_g (lw_at lw_m8 104 rfl) rfl
theorem q1868 : (Jvm.Cond.methodLink "SwapWhileLaw" (143 : Nat) ({ cls := "SwapWhileModel", name := "start", desc := "(II)I" } : Jvm.MethodName)) ∈ lw_all := lw_g (lw_at lw_m8 124 rfl) rfl
theorem q1971 : (Jvm.Cond.methodLink "SwapWhileLaw" (146 : Nat) ({ cls := "SwapWhileModel", name := "step", desc := "(II)I" } : Jvm.MethodName)) ∈ lw_all := lw_g (lw_at lw_m8 227 rfl) rfl
theorem q2080 : (Jvm.Cond.methodLink "SwapWhileLaw" (149 : Nat) ({ cls := "SwapWhileModel", name := "release", desc := "(I)I" } : Jvm.MethodName)) ∈ lw_all := lw_g (lw_at lw_m9 96 rfl) rfl
theorem q2084 : (Jvm.Cond.methodLink "SwapWhileLaw" (152 : Nat) ({ cls := "SwapWhileModel", name := "state", desc := "(I)C" } : Jvm.MethodName)) ∈ lw_all := lw_g (lw_at lw_m9 100 rfl) rfl
theorem q2088 : (Jvm.Cond.methodLink "SwapWhileLaw" (155 : Nat) ({ cls := "SwapWhileModel", name := "frames", desc := "(I)I" } : Jvm.MethodName)) ∈ lw_all := lw_g (lw_at lw_m9 104 rfl) rfl
theorem q2092 : (Jvm.Cond.methodLink "SwapWhileLaw" (158 : Nat) ({ cls := "SwapWhileModel", name := "at", desc := "(II)I" } : Jvm.MethodName)) ∈ lw_all := lw_g (lw_at lw_m9 108 rfl) rfl
theorem q2100 : (Jvm.Cond.methodLink "SwapWhileLaw" (161 : Nat) ({ cls := "SwapWhileModel", name := "local", desc := "(III)I" } : Jvm.MethodName)) ∈ lw_all := lw_g (lw_at lw_m9 116 rfl) rfl
theorem q2104 : (Jvm.Cond.methodLink "SwapWhileLaw" (165 : Nat) ({ cls := "SwapWhileModel", name := "change", desc := "(CZZI)I" } : Jvm.MethodName)) ∈ lw_all := lw_g (lw_at lw_m9 120 rfl) rfl
theorem q2108 : (Jvm.Cond.methodLink "SwapWhileLaw" (168 : Nat) ({ cls := "SwapWhileModel", name := "changed", desc := "(I)C" } : Jvm.MethodName)) ∈ lw_all := lw_g (lw_at lw_m9 124 rfl) rfl
theorem q2112 : (Jvm.Cond.methodLink "SwapWhileLaw" (172 : Nat) ({ cls := "SwapWhileModel", name := "queued", desc := "()I" } : Jvm.MethodName)) ∈ lw_all := lw_g (lw_at lw_m9 128 rfl) rfl
theorem q2116 : (Jvm.Cond.methodLink "SwapWhileLaw" (176 : Nat) ({ cls := "SwapWhileModel", name := "present", desc := "()I" } : Jvm.MethodName)) ∈ lw_all := lw_g (lw_at lw_m9 132 rfl) rfl
theorem q2120 : (Jvm.Cond.methodLink "SwapWhileLaw" (180 : Nat) ({ cls := "SwapWhileModel", name := "versions", desc := "()I" } : Jvm.MethodName)) ∈ lw_all := lw_g (lw_at lw_m9 136 rfl) rfl
theorem q2124 : (Jvm.Cond.methodLink "SwapWhileLaw" (183 : Nat) ({ cls := "SwapWhileModel", name := "against", desc := "()I" } : Jvm.MethodName)) ∈ lw_all := lw_g (lw_at lw_m9 140 rfl) rfl
theorem q2128 : (Jvm.Cond.methodLink "SwapWhileLaw" (188 : Nat) ({ cls := "SwapWhileModel", name := "watch", desc := "(I)Z" } : Jvm.MethodName)) ∈ lw_all := lw_g (lw_at lw_m9 144 rfl) rfl
theorem q2132 : (Jvm.Cond.methodLink "SwapWhileLaw" (193 : Nat) ({ cls := "SwapWhileModel", name := "isWatched", desc := "()Z" } : Jvm.MethodName)) ∈ lw_all := lw_g (lw_at lw_m9 148 rfl) rfl
theorem q2136 : (Jvm.Cond.methodLink "SwapWhileLaw" (197 : Nat) ({ cls := "SwapWhileModel", name := "objects", desc := "()I" } : Jvm.MethodName)) ∈ lw_all := lw_g (lw_at lw_m9 152 rfl) rfl
theorem q2140 : (Jvm.Cond.methodLink "SwapWhileLaw" (200 : Nat) ({ cls := "SwapWhileModel", name := "shape", desc := "(I)I" } : Jvm.MethodName)) ∈ lw_all := lw_g (lw_at lw_m9 156 rfl) rfl
theorem q2148 : (Jvm.Cond.methodLink "SwapWhileLaw" (203 : Nat) ({ cls := "SwapWhileModel", name := "field", desc := "(II)I" } : Jvm.MethodName)) ∈ lw_all := lw_g (lw_at lw_m9 164 rfl) rfl
theorem q2152 : (Jvm.Cond.methodLink "SwapWhileLaw" (206 : Nat) ({ cls := "SwapWhileModel", name := "fieldIn", desc := "(III)I" } : Jvm.MethodName)) ∈ lw_all := lw_g (lw_at lw_m9 168 rfl) rfl
theorem q2156 : (Jvm.Cond.methodLink "SwapWhileLaw" (209 : Nat) ({ cls := "SwapWhileModel", name := "entry", desc := "(I)I" } : Jvm.MethodName)) ∈ lw_all := lw_g (lw_at lw_m9 172 rfl) rfl
theorem q2160 : (Jvm.Cond.methodLink "SwapWhileLaw" (213 : Nat) ({ cls := "SwapWhileModel", name := "puts", desc := "()I" } : Jvm.MethodName)) ∈ lw_all := lw_g (lw_at lw_m9 176 rfl) rfl
theorem q2164 : (Jvm.Cond.methodLink "SwapWhileLaw" (216 : Nat) ({ cls := "SwapWhileModel", name := "putAt", desc := "(I)I" } : Jvm.MethodName)) ∈ lw_all := lw_g (lw_at lw_m9 180 rfl) rfl
theorem q2174 : (Jvm.Cond.methodLink "SwapWhileLaw" (219 : Nat) ({ cls := "SwapWhileModel", name := "putIn", desc := "(I)I" } : Jvm.MethodName)) ∈ lw_all := lw_g (lw_at lw_m9 190 rfl) rfl
theorem q2178 : (Jvm.Cond.methodLink "SwapWhileLaw" (224 : Nat) ({ cls := "SwapWhileModel", name := "steps", desc := "()J" } : Jvm.MethodName)) ∈ lw_all := lw_g (lw_at lw_m9 194 rfl) rfl
theorem q2182 : (Jvm.Cond.methodLink "SwapWhileLaw" (228 : Nat) ({ cls := "SwapWhileModel", name := "carriedShare", desc := "()F" } : Jvm.MethodName)) ∈ lw_all := lw_g (lw_at lw_m9 198 rfl) rfl
theorem q2186 : (Jvm.Cond.methodLink "SwapWhileLaw" (231 : Nat) ({ cls := "SwapWhileModel", name := "meanFrames", desc := "()D" } : Jvm.MethodName)) ∈ lw_all := lw_g (lw_at lw_m9 202 rfl) rfl
