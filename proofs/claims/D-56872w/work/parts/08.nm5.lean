/-! SwapWhileModel -/
set_option maxRecDepth 100000
def RX5 : String := "SwapWhileModel"
def TX5 : u_T := fun k => match k with
  | 0 => ("SwapWhileModel", "thrown", "I", false)
  | 1 => ("SwapWhileModel", "versions", "Ljava/util/ArrayList;", true)
  | 2 => ("SwapWhileModel", "draft", "LSwapWhileModel$Version;", false)
  | 3 => ("SwapWhileModel", "present", "I", false)
  | 4 => ("SwapWhileModel", "lanes", "Ljava/util/ArrayList;", true)
  | 5 => ("SwapWhileModel", "things", "Ljava/util/ArrayList;", true)
  | 6 => ("SwapWhileModel", "table", "[I", true)
  | 7 => ("SwapWhileModel", "changes", "Ljava/util/ArrayList;", true)
  | 8 => ("SwapWhileModel", "queue", "Ljava/util/ArrayList;", true)
  | 9 => ("SwapWhileModel", "isWatched", "Z", false)
  | 10 => ("SwapWhileModel", "limit", "I", false)
  | 11 => ("SwapWhileModel", "amounts", "Ljava/util/ArrayList;", true)
  | 12 => ("SwapWhileModel", "amountVersions", "Ljava/util/ArrayList;", true)
  | _ => ("SwapWhileModel", "steps", "J", false)
def tyX5 : Nat → FieldType := fun k => match k with
  | 0 => .int
  | 1 => .object "java/util/ArrayList"
  | 2 => .object "SwapWhileModel$Version"
  | 3 => .int
  | 4 => .object "java/util/ArrayList"
  | 5 => .object "java/util/ArrayList"
  | 6 => .array .int
  | 7 => .object "java/util/ArrayList"
  | 8 => .object "java/util/ArrayList"
  | 9 => .boolean
  | 10 => .int
  | 11 => .object "java/util/ArrayList"
  | 12 => .object "java/util/ArrayList"
  | _ => .long
abbrev wsX50 : List Cond := u_ws RX5 TX5 14
set_option maxRecDepth 100000 in
theorem nmX5 : ∀ a, a < 14 → ∀ b, b < 14 → a ≠ b → (TX5 a).2.1 ≠ (TX5 b).2.1 := by decide +kernel
set_option maxRecDepth 100000 in
theorem tyX5_ok : ∀ k, k < 14 → parseFieldDescriptor (TX5 k).2.2.1 = some (tyX5 k) := by decide +kernel
abbrev cX5_init : ByteArray := prog_24_method_5_code
def yX5_init : MethodName := ⟨RX5, "<init>", "()V"⟩
def dkwX5_init_6 : List UInt8 := [187, 0, 66, 89, 183, 0, 68, 182, 0, 54, 87, 132, 1, 1, 167, 255, 233, 177]
abbrev dktX5_init_6 : List UInt8 := dkwX5_init_6 ++ []
def dkwX5_init_5 : List UInt8 := [3, 182, 0, 58, 192, 0, 49, 183, 0, 51, 181, 0, 62, 3, 60, 27, 6, 162, 0, 24, 42, 180, 0, 27]
abbrev dktX5_init_5 : List UInt8 := dkwX5_init_5 ++ dktX5_init_6
def dkwX5_init_4 : List UInt8 := [180, 0, 23, 187, 0, 49, 89, 1, 183, 0, 51, 182, 0, 54, 87, 42, 187, 0, 49, 89, 42, 180, 0, 23]
abbrev dktX5_init_4 : List UInt8 := dkwX5_init_4 ++ dktX5_init_5
def dkwX5_init_3 : List UInt8 := [187, 0, 20, 89, 183, 0, 22, 181, 0, 43, 42, 187, 0, 20, 89, 183, 0, 22, 181, 0, 46, 42]
abbrev dktX5_init_3 : List UInt8 := dkwX5_init_3 ++ dktX5_init_4
def dkwX5_init_2 : List UInt8 := [187, 0, 20, 89, 183, 0, 22, 181, 0, 37, 42, 187, 0, 20, 89, 183, 0, 22, 181, 0, 40, 42]
abbrev dktX5_init_2 : List UInt8 := dkwX5_init_2 ++ dktX5_init_3
def dkwX5_init_1 : List UInt8 := [181, 0, 27, 42, 187, 0, 20, 89, 183, 0, 22, 181, 0, 30, 42, 7, 188, 10, 181, 0, 33, 42]
abbrev dktX5_init_1 : List UInt8 := dkwX5_init_1 ++ dktX5_init_2
def dkwX5_init_0 : List UInt8 := [42, 183, 0, 14, 42, 187, 0, 20, 89, 183, 0, 22, 181, 0, 23, 42, 187, 0, 20, 89, 183, 0, 22]
abbrev dktX5_init_0 : List UInt8 := dkwX5_init_0 ++ dktX5_init_1
theorem dksX5_init_0 : cX5_init.data.toList.drop 0 = dktX5_init_0 := by decide +kernel
theorem dksX5_init_1 : cX5_init.data.toList.drop 23 = dktX5_init_1 := dk_seg dksX5_init_0 23 rfl rfl
theorem dksX5_init_2 : cX5_init.data.toList.drop 45 = dktX5_init_2 := dk_seg dksX5_init_1 22 rfl rfl
theorem dksX5_init_3 : cX5_init.data.toList.drop 67 = dktX5_init_3 := dk_seg dksX5_init_2 22 rfl rfl
theorem dksX5_init_4 : cX5_init.data.toList.drop 89 = dktX5_init_4 := dk_seg dksX5_init_3 22 rfl rfl
theorem dksX5_init_5 : cX5_init.data.toList.drop 113 = dktX5_init_5 := dk_seg dksX5_init_4 24 rfl rfl
theorem dksX5_init_6 : cX5_init.data.toList.drop 137 = dktX5_init_6 := dk_seg dksX5_init_5 24 rfl rfl
theorem dX5_init_0 : decode cX5_init 0 = .ok (.aload_n 0, 1) := dk_42 (dk_at dksX5_init_0 0 rfl rfl)
theorem dX5_init_1 : decode cX5_init 1 = .ok (.invokespecial 14, 3) := dk_183 0 14 (dk_at dksX5_init_0 1 rfl rfl)
theorem dX5_init_4 : decode cX5_init 4 = .ok (.aload_n 0, 1) := dk_42 (dk_at dksX5_init_0 4 rfl rfl)
theorem dX5_init_5 : decode cX5_init 5 = .ok (.new 20, 3) := dk_187 0 20 (dk_at dksX5_init_0 5 rfl rfl)
theorem dX5_init_8 : decode cX5_init 8 = .ok (.dup, 1) := dk_89 (dk_at dksX5_init_0 8 rfl rfl)
theorem dX5_init_9 : decode cX5_init 9 = .ok (.invokespecial 22, 3) := dk_183 0 22 (dk_at dksX5_init_0 9 rfl rfl)
theorem dX5_init_12 : decode cX5_init 12 = .ok (.putfield 23, 3) := dk_181 0 23 (dk_at dksX5_init_0 12 rfl rfl)
theorem dX5_init_15 : decode cX5_init 15 = .ok (.aload_n 0, 1) := dk_42 (dk_at dksX5_init_0 15 rfl rfl)
theorem dX5_init_16 : decode cX5_init 16 = .ok (.new 20, 3) := dk_187 0 20 (dk_at dksX5_init_0 16 rfl rfl)
theorem dX5_init_19 : decode cX5_init 19 = .ok (.dup, 1) := dk_89 (dk_at dksX5_init_0 19 rfl rfl)
theorem dX5_init_20 : decode cX5_init 20 = .ok (.invokespecial 22, 3) := dk_183 0 22 (dk_at dksX5_init_0 20 rfl rfl)
theorem dX5_init_23 : decode cX5_init 23 = .ok (.putfield 27, 3) := dk_181 0 27 (dk_at dksX5_init_1 0 rfl rfl)
theorem dX5_init_26 : decode cX5_init 26 = .ok (.aload_n 0, 1) := dk_42 (dk_at dksX5_init_1 3 rfl rfl)
theorem dX5_init_27 : decode cX5_init 27 = .ok (.new 20, 3) := dk_187 0 20 (dk_at dksX5_init_1 4 rfl rfl)
theorem dX5_init_30 : decode cX5_init 30 = .ok (.dup, 1) := dk_89 (dk_at dksX5_init_1 7 rfl rfl)
theorem dX5_init_31 : decode cX5_init 31 = .ok (.invokespecial 22, 3) := dk_183 0 22 (dk_at dksX5_init_1 8 rfl rfl)
theorem dX5_init_34 : decode cX5_init 34 = .ok (.putfield 30, 3) := dk_181 0 30 (dk_at dksX5_init_1 11 rfl rfl)
theorem dX5_init_37 : decode cX5_init 37 = .ok (.aload_n 0, 1) := dk_42 (dk_at dksX5_init_1 14 rfl rfl)
theorem dX5_init_38 : decode cX5_init 38 = .ok (.iconst 4, 1) := dk_7 (dk_at dksX5_init_1 15 rfl rfl)
theorem dX5_init_39 : decode cX5_init 39 = .ok (.newarray .int, 2) := dk_188_10 (dk_at dksX5_init_1 16 rfl rfl)
theorem dX5_init_41 : decode cX5_init 41 = .ok (.putfield 33, 3) := dk_181 0 33 (dk_at dksX5_init_1 18 rfl rfl)
theorem dX5_init_44 : decode cX5_init 44 = .ok (.aload_n 0, 1) := dk_42 (dk_at dksX5_init_1 21 rfl rfl)
theorem dX5_init_45 : decode cX5_init 45 = .ok (.new 20, 3) := dk_187 0 20 (dk_at dksX5_init_2 0 rfl rfl)
theorem dX5_init_48 : decode cX5_init 48 = .ok (.dup, 1) := dk_89 (dk_at dksX5_init_2 3 rfl rfl)
theorem dX5_init_49 : decode cX5_init 49 = .ok (.invokespecial 22, 3) := dk_183 0 22 (dk_at dksX5_init_2 4 rfl rfl)
theorem dX5_init_52 : decode cX5_init 52 = .ok (.putfield 37, 3) := dk_181 0 37 (dk_at dksX5_init_2 7 rfl rfl)
theorem dX5_init_55 : decode cX5_init 55 = .ok (.aload_n 0, 1) := dk_42 (dk_at dksX5_init_2 10 rfl rfl)
theorem dX5_init_56 : decode cX5_init 56 = .ok (.new 20, 3) := dk_187 0 20 (dk_at dksX5_init_2 11 rfl rfl)
theorem dX5_init_59 : decode cX5_init 59 = .ok (.dup, 1) := dk_89 (dk_at dksX5_init_2 14 rfl rfl)
theorem dX5_init_60 : decode cX5_init 60 = .ok (.invokespecial 22, 3) := dk_183 0 22 (dk_at dksX5_init_2 15 rfl rfl)
theorem dX5_init_63 : decode cX5_init 63 = .ok (.putfield 40, 3) := dk_181 0 40 (dk_at dksX5_init_2 18 rfl rfl)
theorem dX5_init_66 : decode cX5_init 66 = .ok (.aload_n 0, 1) := dk_42 (dk_at dksX5_init_2 21 rfl rfl)
theorem dX5_init_67 : decode cX5_init 67 = .ok (.new 20, 3) := dk_187 0 20 (dk_at dksX5_init_3 0 rfl rfl)
theorem dX5_init_70 : decode cX5_init 70 = .ok (.dup, 1) := dk_89 (dk_at dksX5_init_3 3 rfl rfl)
theorem dX5_init_71 : decode cX5_init 71 = .ok (.invokespecial 22, 3) := dk_183 0 22 (dk_at dksX5_init_3 4 rfl rfl)
theorem dX5_init_74 : decode cX5_init 74 = .ok (.putfield 43, 3) := dk_181 0 43 (dk_at dksX5_init_3 7 rfl rfl)
theorem dX5_init_77 : decode cX5_init 77 = .ok (.aload_n 0, 1) := dk_42 (dk_at dksX5_init_3 10 rfl rfl)
theorem dX5_init_78 : decode cX5_init 78 = .ok (.new 20, 3) := dk_187 0 20 (dk_at dksX5_init_3 11 rfl rfl)
theorem dX5_init_81 : decode cX5_init 81 = .ok (.dup, 1) := dk_89 (dk_at dksX5_init_3 14 rfl rfl)
theorem dX5_init_82 : decode cX5_init 82 = .ok (.invokespecial 22, 3) := dk_183 0 22 (dk_at dksX5_init_3 15 rfl rfl)
theorem dX5_init_85 : decode cX5_init 85 = .ok (.putfield 46, 3) := dk_181 0 46 (dk_at dksX5_init_3 18 rfl rfl)
theorem dX5_init_88 : decode cX5_init 88 = .ok (.aload_n 0, 1) := dk_42 (dk_at dksX5_init_3 21 rfl rfl)
theorem dX5_init_89 : decode cX5_init 89 = .ok (.getfield 23, 3) := dk_180 0 23 (dk_at dksX5_init_4 0 rfl rfl)
theorem dX5_init_92 : decode cX5_init 92 = .ok (.new 49, 3) := dk_187 0 49 (dk_at dksX5_init_4 3 rfl rfl)
theorem dX5_init_95 : decode cX5_init 95 = .ok (.dup, 1) := dk_89 (dk_at dksX5_init_4 6 rfl rfl)
theorem dX5_init_96 : decode cX5_init 96 = .ok (.aconst_null, 1) := dk_1 (dk_at dksX5_init_4 7 rfl rfl)
theorem dX5_init_97 : decode cX5_init 97 = .ok (.invokespecial 51, 3) := dk_183 0 51 (dk_at dksX5_init_4 8 rfl rfl)
theorem dX5_init_100 : decode cX5_init 100 = .ok (.invokevirtual 54, 3) := dk_182 0 54 (dk_at dksX5_init_4 11 rfl rfl)
theorem dX5_init_103 : decode cX5_init 103 = .ok (.pop, 1) := dk_87 (dk_at dksX5_init_4 14 rfl rfl)
theorem dX5_init_104 : decode cX5_init 104 = .ok (.aload_n 0, 1) := dk_42 (dk_at dksX5_init_4 15 rfl rfl)
theorem dX5_init_105 : decode cX5_init 105 = .ok (.new 49, 3) := dk_187 0 49 (dk_at dksX5_init_4 16 rfl rfl)
theorem dX5_init_108 : decode cX5_init 108 = .ok (.dup, 1) := dk_89 (dk_at dksX5_init_4 19 rfl rfl)
theorem dX5_init_109 : decode cX5_init 109 = .ok (.aload_n 0, 1) := dk_42 (dk_at dksX5_init_4 20 rfl rfl)
theorem dX5_init_110 : decode cX5_init 110 = .ok (.getfield 23, 3) := dk_180 0 23 (dk_at dksX5_init_4 21 rfl rfl)
theorem dX5_init_113 : decode cX5_init 113 = .ok (.iconst 0, 1) := dk_3 (dk_at dksX5_init_5 0 rfl rfl)
theorem dX5_init_114 : decode cX5_init 114 = .ok (.invokevirtual 58, 3) := dk_182 0 58 (dk_at dksX5_init_5 1 rfl rfl)
theorem dX5_init_117 : decode cX5_init 117 = .ok (.checkcast 49, 3) := dk_192 0 49 (dk_at dksX5_init_5 4 rfl rfl)
theorem dX5_init_120 : decode cX5_init 120 = .ok (.invokespecial 51, 3) := dk_183 0 51 (dk_at dksX5_init_5 7 rfl rfl)
theorem dX5_init_123 : decode cX5_init 123 = .ok (.putfield 62, 3) := dk_181 0 62 (dk_at dksX5_init_5 10 rfl rfl)
theorem dX5_init_126 : decode cX5_init 126 = .ok (.iconst 0, 1) := dk_3 (dk_at dksX5_init_5 13 rfl rfl)
theorem dX5_init_127 : decode cX5_init 127 = .ok (.istore_n 1, 1) := dk_60 (dk_at dksX5_init_5 14 rfl rfl)
theorem dX5_init_128 : decode cX5_init 128 = .ok (.iload_n 1, 1) := dk_27 (dk_at dksX5_init_5 15 rfl rfl)
theorem dX5_init_129 : decode cX5_init 129 = .ok (.iconst 3, 1) := dk_6 (dk_at dksX5_init_5 16 rfl rfl)
theorem dX5_init_130 : decode cX5_init 130 = .ok (.if_icmp .ge 24, 3) := dk_162 0 24 (dk_at dksX5_init_5 17 rfl rfl)
theorem dX5_init_133 : decode cX5_init 133 = .ok (.aload_n 0, 1) := dk_42 (dk_at dksX5_init_5 20 rfl rfl)
theorem dX5_init_134 : decode cX5_init 134 = .ok (.getfield 27, 3) := dk_180 0 27 (dk_at dksX5_init_5 21 rfl rfl)
theorem dX5_init_137 : decode cX5_init 137 = .ok (.new 66, 3) := dk_187 0 66 (dk_at dksX5_init_6 0 rfl rfl)
theorem dX5_init_140 : decode cX5_init 140 = .ok (.dup, 1) := dk_89 (dk_at dksX5_init_6 3 rfl rfl)
theorem dX5_init_141 : decode cX5_init 141 = .ok (.invokespecial 68, 3) := dk_183 0 68 (dk_at dksX5_init_6 4 rfl rfl)
theorem dX5_init_144 : decode cX5_init 144 = .ok (.invokevirtual 54, 3) := dk_182 0 54 (dk_at dksX5_init_6 7 rfl rfl)
theorem dX5_init_147 : decode cX5_init 147 = .ok (.pop, 1) := dk_87 (dk_at dksX5_init_6 10 rfl rfl)
theorem dX5_init_148 : decode cX5_init 148 = .ok (.iinc 1 1, 3) := dk_132 1 1 (dk_at dksX5_init_6 11 rfl rfl)
theorem dX5_init_151 : decode cX5_init 151 = .ok (.goto (-23), 3) := dk_167 255 233 (dk_at dksX5_init_6 14 rfl rfl)
theorem dX5_init_154 : decode cX5_init 154 = .ok (.return_, 1) := dk_177 (dk_at dksX5_init_6 17 rfl rfl)
abbrev cX5_thrown : ByteArray := prog_24_method_6_code
def yX5_thrown : MethodName := ⟨RX5, "thrown", "()I"⟩
theorem dX5_thrown_0 : decode cX5_thrown 0 = .ok (.aload_n 0, 1) := by decide +kernel
theorem dX5_thrown_1 : decode cX5_thrown 1 = .ok (.getfield 69, 3) := by decide +kernel
theorem dX5_thrown_4 : decode cX5_thrown 4 = .ok (.ireturn, 1) := by decide +kernel
abbrev cX5_add : ByteArray := prog_24_method_9_code
def yX5_add : MethodName := ⟨RX5, "add", "(ICIII)I"⟩
def dkwX5_add_4 : List UInt8 := [182, 0, 81, 172]
abbrev dktX5_add_4 : List UInt8 := dkwX5_add_4 ++ []
def dkwX5_add_3 : List UInt8 := [187, 0, 88, 89, 28, 29, 21, 4, 21, 5, 183, 0, 90, 182, 0, 54, 87, 42, 180, 0, 62, 27]
abbrev dktX5_add_3 : List UInt8 := dkwX5_add_3 ++ dktX5_add_4
def dkwX5_add_2 : List UInt8 := [180, 0, 69, 158, 0, 5, 3, 172, 42, 180, 0, 62, 180, 0, 85, 27, 182, 0, 58, 192, 0, 20]
abbrev dktX5_add_2 : List UInt8 := dkwX5_add_2 ++ dktX5_add_3
def dkwX5_add_1 : List UInt8 := [42, 180, 0, 62, 27, 182, 0, 81, 16, 10, 160, 0, 7, 5, 167, 0, 4, 3, 181, 0, 69, 42]
abbrev dktX5_add_1 : List UInt8 := dkwX5_add_1 ++ dktX5_add_2
def dkwX5_add_0 : List UInt8 := [42, 27, 184, 0, 11, 153, 0, 15, 28, 29, 21, 4, 21, 5, 184, 0, 77, 154, 0, 7, 4, 167, 0, 21]
abbrev dktX5_add_0 : List UInt8 := dkwX5_add_0 ++ dktX5_add_1
theorem dksX5_add_0 : cX5_add.data.toList.drop 0 = dktX5_add_0 := by decide +kernel
theorem dksX5_add_1 : cX5_add.data.toList.drop 24 = dktX5_add_1 := dk_seg dksX5_add_0 24 rfl rfl
theorem dksX5_add_2 : cX5_add.data.toList.drop 46 = dktX5_add_2 := dk_seg dksX5_add_1 22 rfl rfl
theorem dksX5_add_3 : cX5_add.data.toList.drop 68 = dktX5_add_3 := dk_seg dksX5_add_2 22 rfl rfl
theorem dksX5_add_4 : cX5_add.data.toList.drop 90 = dktX5_add_4 := dk_seg dksX5_add_3 22 rfl rfl
theorem dX5_add_0 : decode cX5_add 0 = .ok (.aload_n 0, 1) := dk_42 (dk_at dksX5_add_0 0 rfl rfl)
theorem dX5_add_1 : decode cX5_add 1 = .ok (.iload_n 1, 1) := dk_27 (dk_at dksX5_add_0 1 rfl rfl)
theorem dX5_add_2 : decode cX5_add 2 = .ok (.invokestatic 11, 3) := dk_184 0 11 (dk_at dksX5_add_0 2 rfl rfl)
theorem dX5_add_5 : decode cX5_add 5 = .ok (.ifCond .eq 15, 3) := dk_153 0 15 (dk_at dksX5_add_0 5 rfl rfl)
theorem dX5_add_8 : decode cX5_add 8 = .ok (.iload_n 2, 1) := dk_28 (dk_at dksX5_add_0 8 rfl rfl)
theorem dX5_add_9 : decode cX5_add 9 = .ok (.iload_n 3, 1) := dk_29 (dk_at dksX5_add_0 9 rfl rfl)
theorem dX5_add_10 : decode cX5_add 10 = .ok (.iload 4, 2) := dk_21 4 (dk_at dksX5_add_0 10 rfl rfl)
theorem dX5_add_12 : decode cX5_add 12 = .ok (.iload 5, 2) := dk_21 5 (dk_at dksX5_add_0 12 rfl rfl)
theorem dX5_add_14 : decode cX5_add 14 = .ok (.invokestatic 77, 3) := dk_184 0 77 (dk_at dksX5_add_0 14 rfl rfl)
theorem dX5_add_17 : decode cX5_add 17 = .ok (.ifCond .ne 7, 3) := dk_154 0 7 (dk_at dksX5_add_0 17 rfl rfl)
theorem dX5_add_20 : decode cX5_add 20 = .ok (.iconst 1, 1) := dk_4 (dk_at dksX5_add_0 20 rfl rfl)
theorem dX5_add_21 : decode cX5_add 21 = .ok (.goto 21, 3) := dk_167 0 21 (dk_at dksX5_add_0 21 rfl rfl)
theorem dX5_add_24 : decode cX5_add 24 = .ok (.aload_n 0, 1) := dk_42 (dk_at dksX5_add_1 0 rfl rfl)
theorem dX5_add_25 : decode cX5_add 25 = .ok (.getfield 62, 3) := dk_180 0 62 (dk_at dksX5_add_1 1 rfl rfl)
theorem dX5_add_28 : decode cX5_add 28 = .ok (.iload_n 1, 1) := dk_27 (dk_at dksX5_add_1 4 rfl rfl)
theorem dX5_add_29 : decode cX5_add 29 = .ok (.invokevirtual 81, 3) := dk_182 0 81 (dk_at dksX5_add_1 5 rfl rfl)
theorem dX5_add_32 : decode cX5_add 32 = .ok (.bipush 10, 2) := dk_16 10 (dk_at dksX5_add_1 8 rfl rfl)
theorem dX5_add_34 : decode cX5_add 34 = .ok (.if_icmp .ne 7, 3) := dk_160 0 7 (dk_at dksX5_add_1 10 rfl rfl)
theorem dX5_add_37 : decode cX5_add 37 = .ok (.iconst 2, 1) := dk_5 (dk_at dksX5_add_1 13 rfl rfl)
theorem dX5_add_38 : decode cX5_add 38 = .ok (.goto 4, 3) := dk_167 0 4 (dk_at dksX5_add_1 14 rfl rfl)
theorem dX5_add_41 : decode cX5_add 41 = .ok (.iconst 0, 1) := dk_3 (dk_at dksX5_add_1 17 rfl rfl)
theorem dX5_add_42 : decode cX5_add 42 = .ok (.putfield 69, 3) := dk_181 0 69 (dk_at dksX5_add_1 18 rfl rfl)
theorem dX5_add_45 : decode cX5_add 45 = .ok (.aload_n 0, 1) := dk_42 (dk_at dksX5_add_1 21 rfl rfl)
theorem dX5_add_46 : decode cX5_add 46 = .ok (.getfield 69, 3) := dk_180 0 69 (dk_at dksX5_add_2 0 rfl rfl)
theorem dX5_add_49 : decode cX5_add 49 = .ok (.ifCond .le 5, 3) := dk_158 0 5 (dk_at dksX5_add_2 3 rfl rfl)
theorem dX5_add_52 : decode cX5_add 52 = .ok (.iconst 0, 1) := dk_3 (dk_at dksX5_add_2 6 rfl rfl)
theorem dX5_add_53 : decode cX5_add 53 = .ok (.ireturn, 1) := dk_172 (dk_at dksX5_add_2 7 rfl rfl)
theorem dX5_add_54 : decode cX5_add 54 = .ok (.aload_n 0, 1) := dk_42 (dk_at dksX5_add_2 8 rfl rfl)
theorem dX5_add_55 : decode cX5_add 55 = .ok (.getfield 62, 3) := dk_180 0 62 (dk_at dksX5_add_2 9 rfl rfl)
theorem dX5_add_58 : decode cX5_add 58 = .ok (.getfield 85, 3) := dk_180 0 85 (dk_at dksX5_add_2 12 rfl rfl)
theorem dX5_add_61 : decode cX5_add 61 = .ok (.iload_n 1, 1) := dk_27 (dk_at dksX5_add_2 15 rfl rfl)
theorem dX5_add_62 : decode cX5_add 62 = .ok (.invokevirtual 58, 3) := dk_182 0 58 (dk_at dksX5_add_2 16 rfl rfl)
theorem dX5_add_65 : decode cX5_add 65 = .ok (.checkcast 20, 3) := dk_192 0 20 (dk_at dksX5_add_2 19 rfl rfl)
theorem dX5_add_68 : decode cX5_add 68 = .ok (.new 88, 3) := dk_187 0 88 (dk_at dksX5_add_3 0 rfl rfl)
theorem dX5_add_71 : decode cX5_add 71 = .ok (.dup, 1) := dk_89 (dk_at dksX5_add_3 3 rfl rfl)
theorem dX5_add_72 : decode cX5_add 72 = .ok (.iload_n 2, 1) := dk_28 (dk_at dksX5_add_3 4 rfl rfl)
theorem dX5_add_73 : decode cX5_add 73 = .ok (.iload_n 3, 1) := dk_29 (dk_at dksX5_add_3 5 rfl rfl)
theorem dX5_add_74 : decode cX5_add 74 = .ok (.iload 4, 2) := dk_21 4 (dk_at dksX5_add_3 6 rfl rfl)
theorem dX5_add_76 : decode cX5_add 76 = .ok (.iload 5, 2) := dk_21 5 (dk_at dksX5_add_3 8 rfl rfl)
theorem dX5_add_78 : decode cX5_add 78 = .ok (.invokespecial 90, 3) := dk_183 0 90 (dk_at dksX5_add_3 10 rfl rfl)
theorem dX5_add_81 : decode cX5_add 81 = .ok (.invokevirtual 54, 3) := dk_182 0 54 (dk_at dksX5_add_3 13 rfl rfl)
theorem dX5_add_84 : decode cX5_add 84 = .ok (.pop, 1) := dk_87 (dk_at dksX5_add_3 16 rfl rfl)
theorem dX5_add_85 : decode cX5_add 85 = .ok (.aload_n 0, 1) := dk_42 (dk_at dksX5_add_3 17 rfl rfl)
theorem dX5_add_86 : decode cX5_add 86 = .ok (.getfield 62, 3) := dk_180 0 62 (dk_at dksX5_add_3 18 rfl rfl)
theorem dX5_add_89 : decode cX5_add 89 = .ok (.iload_n 1, 1) := dk_27 (dk_at dksX5_add_3 21 rfl rfl)
theorem dX5_add_90 : decode cX5_add 90 = .ok (.invokevirtual 81, 3) := dk_182 0 81 (dk_at dksX5_add_4 0 rfl rfl)
theorem dX5_add_93 : decode cX5_add 93 = .ok (.ireturn, 1) := dk_172 (dk_at dksX5_add_4 3 rfl rfl)
abbrev cX5_isFunction : ByteArray := prog_24_method_3_code
def yX5_isFunction : MethodName := ⟨RX5, "isFunction", "(I)Z"⟩
def dkwX5_isFunction_0 : List UInt8 := [26, 3, 7, 184, 0, 3, 172]
abbrev dktX5_isFunction_0 : List UInt8 := dkwX5_isFunction_0 ++ []
theorem dksX5_isFunction_0 : cX5_isFunction.data.toList.drop 0 = dktX5_isFunction_0 := by decide +kernel
theorem dX5_isFunction_0 : decode cX5_isFunction 0 = .ok (.iload_n 0, 1) := dk_26 (dk_at dksX5_isFunction_0 0 rfl rfl)
theorem dX5_isFunction_1 : decode cX5_isFunction 1 = .ok (.iconst 0, 1) := dk_3 (dk_at dksX5_isFunction_0 1 rfl rfl)
theorem dX5_isFunction_2 : decode cX5_isFunction 2 = .ok (.iconst 4, 1) := dk_7 (dk_at dksX5_isFunction_0 2 rfl rfl)
theorem dX5_isFunction_3 : decode cX5_isFunction 3 = .ok (.invokestatic 3, 3) := dk_184 0 3 (dk_at dksX5_isFunction_0 3 rfl rfl)
theorem dX5_isFunction_6 : decode cX5_isFunction 6 = .ok (.ireturn, 1) := dk_172 (dk_at dksX5_isFunction_0 6 rfl rfl)
abbrev cX5_in : ByteArray := prog_24_method_1_code
def yX5_in : MethodName := ⟨RX5, "in", "(III)Z"⟩
def dkwX5_in_0 : List UInt8 := [26, 27, 161, 0, 12, 26, 28, 163, 0, 7, 4, 167, 0, 4, 3, 172]
abbrev dktX5_in_0 : List UInt8 := dkwX5_in_0 ++ []
theorem dksX5_in_0 : cX5_in.data.toList.drop 0 = dktX5_in_0 := by decide +kernel
theorem dX5_in_0 : decode cX5_in 0 = .ok (.iload_n 0, 1) := dk_26 (dk_at dksX5_in_0 0 rfl rfl)
theorem dX5_in_1 : decode cX5_in 1 = .ok (.iload_n 1, 1) := dk_27 (dk_at dksX5_in_0 1 rfl rfl)
theorem dX5_in_2 : decode cX5_in 2 = .ok (.if_icmp .lt 12, 3) := dk_161 0 12 (dk_at dksX5_in_0 2 rfl rfl)
theorem dX5_in_5 : decode cX5_in 5 = .ok (.iload_n 0, 1) := dk_26 (dk_at dksX5_in_0 5 rfl rfl)
theorem dX5_in_6 : decode cX5_in 6 = .ok (.iload_n 2, 1) := dk_28 (dk_at dksX5_in_0 6 rfl rfl)
theorem dX5_in_7 : decode cX5_in 7 = .ok (.if_icmp .gt 7, 3) := dk_163 0 7 (dk_at dksX5_in_0 7 rfl rfl)
theorem dX5_in_10 : decode cX5_in 10 = .ok (.iconst 1, 1) := dk_4 (dk_at dksX5_in_0 10 rfl rfl)
theorem dX5_in_11 : decode cX5_in 11 = .ok (.goto 4, 3) := dk_167 0 4 (dk_at dksX5_in_0 11 rfl rfl)
theorem dX5_in_14 : decode cX5_in 14 = .ok (.iconst 0, 1) := dk_3 (dk_at dksX5_in_0 14 rfl rfl)
theorem dX5_in_15 : decode cX5_in 15 = .ok (.ireturn, 1) := dk_172 (dk_at dksX5_in_0 15 rfl rfl)
abbrev cX5_isCode : ByteArray := prog_24_method_4_code
def yX5_isCode : MethodName := ⟨RX5, "isCode", "(CIII)Z"⟩
def dkwX5_isCode_10 : List UInt8 := [153, 0, 7, 4, 167, 0, 4, 3, 172, 26, 16, 119, 160, 0, 7, 4, 167, 0, 4, 3, 172]
abbrev dktX5_isCode_10 : List UInt8 := dkwX5_isCode_10 ++ []
def dkwX5_isCode_9 : List UInt8 := [153, 0, 7, 4, 167, 0, 4, 3, 172, 27, 3, 6, 184, 0, 3, 153, 0, 14, 28, 184, 0, 11]
abbrev dktX5_isCode_9 : List UInt8 := dkwX5_isCode_9 ++ dktX5_isCode_10
def dkwX5_isCode_8 : List UInt8 := [3, 172, 27, 3, 6, 184, 0, 3, 153, 0, 21, 28, 184, 0, 7, 153, 0, 14, 29, 184, 0, 7]
abbrev dktX5_isCode_8 : List UInt8 := dkwX5_isCode_8 ++ dktX5_isCode_9
def dkwX5_isCode_7 : List UInt8 := [184, 0, 11, 153, 0, 21, 28, 184, 0, 7, 153, 0, 14, 29, 184, 0, 7, 153, 0, 7, 4, 167, 0, 4]
abbrev dktX5_isCode_7 : List UInt8 := dkwX5_isCode_7 ++ dktX5_isCode_8
def dkwX5_isCode_6 : List UInt8 := [27, 184, 0, 7, 153, 0, 17, 28, 3, 16, 10, 184, 0, 3, 153, 0, 7, 4, 167, 0, 4, 3, 172, 27]
abbrev dktX5_isCode_6 : List UInt8 := dkwX5_isCode_6 ++ dktX5_isCode_7
def dkwX5_isCode_5 : List UInt8 := [16, 10, 112, 3, 6, 184, 0, 3, 153, 0, 14, 29, 184, 0, 7, 153, 0, 7, 4, 167, 0, 4, 3, 172]
abbrev dktX5_isCode_5 : List UInt8 := dkwX5_isCode_5 ++ dktX5_isCode_6
def dkwX5_isCode_4 : List UInt8 := [184, 0, 7, 153, 0, 42, 28, 155, 0, 38, 28, 16, 10, 108, 3, 5, 184, 0, 3, 153, 0, 26, 28]
abbrev dktX5_isCode_4 : List UInt8 := dkwX5_isCode_4 ++ dktX5_isCode_5
def dkwX5_isCode_3 : List UInt8 := [172, 27, 184, 0, 7, 153, 0, 16, 28, 3, 5, 184, 0, 3, 153, 0, 7, 4, 167, 0, 4, 3, 172, 27]
abbrev dktX5_isCode_3 : List UInt8 := dkwX5_isCode_3 ++ dktX5_isCode_4
def dkwX5_isCode_2 : List UInt8 := [27, 184, 0, 7, 172, 27, 184, 0, 7, 153, 0, 14, 28, 184, 0, 7, 153, 0, 7, 4, 167, 0, 4, 3]
abbrev dktX5_isCode_2 : List UInt8 := dkwX5_isCode_2 ++ dktX5_isCode_3
def dkwX5_isCode_1 : List UInt8 := [170, 0, 0, 0, 0, 1, 35, 0, 0, 0, 97, 0, 0, 0, 116, 0, 0, 0, 100, 0, 0, 1, 35, 0, 0, 0, 213, 0, 0, 1, 35, 0, 0, 1, 35, 0, 0, 1, 35, 0, 0, 0, 142, 0, 0, 1, 35, 0, 0, 1, 35, 0, 0, 0, 190, 0, 0, 0, 95, 0, 0, 1, 35, 0, 0, 1, 35, 0, 0, 0, 120, 0, 0, 0, 95, 0, 0, 0, 142, 0, 0, 1, 35, 0, 0, 0, 95, 0, 0, 1, 13, 0, 0, 0, 240]
abbrev dktX5_isCode_1 : List UInt8 := dkwX5_isCode_1 ++ dktX5_isCode_2
def dkwX5_isCode_0 : List UInt8 := [26]
abbrev dktX5_isCode_0 : List UInt8 := dkwX5_isCode_0 ++ dktX5_isCode_1
theorem dksX5_isCode_0 : cX5_isCode.data.toList.drop 0 = dktX5_isCode_0 := by decide +kernel
theorem dksX5_isCode_1 : cX5_isCode.data.toList.drop 1 = dktX5_isCode_1 := dk_seg dksX5_isCode_0 1 rfl rfl
theorem dksX5_isCode_2 : cX5_isCode.data.toList.drop 96 = dktX5_isCode_2 := dk_seg dksX5_isCode_1 95 rfl rfl
theorem dksX5_isCode_3 : cX5_isCode.data.toList.drop 120 = dktX5_isCode_3 := dk_seg dksX5_isCode_2 24 rfl rfl
theorem dksX5_isCode_4 : cX5_isCode.data.toList.drop 144 = dktX5_isCode_4 := dk_seg dksX5_isCode_3 24 rfl rfl
theorem dksX5_isCode_5 : cX5_isCode.data.toList.drop 167 = dktX5_isCode_5 := dk_seg dksX5_isCode_4 23 rfl rfl
theorem dksX5_isCode_6 : cX5_isCode.data.toList.drop 191 = dktX5_isCode_6 := dk_seg dksX5_isCode_5 24 rfl rfl
theorem dksX5_isCode_7 : cX5_isCode.data.toList.drop 215 = dktX5_isCode_7 := dk_seg dksX5_isCode_6 24 rfl rfl
theorem dksX5_isCode_8 : cX5_isCode.data.toList.drop 239 = dktX5_isCode_8 := dk_seg dksX5_isCode_7 24 rfl rfl
theorem dksX5_isCode_9 : cX5_isCode.data.toList.drop 261 = dktX5_isCode_9 := dk_seg dksX5_isCode_8 22 rfl rfl
theorem dksX5_isCode_10 : cX5_isCode.data.toList.drop 283 = dktX5_isCode_10 := dk_seg dksX5_isCode_9 22 rfl rfl
theorem dX5_isCode_0 : decode cX5_isCode 0 = .ok (.iload_n 0, 1) := dk_26 (dk_at dksX5_isCode_0 0 rfl rfl)
theorem dX5_isCode_1 : decode cX5_isCode 1 = .ok (.tableswitch 291 97 116 #[100, 291, 213, 291, 291, 291, 142, 291, 291, 190, 95, 291, 291, 120, 95, 142, 291, 95, 269, 240], 95) := by decide +kernel
theorem dX5_isCode_96 : decode cX5_isCode 96 = .ok (.iload_n 1, 1) := dk_27 (dk_at dksX5_isCode_2 0 rfl rfl)
theorem dX5_isCode_97 : decode cX5_isCode 97 = .ok (.invokestatic 7, 3) := dk_184 0 7 (dk_at dksX5_isCode_2 1 rfl rfl)
theorem dX5_isCode_100 : decode cX5_isCode 100 = .ok (.ireturn, 1) := dk_172 (dk_at dksX5_isCode_2 4 rfl rfl)
theorem dX5_isCode_101 : decode cX5_isCode 101 = .ok (.iload_n 1, 1) := dk_27 (dk_at dksX5_isCode_2 5 rfl rfl)
theorem dX5_isCode_102 : decode cX5_isCode 102 = .ok (.invokestatic 7, 3) := dk_184 0 7 (dk_at dksX5_isCode_2 6 rfl rfl)
theorem dX5_isCode_105 : decode cX5_isCode 105 = .ok (.ifCond .eq 14, 3) := dk_153 0 14 (dk_at dksX5_isCode_2 9 rfl rfl)
theorem dX5_isCode_108 : decode cX5_isCode 108 = .ok (.iload_n 2, 1) := dk_28 (dk_at dksX5_isCode_2 12 rfl rfl)
theorem dX5_isCode_109 : decode cX5_isCode 109 = .ok (.invokestatic 7, 3) := dk_184 0 7 (dk_at dksX5_isCode_2 13 rfl rfl)
theorem dX5_isCode_112 : decode cX5_isCode 112 = .ok (.ifCond .eq 7, 3) := dk_153 0 7 (dk_at dksX5_isCode_2 16 rfl rfl)
theorem dX5_isCode_115 : decode cX5_isCode 115 = .ok (.iconst 1, 1) := dk_4 (dk_at dksX5_isCode_2 19 rfl rfl)
theorem dX5_isCode_116 : decode cX5_isCode 116 = .ok (.goto 4, 3) := dk_167 0 4 (dk_at dksX5_isCode_2 20 rfl rfl)
theorem dX5_isCode_119 : decode cX5_isCode 119 = .ok (.iconst 0, 1) := dk_3 (dk_at dksX5_isCode_2 23 rfl rfl)
theorem dX5_isCode_120 : decode cX5_isCode 120 = .ok (.ireturn, 1) := dk_172 (dk_at dksX5_isCode_3 0 rfl rfl)
theorem dX5_isCode_121 : decode cX5_isCode 121 = .ok (.iload_n 1, 1) := dk_27 (dk_at dksX5_isCode_3 1 rfl rfl)
theorem dX5_isCode_122 : decode cX5_isCode 122 = .ok (.invokestatic 7, 3) := dk_184 0 7 (dk_at dksX5_isCode_3 2 rfl rfl)
theorem dX5_isCode_125 : decode cX5_isCode 125 = .ok (.ifCond .eq 16, 3) := dk_153 0 16 (dk_at dksX5_isCode_3 5 rfl rfl)
theorem dX5_isCode_128 : decode cX5_isCode 128 = .ok (.iload_n 2, 1) := dk_28 (dk_at dksX5_isCode_3 8 rfl rfl)
theorem dX5_isCode_129 : decode cX5_isCode 129 = .ok (.iconst 0, 1) := dk_3 (dk_at dksX5_isCode_3 9 rfl rfl)
theorem dX5_isCode_130 : decode cX5_isCode 130 = .ok (.iconst 2, 1) := dk_5 (dk_at dksX5_isCode_3 10 rfl rfl)
theorem dX5_isCode_131 : decode cX5_isCode 131 = .ok (.invokestatic 3, 3) := dk_184 0 3 (dk_at dksX5_isCode_3 11 rfl rfl)
theorem dX5_isCode_134 : decode cX5_isCode 134 = .ok (.ifCond .eq 7, 3) := dk_153 0 7 (dk_at dksX5_isCode_3 14 rfl rfl)
theorem dX5_isCode_137 : decode cX5_isCode 137 = .ok (.iconst 1, 1) := dk_4 (dk_at dksX5_isCode_3 17 rfl rfl)
theorem dX5_isCode_138 : decode cX5_isCode 138 = .ok (.goto 4, 3) := dk_167 0 4 (dk_at dksX5_isCode_3 18 rfl rfl)
theorem dX5_isCode_141 : decode cX5_isCode 141 = .ok (.iconst 0, 1) := dk_3 (dk_at dksX5_isCode_3 21 rfl rfl)
theorem dX5_isCode_142 : decode cX5_isCode 142 = .ok (.ireturn, 1) := dk_172 (dk_at dksX5_isCode_3 22 rfl rfl)
theorem dX5_isCode_143 : decode cX5_isCode 143 = .ok (.iload_n 1, 1) := dk_27 (dk_at dksX5_isCode_3 23 rfl rfl)
theorem dX5_isCode_144 : decode cX5_isCode 144 = .ok (.invokestatic 7, 3) := dk_184 0 7 (dk_at dksX5_isCode_4 0 rfl rfl)
theorem dX5_isCode_147 : decode cX5_isCode 147 = .ok (.ifCond .eq 42, 3) := dk_153 0 42 (dk_at dksX5_isCode_4 3 rfl rfl)
theorem dX5_isCode_150 : decode cX5_isCode 150 = .ok (.iload_n 2, 1) := dk_28 (dk_at dksX5_isCode_4 6 rfl rfl)
theorem dX5_isCode_151 : decode cX5_isCode 151 = .ok (.ifCond .lt 38, 3) := dk_155 0 38 (dk_at dksX5_isCode_4 7 rfl rfl)
theorem dX5_isCode_154 : decode cX5_isCode 154 = .ok (.iload_n 2, 1) := dk_28 (dk_at dksX5_isCode_4 10 rfl rfl)
theorem dX5_isCode_155 : decode cX5_isCode 155 = .ok (.bipush 10, 2) := dk_16 10 (dk_at dksX5_isCode_4 11 rfl rfl)
theorem dX5_isCode_157 : decode cX5_isCode 157 = .ok (.idiv, 1) := dk_108 (dk_at dksX5_isCode_4 13 rfl rfl)
theorem dX5_isCode_158 : decode cX5_isCode 158 = .ok (.iconst 0, 1) := dk_3 (dk_at dksX5_isCode_4 14 rfl rfl)
theorem dX5_isCode_159 : decode cX5_isCode 159 = .ok (.iconst 2, 1) := dk_5 (dk_at dksX5_isCode_4 15 rfl rfl)
theorem dX5_isCode_160 : decode cX5_isCode 160 = .ok (.invokestatic 3, 3) := dk_184 0 3 (dk_at dksX5_isCode_4 16 rfl rfl)
theorem dX5_isCode_163 : decode cX5_isCode 163 = .ok (.ifCond .eq 26, 3) := dk_153 0 26 (dk_at dksX5_isCode_4 19 rfl rfl)
theorem dX5_isCode_166 : decode cX5_isCode 166 = .ok (.iload_n 2, 1) := dk_28 (dk_at dksX5_isCode_4 22 rfl rfl)
theorem dX5_isCode_167 : decode cX5_isCode 167 = .ok (.bipush 10, 2) := dk_16 10 (dk_at dksX5_isCode_5 0 rfl rfl)
theorem dX5_isCode_169 : decode cX5_isCode 169 = .ok (.irem, 1) := dk_112 (dk_at dksX5_isCode_5 2 rfl rfl)
theorem dX5_isCode_170 : decode cX5_isCode 170 = .ok (.iconst 0, 1) := dk_3 (dk_at dksX5_isCode_5 3 rfl rfl)
theorem dX5_isCode_171 : decode cX5_isCode 171 = .ok (.iconst 3, 1) := dk_6 (dk_at dksX5_isCode_5 4 rfl rfl)
theorem dX5_isCode_172 : decode cX5_isCode 172 = .ok (.invokestatic 3, 3) := dk_184 0 3 (dk_at dksX5_isCode_5 5 rfl rfl)
theorem dX5_isCode_175 : decode cX5_isCode 175 = .ok (.ifCond .eq 14, 3) := dk_153 0 14 (dk_at dksX5_isCode_5 8 rfl rfl)
theorem dX5_isCode_178 : decode cX5_isCode 178 = .ok (.iload_n 3, 1) := dk_29 (dk_at dksX5_isCode_5 11 rfl rfl)
theorem dX5_isCode_179 : decode cX5_isCode 179 = .ok (.invokestatic 7, 3) := dk_184 0 7 (dk_at dksX5_isCode_5 12 rfl rfl)
theorem dX5_isCode_182 : decode cX5_isCode 182 = .ok (.ifCond .eq 7, 3) := dk_153 0 7 (dk_at dksX5_isCode_5 15 rfl rfl)
theorem dX5_isCode_185 : decode cX5_isCode 185 = .ok (.iconst 1, 1) := dk_4 (dk_at dksX5_isCode_5 18 rfl rfl)
theorem dX5_isCode_186 : decode cX5_isCode 186 = .ok (.goto 4, 3) := dk_167 0 4 (dk_at dksX5_isCode_5 19 rfl rfl)
theorem dX5_isCode_189 : decode cX5_isCode 189 = .ok (.iconst 0, 1) := dk_3 (dk_at dksX5_isCode_5 22 rfl rfl)
theorem dX5_isCode_190 : decode cX5_isCode 190 = .ok (.ireturn, 1) := dk_172 (dk_at dksX5_isCode_5 23 rfl rfl)
theorem dX5_isCode_191 : decode cX5_isCode 191 = .ok (.iload_n 1, 1) := dk_27 (dk_at dksX5_isCode_6 0 rfl rfl)
theorem dX5_isCode_192 : decode cX5_isCode 192 = .ok (.invokestatic 7, 3) := dk_184 0 7 (dk_at dksX5_isCode_6 1 rfl rfl)
theorem dX5_isCode_195 : decode cX5_isCode 195 = .ok (.ifCond .eq 17, 3) := dk_153 0 17 (dk_at dksX5_isCode_6 4 rfl rfl)
theorem dX5_isCode_198 : decode cX5_isCode 198 = .ok (.iload_n 2, 1) := dk_28 (dk_at dksX5_isCode_6 7 rfl rfl)
theorem dX5_isCode_199 : decode cX5_isCode 199 = .ok (.iconst 0, 1) := dk_3 (dk_at dksX5_isCode_6 8 rfl rfl)
theorem dX5_isCode_200 : decode cX5_isCode 200 = .ok (.bipush 10, 2) := dk_16 10 (dk_at dksX5_isCode_6 9 rfl rfl)
theorem dX5_isCode_202 : decode cX5_isCode 202 = .ok (.invokestatic 3, 3) := dk_184 0 3 (dk_at dksX5_isCode_6 11 rfl rfl)
theorem dX5_isCode_205 : decode cX5_isCode 205 = .ok (.ifCond .eq 7, 3) := dk_153 0 7 (dk_at dksX5_isCode_6 14 rfl rfl)
theorem dX5_isCode_208 : decode cX5_isCode 208 = .ok (.iconst 1, 1) := dk_4 (dk_at dksX5_isCode_6 17 rfl rfl)
theorem dX5_isCode_209 : decode cX5_isCode 209 = .ok (.goto 4, 3) := dk_167 0 4 (dk_at dksX5_isCode_6 18 rfl rfl)
theorem dX5_isCode_212 : decode cX5_isCode 212 = .ok (.iconst 0, 1) := dk_3 (dk_at dksX5_isCode_6 21 rfl rfl)
theorem dX5_isCode_213 : decode cX5_isCode 213 = .ok (.ireturn, 1) := dk_172 (dk_at dksX5_isCode_6 22 rfl rfl)
theorem dX5_isCode_214 : decode cX5_isCode 214 = .ok (.iload_n 1, 1) := dk_27 (dk_at dksX5_isCode_6 23 rfl rfl)
theorem dX5_isCode_215 : decode cX5_isCode 215 = .ok (.invokestatic 11, 3) := dk_184 0 11 (dk_at dksX5_isCode_7 0 rfl rfl)
theorem dX5_isCode_218 : decode cX5_isCode 218 = .ok (.ifCond .eq 21, 3) := dk_153 0 21 (dk_at dksX5_isCode_7 3 rfl rfl)
theorem dX5_isCode_221 : decode cX5_isCode 221 = .ok (.iload_n 2, 1) := dk_28 (dk_at dksX5_isCode_7 6 rfl rfl)
theorem dX5_isCode_222 : decode cX5_isCode 222 = .ok (.invokestatic 7, 3) := dk_184 0 7 (dk_at dksX5_isCode_7 7 rfl rfl)
theorem dX5_isCode_225 : decode cX5_isCode 225 = .ok (.ifCond .eq 14, 3) := dk_153 0 14 (dk_at dksX5_isCode_7 10 rfl rfl)
theorem dX5_isCode_228 : decode cX5_isCode 228 = .ok (.iload_n 3, 1) := dk_29 (dk_at dksX5_isCode_7 13 rfl rfl)
theorem dX5_isCode_229 : decode cX5_isCode 229 = .ok (.invokestatic 7, 3) := dk_184 0 7 (dk_at dksX5_isCode_7 14 rfl rfl)
theorem dX5_isCode_232 : decode cX5_isCode 232 = .ok (.ifCond .eq 7, 3) := dk_153 0 7 (dk_at dksX5_isCode_7 17 rfl rfl)
theorem dX5_isCode_235 : decode cX5_isCode 235 = .ok (.iconst 1, 1) := dk_4 (dk_at dksX5_isCode_7 20 rfl rfl)
theorem dX5_isCode_236 : decode cX5_isCode 236 = .ok (.goto 4, 3) := dk_167 0 4 (dk_at dksX5_isCode_7 21 rfl rfl)
theorem dX5_isCode_239 : decode cX5_isCode 239 = .ok (.iconst 0, 1) := dk_3 (dk_at dksX5_isCode_8 0 rfl rfl)
theorem dX5_isCode_240 : decode cX5_isCode 240 = .ok (.ireturn, 1) := dk_172 (dk_at dksX5_isCode_8 1 rfl rfl)
theorem dX5_isCode_241 : decode cX5_isCode 241 = .ok (.iload_n 1, 1) := dk_27 (dk_at dksX5_isCode_8 2 rfl rfl)
theorem dX5_isCode_242 : decode cX5_isCode 242 = .ok (.iconst 0, 1) := dk_3 (dk_at dksX5_isCode_8 3 rfl rfl)
theorem dX5_isCode_243 : decode cX5_isCode 243 = .ok (.iconst 3, 1) := dk_6 (dk_at dksX5_isCode_8 4 rfl rfl)
theorem dX5_isCode_244 : decode cX5_isCode 244 = .ok (.invokestatic 3, 3) := dk_184 0 3 (dk_at dksX5_isCode_8 5 rfl rfl)
theorem dX5_isCode_247 : decode cX5_isCode 247 = .ok (.ifCond .eq 21, 3) := dk_153 0 21 (dk_at dksX5_isCode_8 8 rfl rfl)
theorem dX5_isCode_250 : decode cX5_isCode 250 = .ok (.iload_n 2, 1) := dk_28 (dk_at dksX5_isCode_8 11 rfl rfl)
theorem dX5_isCode_251 : decode cX5_isCode 251 = .ok (.invokestatic 7, 3) := dk_184 0 7 (dk_at dksX5_isCode_8 12 rfl rfl)
theorem dX5_isCode_254 : decode cX5_isCode 254 = .ok (.ifCond .eq 14, 3) := dk_153 0 14 (dk_at dksX5_isCode_8 15 rfl rfl)
theorem dX5_isCode_257 : decode cX5_isCode 257 = .ok (.iload_n 3, 1) := dk_29 (dk_at dksX5_isCode_8 18 rfl rfl)
theorem dX5_isCode_258 : decode cX5_isCode 258 = .ok (.invokestatic 7, 3) := dk_184 0 7 (dk_at dksX5_isCode_8 19 rfl rfl)
theorem dX5_isCode_261 : decode cX5_isCode 261 = .ok (.ifCond .eq 7, 3) := dk_153 0 7 (dk_at dksX5_isCode_9 0 rfl rfl)
theorem dX5_isCode_264 : decode cX5_isCode 264 = .ok (.iconst 1, 1) := dk_4 (dk_at dksX5_isCode_9 3 rfl rfl)
theorem dX5_isCode_265 : decode cX5_isCode 265 = .ok (.goto 4, 3) := dk_167 0 4 (dk_at dksX5_isCode_9 4 rfl rfl)
theorem dX5_isCode_268 : decode cX5_isCode 268 = .ok (.iconst 0, 1) := dk_3 (dk_at dksX5_isCode_9 7 rfl rfl)
theorem dX5_isCode_269 : decode cX5_isCode 269 = .ok (.ireturn, 1) := dk_172 (dk_at dksX5_isCode_9 8 rfl rfl)
theorem dX5_isCode_270 : decode cX5_isCode 270 = .ok (.iload_n 1, 1) := dk_27 (dk_at dksX5_isCode_9 9 rfl rfl)
theorem dX5_isCode_271 : decode cX5_isCode 271 = .ok (.iconst 0, 1) := dk_3 (dk_at dksX5_isCode_9 10 rfl rfl)
theorem dX5_isCode_272 : decode cX5_isCode 272 = .ok (.iconst 3, 1) := dk_6 (dk_at dksX5_isCode_9 11 rfl rfl)
theorem dX5_isCode_273 : decode cX5_isCode 273 = .ok (.invokestatic 3, 3) := dk_184 0 3 (dk_at dksX5_isCode_9 12 rfl rfl)
theorem dX5_isCode_276 : decode cX5_isCode 276 = .ok (.ifCond .eq 14, 3) := dk_153 0 14 (dk_at dksX5_isCode_9 15 rfl rfl)
theorem dX5_isCode_279 : decode cX5_isCode 279 = .ok (.iload_n 2, 1) := dk_28 (dk_at dksX5_isCode_9 18 rfl rfl)
theorem dX5_isCode_280 : decode cX5_isCode 280 = .ok (.invokestatic 11, 3) := dk_184 0 11 (dk_at dksX5_isCode_9 19 rfl rfl)
theorem dX5_isCode_283 : decode cX5_isCode 283 = .ok (.ifCond .eq 7, 3) := dk_153 0 7 (dk_at dksX5_isCode_10 0 rfl rfl)
theorem dX5_isCode_286 : decode cX5_isCode 286 = .ok (.iconst 1, 1) := dk_4 (dk_at dksX5_isCode_10 3 rfl rfl)
theorem dX5_isCode_287 : decode cX5_isCode 287 = .ok (.goto 4, 3) := dk_167 0 4 (dk_at dksX5_isCode_10 4 rfl rfl)
theorem dX5_isCode_290 : decode cX5_isCode 290 = .ok (.iconst 0, 1) := dk_3 (dk_at dksX5_isCode_10 7 rfl rfl)
theorem dX5_isCode_291 : decode cX5_isCode 291 = .ok (.ireturn, 1) := dk_172 (dk_at dksX5_isCode_10 8 rfl rfl)
theorem dX5_isCode_292 : decode cX5_isCode 292 = .ok (.iload_n 0, 1) := dk_26 (dk_at dksX5_isCode_10 9 rfl rfl)
theorem dX5_isCode_293 : decode cX5_isCode 293 = .ok (.bipush 119, 2) := dk_16 119 (dk_at dksX5_isCode_10 10 rfl rfl)
theorem dX5_isCode_295 : decode cX5_isCode 295 = .ok (.if_icmp .ne 7, 3) := dk_160 0 7 (dk_at dksX5_isCode_10 12 rfl rfl)
theorem dX5_isCode_298 : decode cX5_isCode 298 = .ok (.iconst 1, 1) := dk_4 (dk_at dksX5_isCode_10 15 rfl rfl)
theorem dX5_isCode_299 : decode cX5_isCode 299 = .ok (.goto 4, 3) := dk_167 0 4 (dk_at dksX5_isCode_10 16 rfl rfl)
theorem dX5_isCode_302 : decode cX5_isCode 302 = .ok (.iconst 0, 1) := dk_3 (dk_at dksX5_isCode_10 19 rfl rfl)
theorem dX5_isCode_303 : decode cX5_isCode 303 = .ok (.ireturn, 1) := dk_172 (dk_at dksX5_isCode_10 20 rfl rfl)
abbrev cX5_isLocal : ByteArray := prog_24_method_2_code
def yX5_isLocal : MethodName := ⟨RX5, "isLocal", "(I)Z"⟩
def dkwX5_isLocal_0 : List UInt8 := [26, 3, 6, 184, 0, 3, 172]
abbrev dktX5_isLocal_0 : List UInt8 := dkwX5_isLocal_0 ++ []
theorem dksX5_isLocal_0 : cX5_isLocal.data.toList.drop 0 = dktX5_isLocal_0 := by decide +kernel
theorem dX5_isLocal_0 : decode cX5_isLocal 0 = .ok (.iload_n 0, 1) := dk_26 (dk_at dksX5_isLocal_0 0 rfl rfl)
theorem dX5_isLocal_1 : decode cX5_isLocal 1 = .ok (.iconst 0, 1) := dk_3 (dk_at dksX5_isLocal_0 1 rfl rfl)
theorem dX5_isLocal_2 : decode cX5_isLocal 2 = .ok (.iconst 3, 1) := dk_6 (dk_at dksX5_isLocal_0 2 rfl rfl)
theorem dX5_isLocal_3 : decode cX5_isLocal 3 = .ok (.invokestatic 3, 3) := dk_184 0 3 (dk_at dksX5_isLocal_0 3 rfl rfl)
theorem dX5_isLocal_6 : decode cX5_isLocal 6 = .ok (.ireturn, 1) := dk_172 (dk_at dksX5_isLocal_0 6 rfl rfl)
abbrev cX5_empty : ByteArray := prog_24_method_10_code
def yX5_empty : MethodName := ⟨RX5, "empty", "(I)I"⟩
def dkwX5_empty_2 : List UInt8 := [182, 0, 93, 28, 172]
abbrev dktX5_empty_2 : List UInt8 := dkwX5_empty_2 ++ []
def dkwX5_empty_1 : List UInt8 := [172, 42, 180, 0, 62, 27, 182, 0, 81, 61, 42, 180, 0, 62, 180, 0, 85, 27, 182, 0, 58, 192, 0, 20]
abbrev dktX5_empty_1 : List UInt8 := dkwX5_empty_1 ++ dktX5_empty_2
def dkwX5_empty_0 : List UInt8 := [42, 27, 184, 0, 11, 153, 0, 7, 3, 167, 0, 4, 4, 181, 0, 69, 42, 180, 0, 69, 158, 0, 5, 3]
abbrev dktX5_empty_0 : List UInt8 := dkwX5_empty_0 ++ dktX5_empty_1
theorem dksX5_empty_0 : cX5_empty.data.toList.drop 0 = dktX5_empty_0 := by decide +kernel
theorem dksX5_empty_1 : cX5_empty.data.toList.drop 24 = dktX5_empty_1 := dk_seg dksX5_empty_0 24 rfl rfl
theorem dksX5_empty_2 : cX5_empty.data.toList.drop 48 = dktX5_empty_2 := dk_seg dksX5_empty_1 24 rfl rfl
theorem dX5_empty_0 : decode cX5_empty 0 = .ok (.aload_n 0, 1) := dk_42 (dk_at dksX5_empty_0 0 rfl rfl)
theorem dX5_empty_1 : decode cX5_empty 1 = .ok (.iload_n 1, 1) := dk_27 (dk_at dksX5_empty_0 1 rfl rfl)
theorem dX5_empty_2 : decode cX5_empty 2 = .ok (.invokestatic 11, 3) := dk_184 0 11 (dk_at dksX5_empty_0 2 rfl rfl)
theorem dX5_empty_5 : decode cX5_empty 5 = .ok (.ifCond .eq 7, 3) := dk_153 0 7 (dk_at dksX5_empty_0 5 rfl rfl)
theorem dX5_empty_8 : decode cX5_empty 8 = .ok (.iconst 0, 1) := dk_3 (dk_at dksX5_empty_0 8 rfl rfl)
theorem dX5_empty_9 : decode cX5_empty 9 = .ok (.goto 4, 3) := dk_167 0 4 (dk_at dksX5_empty_0 9 rfl rfl)
theorem dX5_empty_12 : decode cX5_empty 12 = .ok (.iconst 1, 1) := dk_4 (dk_at dksX5_empty_0 12 rfl rfl)
theorem dX5_empty_13 : decode cX5_empty 13 = .ok (.putfield 69, 3) := dk_181 0 69 (dk_at dksX5_empty_0 13 rfl rfl)
theorem dX5_empty_16 : decode cX5_empty 16 = .ok (.aload_n 0, 1) := dk_42 (dk_at dksX5_empty_0 16 rfl rfl)
theorem dX5_empty_17 : decode cX5_empty 17 = .ok (.getfield 69, 3) := dk_180 0 69 (dk_at dksX5_empty_0 17 rfl rfl)
theorem dX5_empty_20 : decode cX5_empty 20 = .ok (.ifCond .le 5, 3) := dk_158 0 5 (dk_at dksX5_empty_0 20 rfl rfl)
theorem dX5_empty_23 : decode cX5_empty 23 = .ok (.iconst 0, 1) := dk_3 (dk_at dksX5_empty_0 23 rfl rfl)
theorem dX5_empty_24 : decode cX5_empty 24 = .ok (.ireturn, 1) := dk_172 (dk_at dksX5_empty_1 0 rfl rfl)
theorem dX5_empty_25 : decode cX5_empty 25 = .ok (.aload_n 0, 1) := dk_42 (dk_at dksX5_empty_1 1 rfl rfl)
theorem dX5_empty_26 : decode cX5_empty 26 = .ok (.getfield 62, 3) := dk_180 0 62 (dk_at dksX5_empty_1 2 rfl rfl)
theorem dX5_empty_29 : decode cX5_empty 29 = .ok (.iload_n 1, 1) := dk_27 (dk_at dksX5_empty_1 5 rfl rfl)
theorem dX5_empty_30 : decode cX5_empty 30 = .ok (.invokevirtual 81, 3) := dk_182 0 81 (dk_at dksX5_empty_1 6 rfl rfl)
theorem dX5_empty_33 : decode cX5_empty 33 = .ok (.istore_n 2, 1) := dk_61 (dk_at dksX5_empty_1 9 rfl rfl)
theorem dX5_empty_34 : decode cX5_empty 34 = .ok (.aload_n 0, 1) := dk_42 (dk_at dksX5_empty_1 10 rfl rfl)
theorem dX5_empty_35 : decode cX5_empty 35 = .ok (.getfield 62, 3) := dk_180 0 62 (dk_at dksX5_empty_1 11 rfl rfl)
theorem dX5_empty_38 : decode cX5_empty 38 = .ok (.getfield 85, 3) := dk_180 0 85 (dk_at dksX5_empty_1 14 rfl rfl)
theorem dX5_empty_41 : decode cX5_empty 41 = .ok (.iload_n 1, 1) := dk_27 (dk_at dksX5_empty_1 17 rfl rfl)
theorem dX5_empty_42 : decode cX5_empty 42 = .ok (.invokevirtual 58, 3) := dk_182 0 58 (dk_at dksX5_empty_1 18 rfl rfl)
theorem dX5_empty_45 : decode cX5_empty 45 = .ok (.checkcast 20, 3) := dk_192 0 20 (dk_at dksX5_empty_1 21 rfl rfl)
theorem dX5_empty_48 : decode cX5_empty 48 = .ok (.invokevirtual 93, 3) := dk_182 0 93 (dk_at dksX5_empty_2 0 rfl rfl)
theorem dX5_empty_51 : decode cX5_empty 51 = .ok (.iload_n 2, 1) := dk_28 (dk_at dksX5_empty_2 3 rfl rfl)
theorem dX5_empty_52 : decode cX5_empty 52 = .ok (.ireturn, 1) := dk_172 (dk_at dksX5_empty_2 4 rfl rfl)
abbrev cX5_setFields : ByteArray := prog_24_method_11_code
def yX5_setFields : MethodName := ⟨RX5, "setFields", "(II)I"⟩
def dkwX5_setFields_3 : List UInt8 := [182, 0, 103, 29, 172]
abbrev dktX5_setFields_3 : List UInt8 := dkwX5_setFields_3 ++ []
def dkwX5_setFields_2 : List UInt8 := [180, 0, 62, 180, 0, 96, 27, 28, 79, 42, 180, 0, 62, 27, 42, 182, 0, 99, 180, 0, 96, 27, 46]
abbrev dktX5_setFields_2 : List UInt8 := dkwX5_setFields_2 ++ dktX5_setFields_3
def dkwX5_setFields_1 : List UInt8 := [181, 0, 69, 42, 180, 0, 69, 158, 0, 5, 3, 172, 42, 180, 0, 62, 180, 0, 96, 27, 46, 62, 42]
abbrev dktX5_setFields_1 : List UInt8 := dkwX5_setFields_1 ++ dktX5_setFields_2
def dkwX5_setFields_0 : List UInt8 := [42, 27, 3, 5, 184, 0, 3, 153, 0, 16, 28, 4, 7, 184, 0, 3, 153, 0, 7, 3, 167, 0, 4, 4]
abbrev dktX5_setFields_0 : List UInt8 := dkwX5_setFields_0 ++ dktX5_setFields_1
theorem dksX5_setFields_0 : cX5_setFields.data.toList.drop 0 = dktX5_setFields_0 := by decide +kernel
theorem dksX5_setFields_1 : cX5_setFields.data.toList.drop 24 = dktX5_setFields_1 := dk_seg dksX5_setFields_0 24 rfl rfl
theorem dksX5_setFields_2 : cX5_setFields.data.toList.drop 47 = dktX5_setFields_2 := dk_seg dksX5_setFields_1 23 rfl rfl
theorem dksX5_setFields_3 : cX5_setFields.data.toList.drop 70 = dktX5_setFields_3 := dk_seg dksX5_setFields_2 23 rfl rfl
theorem dX5_setFields_0 : decode cX5_setFields 0 = .ok (.aload_n 0, 1) := dk_42 (dk_at dksX5_setFields_0 0 rfl rfl)
theorem dX5_setFields_1 : decode cX5_setFields 1 = .ok (.iload_n 1, 1) := dk_27 (dk_at dksX5_setFields_0 1 rfl rfl)
theorem dX5_setFields_2 : decode cX5_setFields 2 = .ok (.iconst 0, 1) := dk_3 (dk_at dksX5_setFields_0 2 rfl rfl)
theorem dX5_setFields_3 : decode cX5_setFields 3 = .ok (.iconst 2, 1) := dk_5 (dk_at dksX5_setFields_0 3 rfl rfl)
theorem dX5_setFields_4 : decode cX5_setFields 4 = .ok (.invokestatic 3, 3) := dk_184 0 3 (dk_at dksX5_setFields_0 4 rfl rfl)
theorem dX5_setFields_7 : decode cX5_setFields 7 = .ok (.ifCond .eq 16, 3) := dk_153 0 16 (dk_at dksX5_setFields_0 7 rfl rfl)
theorem dX5_setFields_10 : decode cX5_setFields 10 = .ok (.iload_n 2, 1) := dk_28 (dk_at dksX5_setFields_0 10 rfl rfl)
theorem dX5_setFields_11 : decode cX5_setFields 11 = .ok (.iconst 1, 1) := dk_4 (dk_at dksX5_setFields_0 11 rfl rfl)
theorem dX5_setFields_12 : decode cX5_setFields 12 = .ok (.iconst 4, 1) := dk_7 (dk_at dksX5_setFields_0 12 rfl rfl)
theorem dX5_setFields_13 : decode cX5_setFields 13 = .ok (.invokestatic 3, 3) := dk_184 0 3 (dk_at dksX5_setFields_0 13 rfl rfl)
theorem dX5_setFields_16 : decode cX5_setFields 16 = .ok (.ifCond .eq 7, 3) := dk_153 0 7 (dk_at dksX5_setFields_0 16 rfl rfl)
theorem dX5_setFields_19 : decode cX5_setFields 19 = .ok (.iconst 0, 1) := dk_3 (dk_at dksX5_setFields_0 19 rfl rfl)
theorem dX5_setFields_20 : decode cX5_setFields 20 = .ok (.goto 4, 3) := dk_167 0 4 (dk_at dksX5_setFields_0 20 rfl rfl)
theorem dX5_setFields_23 : decode cX5_setFields 23 = .ok (.iconst 1, 1) := dk_4 (dk_at dksX5_setFields_0 23 rfl rfl)
theorem dX5_setFields_24 : decode cX5_setFields 24 = .ok (.putfield 69, 3) := dk_181 0 69 (dk_at dksX5_setFields_1 0 rfl rfl)
theorem dX5_setFields_27 : decode cX5_setFields 27 = .ok (.aload_n 0, 1) := dk_42 (dk_at dksX5_setFields_1 3 rfl rfl)
theorem dX5_setFields_28 : decode cX5_setFields 28 = .ok (.getfield 69, 3) := dk_180 0 69 (dk_at dksX5_setFields_1 4 rfl rfl)
theorem dX5_setFields_31 : decode cX5_setFields 31 = .ok (.ifCond .le 5, 3) := dk_158 0 5 (dk_at dksX5_setFields_1 7 rfl rfl)
theorem dX5_setFields_34 : decode cX5_setFields 34 = .ok (.iconst 0, 1) := dk_3 (dk_at dksX5_setFields_1 10 rfl rfl)
theorem dX5_setFields_35 : decode cX5_setFields 35 = .ok (.ireturn, 1) := dk_172 (dk_at dksX5_setFields_1 11 rfl rfl)
theorem dX5_setFields_36 : decode cX5_setFields 36 = .ok (.aload_n 0, 1) := dk_42 (dk_at dksX5_setFields_1 12 rfl rfl)
theorem dX5_setFields_37 : decode cX5_setFields 37 = .ok (.getfield 62, 3) := dk_180 0 62 (dk_at dksX5_setFields_1 13 rfl rfl)
theorem dX5_setFields_40 : decode cX5_setFields 40 = .ok (.getfield 96, 3) := dk_180 0 96 (dk_at dksX5_setFields_1 16 rfl rfl)
theorem dX5_setFields_43 : decode cX5_setFields 43 = .ok (.iload_n 1, 1) := dk_27 (dk_at dksX5_setFields_1 19 rfl rfl)
theorem dX5_setFields_44 : decode cX5_setFields 44 = .ok (.iaload, 1) := dk_46 (dk_at dksX5_setFields_1 20 rfl rfl)
theorem dX5_setFields_45 : decode cX5_setFields 45 = .ok (.istore_n 3, 1) := dk_62 (dk_at dksX5_setFields_1 21 rfl rfl)
theorem dX5_setFields_46 : decode cX5_setFields 46 = .ok (.aload_n 0, 1) := dk_42 (dk_at dksX5_setFields_1 22 rfl rfl)
theorem dX5_setFields_47 : decode cX5_setFields 47 = .ok (.getfield 62, 3) := dk_180 0 62 (dk_at dksX5_setFields_2 0 rfl rfl)
theorem dX5_setFields_50 : decode cX5_setFields 50 = .ok (.getfield 96, 3) := dk_180 0 96 (dk_at dksX5_setFields_2 3 rfl rfl)
theorem dX5_setFields_53 : decode cX5_setFields 53 = .ok (.iload_n 1, 1) := dk_27 (dk_at dksX5_setFields_2 6 rfl rfl)
theorem dX5_setFields_54 : decode cX5_setFields 54 = .ok (.iload_n 2, 1) := dk_28 (dk_at dksX5_setFields_2 7 rfl rfl)
theorem dX5_setFields_55 : decode cX5_setFields 55 = .ok (.iastore, 1) := dk_79 (dk_at dksX5_setFields_2 8 rfl rfl)
theorem dX5_setFields_56 : decode cX5_setFields 56 = .ok (.aload_n 0, 1) := dk_42 (dk_at dksX5_setFields_2 9 rfl rfl)
theorem dX5_setFields_57 : decode cX5_setFields 57 = .ok (.getfield 62, 3) := dk_180 0 62 (dk_at dksX5_setFields_2 10 rfl rfl)
theorem dX5_setFields_60 : decode cX5_setFields 60 = .ok (.iload_n 1, 1) := dk_27 (dk_at dksX5_setFields_2 13 rfl rfl)
theorem dX5_setFields_61 : decode cX5_setFields 61 = .ok (.aload_n 0, 1) := dk_42 (dk_at dksX5_setFields_2 14 rfl rfl)
theorem dX5_setFields_62 : decode cX5_setFields 62 = .ok (.invokevirtual 99, 3) := dk_182 0 99 (dk_at dksX5_setFields_2 15 rfl rfl)
theorem dX5_setFields_65 : decode cX5_setFields 65 = .ok (.getfield 96, 3) := dk_180 0 96 (dk_at dksX5_setFields_2 18 rfl rfl)
theorem dX5_setFields_68 : decode cX5_setFields 68 = .ok (.iload_n 1, 1) := dk_27 (dk_at dksX5_setFields_2 21 rfl rfl)
theorem dX5_setFields_69 : decode cX5_setFields 69 = .ok (.iaload, 1) := dk_46 (dk_at dksX5_setFields_2 22 rfl rfl)
theorem dX5_setFields_70 : decode cX5_setFields 70 = .ok (.invokevirtual 103, 3) := dk_182 0 103 (dk_at dksX5_setFields_3 0 rfl rfl)
theorem dX5_setFields_73 : decode cX5_setFields 73 = .ok (.iload_n 3, 1) := dk_29 (dk_at dksX5_setFields_3 3 rfl rfl)
theorem dX5_setFields_74 : decode cX5_setFields 74 = .ok (.ireturn, 1) := dk_172 (dk_at dksX5_setFields_3 4 rfl rfl)
abbrev cX5_latest : ByteArray := prog_24_method_8_code
def yX5_latest : MethodName := ⟨RX5, "latest", "()LSwapWhileModel$Version;"⟩
def dkwX5_latest_0 : List UInt8 := [42, 180, 0, 23, 42, 180, 0, 23, 182, 0, 73, 4, 100, 182, 0, 58, 192, 0, 49, 176]
abbrev dktX5_latest_0 : List UInt8 := dkwX5_latest_0 ++ []
theorem dksX5_latest_0 : cX5_latest.data.toList.drop 0 = dktX5_latest_0 := by decide +kernel
theorem dX5_latest_0 : decode cX5_latest 0 = .ok (.aload_n 0, 1) := dk_42 (dk_at dksX5_latest_0 0 rfl rfl)
theorem dX5_latest_1 : decode cX5_latest 1 = .ok (.getfield 23, 3) := dk_180 0 23 (dk_at dksX5_latest_0 1 rfl rfl)
theorem dX5_latest_4 : decode cX5_latest 4 = .ok (.aload_n 0, 1) := dk_42 (dk_at dksX5_latest_0 4 rfl rfl)
theorem dX5_latest_5 : decode cX5_latest 5 = .ok (.getfield 23, 3) := dk_180 0 23 (dk_at dksX5_latest_0 5 rfl rfl)
theorem dX5_latest_8 : decode cX5_latest 8 = .ok (.invokevirtual 73, 3) := dk_182 0 73 (dk_at dksX5_latest_0 8 rfl rfl)
theorem dX5_latest_11 : decode cX5_latest 11 = .ok (.iconst 1, 1) := dk_4 (dk_at dksX5_latest_0 11 rfl rfl)
theorem dX5_latest_12 : decode cX5_latest 12 = .ok (.isub, 1) := dk_100 (dk_at dksX5_latest_0 12 rfl rfl)
theorem dX5_latest_13 : decode cX5_latest 13 = .ok (.invokevirtual 58, 3) := dk_182 0 58 (dk_at dksX5_latest_0 13 rfl rfl)
theorem dX5_latest_16 : decode cX5_latest 16 = .ok (.checkcast 49, 3) := dk_192 0 49 (dk_at dksX5_latest_0 16 rfl rfl)
theorem dX5_latest_19 : decode cX5_latest 19 = .ok (.areturn, 1) := dk_176 (dk_at dksX5_latest_0 19 rfl rfl)
abbrev cX5_setCarry : ByteArray := prog_24_method_12_code
def yX5_setCarry : MethodName := ⟨RX5, "setCarry", "(IZIII)I"⟩
def dkwX5_setCarry_8 : List UInt8 := [96, 21, 5, 79, 21, 11, 172]
abbrev dktX5_setCarry_8 : List UInt8 := dkwX5_setCarry_8 ++ []
def dkwX5_setCarry_7 : List UInt8 := [7, 27, 104, 29, 96, 46, 54, 11, 25, 9, 7, 27, 104, 29, 96, 21, 4, 79, 25, 10, 7, 27, 104, 29]
abbrev dktX5_setCarry_7 : List UInt8 := dkwX5_setCarry_7 ++ dktX5_setCarry_8
def dkwX5_setCarry_6 : List UInt8 := [153, 0, 13, 42, 180, 0, 62, 180, 0, 113, 167, 0, 10, 42, 180, 0, 62, 180, 0, 116, 58, 10, 25, 9]
abbrev dktX5_setCarry_6 : List UInt8 := dkwX5_setCarry_6 ++ dktX5_setCarry_7
def dkwX5_setCarry_5 : List UInt8 := [153, 0, 13, 42, 180, 0, 62, 180, 0, 107, 167, 0, 10, 42, 180, 0, 62, 180, 0, 110, 58, 9, 28]
abbrev dktX5_setCarry_5 : List UInt8 := dkwX5_setCarry_5 ++ dktX5_setCarry_6
def dkwX5_setCarry_4 : List UInt8 := [184, 0, 3, 153, 0, 7, 3, 167, 0, 4, 4, 181, 0, 69, 42, 180, 0, 69, 158, 0, 5, 3, 172, 28]
abbrev dktX5_setCarry_4 : List UInt8 := dkwX5_setCarry_4 ++ dktX5_setCarry_5
def dkwX5_setCarry_3 : List UInt8 := [184, 0, 3, 153, 0, 29, 21, 4, 2, 28, 153, 0, 8, 21, 8, 167, 0, 5, 21, 7, 4, 100]
abbrev dktX5_setCarry_3 : List UInt8 := dkwX5_setCarry_3 ++ dktX5_setCarry_4
def dkwX5_setCarry_2 : List UInt8 := [54, 8, 42, 21, 6, 153, 0, 50, 29, 3, 28, 153, 0, 8, 21, 7, 167, 0, 5, 21, 8, 4, 100]
abbrev dktX5_setCarry_2 : List UInt8 := dkwX5_setCarry_2 ++ dktX5_setCarry_3
def dkwX5_setCarry_1 : List UInt8 := [167, 0, 4, 3, 54, 7, 21, 6, 153, 0, 15, 42, 180, 0, 62, 180, 0, 96, 27, 46, 167, 0, 4, 3]
abbrev dktX5_setCarry_1 : List UInt8 := dkwX5_setCarry_1 ++ dktX5_setCarry_2
def dkwX5_setCarry_0 : List UInt8 := [27, 3, 5, 184, 0, 3, 54, 6, 21, 6, 153, 0, 15, 42, 182, 0, 99, 180, 0, 96, 27, 46]
abbrev dktX5_setCarry_0 : List UInt8 := dkwX5_setCarry_0 ++ dktX5_setCarry_1
theorem dksX5_setCarry_0 : cX5_setCarry.data.toList.drop 0 = dktX5_setCarry_0 := by decide +kernel
theorem dksX5_setCarry_1 : cX5_setCarry.data.toList.drop 22 = dktX5_setCarry_1 := dk_seg dksX5_setCarry_0 22 rfl rfl
theorem dksX5_setCarry_2 : cX5_setCarry.data.toList.drop 46 = dktX5_setCarry_2 := dk_seg dksX5_setCarry_1 24 rfl rfl
theorem dksX5_setCarry_3 : cX5_setCarry.data.toList.drop 69 = dktX5_setCarry_3 := dk_seg dksX5_setCarry_2 23 rfl rfl
theorem dksX5_setCarry_4 : cX5_setCarry.data.toList.drop 91 = dktX5_setCarry_4 := dk_seg dksX5_setCarry_3 22 rfl rfl
theorem dksX5_setCarry_5 : cX5_setCarry.data.toList.drop 115 = dktX5_setCarry_5 := dk_seg dksX5_setCarry_4 24 rfl rfl
theorem dksX5_setCarry_6 : cX5_setCarry.data.toList.drop 138 = dktX5_setCarry_6 := dk_seg dksX5_setCarry_5 23 rfl rfl
theorem dksX5_setCarry_7 : cX5_setCarry.data.toList.drop 162 = dktX5_setCarry_7 := dk_seg dksX5_setCarry_6 24 rfl rfl
theorem dksX5_setCarry_8 : cX5_setCarry.data.toList.drop 186 = dktX5_setCarry_8 := dk_seg dksX5_setCarry_7 24 rfl rfl
theorem dX5_setCarry_0 : decode cX5_setCarry 0 = .ok (.iload_n 1, 1) := dk_27 (dk_at dksX5_setCarry_0 0 rfl rfl)
theorem dX5_setCarry_1 : decode cX5_setCarry 1 = .ok (.iconst 0, 1) := dk_3 (dk_at dksX5_setCarry_0 1 rfl rfl)
theorem dX5_setCarry_2 : decode cX5_setCarry 2 = .ok (.iconst 2, 1) := dk_5 (dk_at dksX5_setCarry_0 2 rfl rfl)
theorem dX5_setCarry_3 : decode cX5_setCarry 3 = .ok (.invokestatic 3, 3) := dk_184 0 3 (dk_at dksX5_setCarry_0 3 rfl rfl)
theorem dX5_setCarry_6 : decode cX5_setCarry 6 = .ok (.istore 6, 2) := dk_54 6 (dk_at dksX5_setCarry_0 6 rfl rfl)
theorem dX5_setCarry_8 : decode cX5_setCarry 8 = .ok (.iload 6, 2) := dk_21 6 (dk_at dksX5_setCarry_0 8 rfl rfl)
theorem dX5_setCarry_10 : decode cX5_setCarry 10 = .ok (.ifCond .eq 15, 3) := dk_153 0 15 (dk_at dksX5_setCarry_0 10 rfl rfl)
theorem dX5_setCarry_13 : decode cX5_setCarry 13 = .ok (.aload_n 0, 1) := dk_42 (dk_at dksX5_setCarry_0 13 rfl rfl)
theorem dX5_setCarry_14 : decode cX5_setCarry 14 = .ok (.invokevirtual 99, 3) := dk_182 0 99 (dk_at dksX5_setCarry_0 14 rfl rfl)
theorem dX5_setCarry_17 : decode cX5_setCarry 17 = .ok (.getfield 96, 3) := dk_180 0 96 (dk_at dksX5_setCarry_0 17 rfl rfl)
theorem dX5_setCarry_20 : decode cX5_setCarry 20 = .ok (.iload_n 1, 1) := dk_27 (dk_at dksX5_setCarry_0 20 rfl rfl)
theorem dX5_setCarry_21 : decode cX5_setCarry 21 = .ok (.iaload, 1) := dk_46 (dk_at dksX5_setCarry_0 21 rfl rfl)
theorem dX5_setCarry_22 : decode cX5_setCarry 22 = .ok (.goto 4, 3) := dk_167 0 4 (dk_at dksX5_setCarry_1 0 rfl rfl)
theorem dX5_setCarry_25 : decode cX5_setCarry 25 = .ok (.iconst 0, 1) := dk_3 (dk_at dksX5_setCarry_1 3 rfl rfl)
theorem dX5_setCarry_26 : decode cX5_setCarry 26 = .ok (.istore 7, 2) := dk_54 7 (dk_at dksX5_setCarry_1 4 rfl rfl)
theorem dX5_setCarry_28 : decode cX5_setCarry 28 = .ok (.iload 6, 2) := dk_21 6 (dk_at dksX5_setCarry_1 6 rfl rfl)
theorem dX5_setCarry_30 : decode cX5_setCarry 30 = .ok (.ifCond .eq 15, 3) := dk_153 0 15 (dk_at dksX5_setCarry_1 8 rfl rfl)
theorem dX5_setCarry_33 : decode cX5_setCarry 33 = .ok (.aload_n 0, 1) := dk_42 (dk_at dksX5_setCarry_1 11 rfl rfl)
theorem dX5_setCarry_34 : decode cX5_setCarry 34 = .ok (.getfield 62, 3) := dk_180 0 62 (dk_at dksX5_setCarry_1 12 rfl rfl)
theorem dX5_setCarry_37 : decode cX5_setCarry 37 = .ok (.getfield 96, 3) := dk_180 0 96 (dk_at dksX5_setCarry_1 15 rfl rfl)
theorem dX5_setCarry_40 : decode cX5_setCarry 40 = .ok (.iload_n 1, 1) := dk_27 (dk_at dksX5_setCarry_1 18 rfl rfl)
theorem dX5_setCarry_41 : decode cX5_setCarry 41 = .ok (.iaload, 1) := dk_46 (dk_at dksX5_setCarry_1 19 rfl rfl)
theorem dX5_setCarry_42 : decode cX5_setCarry 42 = .ok (.goto 4, 3) := dk_167 0 4 (dk_at dksX5_setCarry_1 20 rfl rfl)
theorem dX5_setCarry_45 : decode cX5_setCarry 45 = .ok (.iconst 0, 1) := dk_3 (dk_at dksX5_setCarry_1 23 rfl rfl)
theorem dX5_setCarry_46 : decode cX5_setCarry 46 = .ok (.istore 8, 2) := dk_54 8 (dk_at dksX5_setCarry_2 0 rfl rfl)
theorem dX5_setCarry_48 : decode cX5_setCarry 48 = .ok (.aload_n 0, 1) := dk_42 (dk_at dksX5_setCarry_2 2 rfl rfl)
theorem dX5_setCarry_49 : decode cX5_setCarry 49 = .ok (.iload 6, 2) := dk_21 6 (dk_at dksX5_setCarry_2 3 rfl rfl)
theorem dX5_setCarry_51 : decode cX5_setCarry 51 = .ok (.ifCond .eq 50, 3) := dk_153 0 50 (dk_at dksX5_setCarry_2 5 rfl rfl)
theorem dX5_setCarry_54 : decode cX5_setCarry 54 = .ok (.iload_n 3, 1) := dk_29 (dk_at dksX5_setCarry_2 8 rfl rfl)
theorem dX5_setCarry_55 : decode cX5_setCarry 55 = .ok (.iconst 0, 1) := dk_3 (dk_at dksX5_setCarry_2 9 rfl rfl)
theorem dX5_setCarry_56 : decode cX5_setCarry 56 = .ok (.iload_n 2, 1) := dk_28 (dk_at dksX5_setCarry_2 10 rfl rfl)
theorem dX5_setCarry_57 : decode cX5_setCarry 57 = .ok (.ifCond .eq 8, 3) := dk_153 0 8 (dk_at dksX5_setCarry_2 11 rfl rfl)
theorem dX5_setCarry_60 : decode cX5_setCarry 60 = .ok (.iload 7, 2) := dk_21 7 (dk_at dksX5_setCarry_2 14 rfl rfl)
theorem dX5_setCarry_62 : decode cX5_setCarry 62 = .ok (.goto 5, 3) := dk_167 0 5 (dk_at dksX5_setCarry_2 16 rfl rfl)
theorem dX5_setCarry_65 : decode cX5_setCarry 65 = .ok (.iload 8, 2) := dk_21 8 (dk_at dksX5_setCarry_2 19 rfl rfl)
theorem dX5_setCarry_67 : decode cX5_setCarry 67 = .ok (.iconst 1, 1) := dk_4 (dk_at dksX5_setCarry_2 21 rfl rfl)
theorem dX5_setCarry_68 : decode cX5_setCarry 68 = .ok (.isub, 1) := dk_100 (dk_at dksX5_setCarry_2 22 rfl rfl)
theorem dX5_setCarry_69 : decode cX5_setCarry 69 = .ok (.invokestatic 3, 3) := dk_184 0 3 (dk_at dksX5_setCarry_3 0 rfl rfl)
theorem dX5_setCarry_72 : decode cX5_setCarry 72 = .ok (.ifCond .eq 29, 3) := dk_153 0 29 (dk_at dksX5_setCarry_3 3 rfl rfl)
theorem dX5_setCarry_75 : decode cX5_setCarry 75 = .ok (.iload 4, 2) := dk_21 4 (dk_at dksX5_setCarry_3 6 rfl rfl)
theorem dX5_setCarry_77 : decode cX5_setCarry 77 = .ok (.iconst (-1), 1) := dk_2 (dk_at dksX5_setCarry_3 8 rfl rfl)
theorem dX5_setCarry_78 : decode cX5_setCarry 78 = .ok (.iload_n 2, 1) := dk_28 (dk_at dksX5_setCarry_3 9 rfl rfl)
theorem dX5_setCarry_79 : decode cX5_setCarry 79 = .ok (.ifCond .eq 8, 3) := dk_153 0 8 (dk_at dksX5_setCarry_3 10 rfl rfl)
theorem dX5_setCarry_82 : decode cX5_setCarry 82 = .ok (.iload 8, 2) := dk_21 8 (dk_at dksX5_setCarry_3 13 rfl rfl)
theorem dX5_setCarry_84 : decode cX5_setCarry 84 = .ok (.goto 5, 3) := dk_167 0 5 (dk_at dksX5_setCarry_3 15 rfl rfl)
theorem dX5_setCarry_87 : decode cX5_setCarry 87 = .ok (.iload 7, 2) := dk_21 7 (dk_at dksX5_setCarry_3 18 rfl rfl)
theorem dX5_setCarry_89 : decode cX5_setCarry 89 = .ok (.iconst 1, 1) := dk_4 (dk_at dksX5_setCarry_3 20 rfl rfl)
theorem dX5_setCarry_90 : decode cX5_setCarry 90 = .ok (.isub, 1) := dk_100 (dk_at dksX5_setCarry_3 21 rfl rfl)
theorem dX5_setCarry_91 : decode cX5_setCarry 91 = .ok (.invokestatic 3, 3) := dk_184 0 3 (dk_at dksX5_setCarry_4 0 rfl rfl)
theorem dX5_setCarry_94 : decode cX5_setCarry 94 = .ok (.ifCond .eq 7, 3) := dk_153 0 7 (dk_at dksX5_setCarry_4 3 rfl rfl)
theorem dX5_setCarry_97 : decode cX5_setCarry 97 = .ok (.iconst 0, 1) := dk_3 (dk_at dksX5_setCarry_4 6 rfl rfl)
theorem dX5_setCarry_98 : decode cX5_setCarry 98 = .ok (.goto 4, 3) := dk_167 0 4 (dk_at dksX5_setCarry_4 7 rfl rfl)
theorem dX5_setCarry_101 : decode cX5_setCarry 101 = .ok (.iconst 1, 1) := dk_4 (dk_at dksX5_setCarry_4 10 rfl rfl)
theorem dX5_setCarry_102 : decode cX5_setCarry 102 = .ok (.putfield 69, 3) := dk_181 0 69 (dk_at dksX5_setCarry_4 11 rfl rfl)
theorem dX5_setCarry_105 : decode cX5_setCarry 105 = .ok (.aload_n 0, 1) := dk_42 (dk_at dksX5_setCarry_4 14 rfl rfl)
theorem dX5_setCarry_106 : decode cX5_setCarry 106 = .ok (.getfield 69, 3) := dk_180 0 69 (dk_at dksX5_setCarry_4 15 rfl rfl)
theorem dX5_setCarry_109 : decode cX5_setCarry 109 = .ok (.ifCond .le 5, 3) := dk_158 0 5 (dk_at dksX5_setCarry_4 18 rfl rfl)
theorem dX5_setCarry_112 : decode cX5_setCarry 112 = .ok (.iconst 0, 1) := dk_3 (dk_at dksX5_setCarry_4 21 rfl rfl)
theorem dX5_setCarry_113 : decode cX5_setCarry 113 = .ok (.ireturn, 1) := dk_172 (dk_at dksX5_setCarry_4 22 rfl rfl)
theorem dX5_setCarry_114 : decode cX5_setCarry 114 = .ok (.iload_n 2, 1) := dk_28 (dk_at dksX5_setCarry_4 23 rfl rfl)
theorem dX5_setCarry_115 : decode cX5_setCarry 115 = .ok (.ifCond .eq 13, 3) := dk_153 0 13 (dk_at dksX5_setCarry_5 0 rfl rfl)
theorem dX5_setCarry_118 : decode cX5_setCarry 118 = .ok (.aload_n 0, 1) := dk_42 (dk_at dksX5_setCarry_5 3 rfl rfl)
theorem dX5_setCarry_119 : decode cX5_setCarry 119 = .ok (.getfield 62, 3) := dk_180 0 62 (dk_at dksX5_setCarry_5 4 rfl rfl)
theorem dX5_setCarry_122 : decode cX5_setCarry 122 = .ok (.getfield 107, 3) := dk_180 0 107 (dk_at dksX5_setCarry_5 7 rfl rfl)
theorem dX5_setCarry_125 : decode cX5_setCarry 125 = .ok (.goto 10, 3) := dk_167 0 10 (dk_at dksX5_setCarry_5 10 rfl rfl)
theorem dX5_setCarry_128 : decode cX5_setCarry 128 = .ok (.aload_n 0, 1) := dk_42 (dk_at dksX5_setCarry_5 13 rfl rfl)
theorem dX5_setCarry_129 : decode cX5_setCarry 129 = .ok (.getfield 62, 3) := dk_180 0 62 (dk_at dksX5_setCarry_5 14 rfl rfl)
theorem dX5_setCarry_132 : decode cX5_setCarry 132 = .ok (.getfield 110, 3) := dk_180 0 110 (dk_at dksX5_setCarry_5 17 rfl rfl)
theorem dX5_setCarry_135 : decode cX5_setCarry 135 = .ok (.astore 9, 2) := dk_58 9 (dk_at dksX5_setCarry_5 20 rfl rfl)
theorem dX5_setCarry_137 : decode cX5_setCarry 137 = .ok (.iload_n 2, 1) := dk_28 (dk_at dksX5_setCarry_5 22 rfl rfl)
theorem dX5_setCarry_138 : decode cX5_setCarry 138 = .ok (.ifCond .eq 13, 3) := dk_153 0 13 (dk_at dksX5_setCarry_6 0 rfl rfl)
theorem dX5_setCarry_141 : decode cX5_setCarry 141 = .ok (.aload_n 0, 1) := dk_42 (dk_at dksX5_setCarry_6 3 rfl rfl)
theorem dX5_setCarry_142 : decode cX5_setCarry 142 = .ok (.getfield 62, 3) := dk_180 0 62 (dk_at dksX5_setCarry_6 4 rfl rfl)
theorem dX5_setCarry_145 : decode cX5_setCarry 145 = .ok (.getfield 113, 3) := dk_180 0 113 (dk_at dksX5_setCarry_6 7 rfl rfl)
theorem dX5_setCarry_148 : decode cX5_setCarry 148 = .ok (.goto 10, 3) := dk_167 0 10 (dk_at dksX5_setCarry_6 10 rfl rfl)
theorem dX5_setCarry_151 : decode cX5_setCarry 151 = .ok (.aload_n 0, 1) := dk_42 (dk_at dksX5_setCarry_6 13 rfl rfl)
theorem dX5_setCarry_152 : decode cX5_setCarry 152 = .ok (.getfield 62, 3) := dk_180 0 62 (dk_at dksX5_setCarry_6 14 rfl rfl)
theorem dX5_setCarry_155 : decode cX5_setCarry 155 = .ok (.getfield 116, 3) := dk_180 0 116 (dk_at dksX5_setCarry_6 17 rfl rfl)
theorem dX5_setCarry_158 : decode cX5_setCarry 158 = .ok (.astore 10, 2) := dk_58 10 (dk_at dksX5_setCarry_6 20 rfl rfl)
theorem dX5_setCarry_160 : decode cX5_setCarry 160 = .ok (.aload 9, 2) := dk_25 9 (dk_at dksX5_setCarry_6 22 rfl rfl)
theorem dX5_setCarry_162 : decode cX5_setCarry 162 = .ok (.iconst 4, 1) := dk_7 (dk_at dksX5_setCarry_7 0 rfl rfl)
theorem dX5_setCarry_163 : decode cX5_setCarry 163 = .ok (.iload_n 1, 1) := dk_27 (dk_at dksX5_setCarry_7 1 rfl rfl)
theorem dX5_setCarry_164 : decode cX5_setCarry 164 = .ok (.imul, 1) := dk_104 (dk_at dksX5_setCarry_7 2 rfl rfl)
theorem dX5_setCarry_165 : decode cX5_setCarry 165 = .ok (.iload_n 3, 1) := dk_29 (dk_at dksX5_setCarry_7 3 rfl rfl)
theorem dX5_setCarry_166 : decode cX5_setCarry 166 = .ok (.iadd, 1) := dk_96 (dk_at dksX5_setCarry_7 4 rfl rfl)
theorem dX5_setCarry_167 : decode cX5_setCarry 167 = .ok (.iaload, 1) := dk_46 (dk_at dksX5_setCarry_7 5 rfl rfl)
theorem dX5_setCarry_168 : decode cX5_setCarry 168 = .ok (.istore 11, 2) := dk_54 11 (dk_at dksX5_setCarry_7 6 rfl rfl)
theorem dX5_setCarry_170 : decode cX5_setCarry 170 = .ok (.aload 9, 2) := dk_25 9 (dk_at dksX5_setCarry_7 8 rfl rfl)
theorem dX5_setCarry_172 : decode cX5_setCarry 172 = .ok (.iconst 4, 1) := dk_7 (dk_at dksX5_setCarry_7 10 rfl rfl)
theorem dX5_setCarry_173 : decode cX5_setCarry 173 = .ok (.iload_n 1, 1) := dk_27 (dk_at dksX5_setCarry_7 11 rfl rfl)
theorem dX5_setCarry_174 : decode cX5_setCarry 174 = .ok (.imul, 1) := dk_104 (dk_at dksX5_setCarry_7 12 rfl rfl)
theorem dX5_setCarry_175 : decode cX5_setCarry 175 = .ok (.iload_n 3, 1) := dk_29 (dk_at dksX5_setCarry_7 13 rfl rfl)
theorem dX5_setCarry_176 : decode cX5_setCarry 176 = .ok (.iadd, 1) := dk_96 (dk_at dksX5_setCarry_7 14 rfl rfl)
theorem dX5_setCarry_177 : decode cX5_setCarry 177 = .ok (.iload 4, 2) := dk_21 4 (dk_at dksX5_setCarry_7 15 rfl rfl)
theorem dX5_setCarry_179 : decode cX5_setCarry 179 = .ok (.iastore, 1) := dk_79 (dk_at dksX5_setCarry_7 17 rfl rfl)
theorem dX5_setCarry_180 : decode cX5_setCarry 180 = .ok (.aload 10, 2) := dk_25 10 (dk_at dksX5_setCarry_7 18 rfl rfl)
theorem dX5_setCarry_182 : decode cX5_setCarry 182 = .ok (.iconst 4, 1) := dk_7 (dk_at dksX5_setCarry_7 20 rfl rfl)
theorem dX5_setCarry_183 : decode cX5_setCarry 183 = .ok (.iload_n 1, 1) := dk_27 (dk_at dksX5_setCarry_7 21 rfl rfl)
theorem dX5_setCarry_184 : decode cX5_setCarry 184 = .ok (.imul, 1) := dk_104 (dk_at dksX5_setCarry_7 22 rfl rfl)
theorem dX5_setCarry_185 : decode cX5_setCarry 185 = .ok (.iload_n 3, 1) := dk_29 (dk_at dksX5_setCarry_7 23 rfl rfl)
theorem dX5_setCarry_186 : decode cX5_setCarry 186 = .ok (.iadd, 1) := dk_96 (dk_at dksX5_setCarry_8 0 rfl rfl)
theorem dX5_setCarry_187 : decode cX5_setCarry 187 = .ok (.iload 5, 2) := dk_21 5 (dk_at dksX5_setCarry_8 1 rfl rfl)
theorem dX5_setCarry_189 : decode cX5_setCarry 189 = .ok (.iastore, 1) := dk_79 (dk_at dksX5_setCarry_8 3 rfl rfl)
theorem dX5_setCarry_190 : decode cX5_setCarry 190 = .ok (.iload 11, 2) := dk_21 11 (dk_at dksX5_setCarry_8 4 rfl rfl)
theorem dX5_setCarry_192 : decode cX5_setCarry 192 = .ok (.ireturn, 1) := dk_172 (dk_at dksX5_setCarry_8 6 rfl rfl)
abbrev cX5_map : ByteArray := prog_24_method_13_code
def yX5_map : MethodName := ⟨RX5, "map", "(III)I"⟩
def dkwX5_map_5 : List UInt8 := [21, 4, 172]
abbrev dktX5_map_5 : List UInt8 := dkwX5_map_5 ++ []
def dkwX5_map_4 : List UInt8 := [27, 104, 21, 5, 96, 46, 2, 159, 0, 7, 4, 167, 0, 4, 3, 96, 54, 4, 132, 5, 1, 167, 255, 217]
abbrev dktX5_map_4 : List UInt8 := dkwX5_map_4 ++ dktX5_map_5
def dkwX5_map_3 : List UInt8 := [3, 54, 4, 3, 54, 5, 21, 5, 16, 11, 162, 0, 38, 21, 4, 42, 180, 0, 62, 180, 0, 119, 16, 11]
abbrev dktX5_map_3 : List UInt8 := dkwX5_map_3 ++ dktX5_map_4
def dkwX5_map_2 : List UInt8 := [42, 180, 0, 69, 158, 0, 5, 3, 172, 42, 180, 0, 62, 180, 0, 119, 16, 11, 27, 104, 28, 96, 29, 79]
abbrev dktX5_map_2 : List UInt8 := dkwX5_map_2 ++ dktX5_map_3
def dkwX5_map_1 : List UInt8 := [29, 2, 42, 180, 0, 62, 27, 182, 0, 81, 184, 0, 3, 153, 0, 7, 3, 167, 0, 4, 4, 181, 0, 69]
abbrev dktX5_map_1 : List UInt8 := dkwX5_map_1 ++ dktX5_map_2
def dkwX5_map_0 : List UInt8 := [42, 27, 184, 0, 11, 153, 0, 39, 28, 3, 42, 182, 0, 99, 27, 182, 0, 81, 184, 0, 3, 153, 0, 23]
abbrev dktX5_map_0 : List UInt8 := dkwX5_map_0 ++ dktX5_map_1
theorem dksX5_map_0 : cX5_map.data.toList.drop 0 = dktX5_map_0 := by decide +kernel
theorem dksX5_map_1 : cX5_map.data.toList.drop 24 = dktX5_map_1 := dk_seg dksX5_map_0 24 rfl rfl
theorem dksX5_map_2 : cX5_map.data.toList.drop 48 = dktX5_map_2 := dk_seg dksX5_map_1 24 rfl rfl
theorem dksX5_map_3 : cX5_map.data.toList.drop 72 = dktX5_map_3 := dk_seg dksX5_map_2 24 rfl rfl
theorem dksX5_map_4 : cX5_map.data.toList.drop 96 = dktX5_map_4 := dk_seg dksX5_map_3 24 rfl rfl
theorem dksX5_map_5 : cX5_map.data.toList.drop 120 = dktX5_map_5 := dk_seg dksX5_map_4 24 rfl rfl
theorem dX5_map_0 : decode cX5_map 0 = .ok (.aload_n 0, 1) := dk_42 (dk_at dksX5_map_0 0 rfl rfl)
theorem dX5_map_1 : decode cX5_map 1 = .ok (.iload_n 1, 1) := dk_27 (dk_at dksX5_map_0 1 rfl rfl)
theorem dX5_map_2 : decode cX5_map 2 = .ok (.invokestatic 11, 3) := dk_184 0 11 (dk_at dksX5_map_0 2 rfl rfl)
theorem dX5_map_5 : decode cX5_map 5 = .ok (.ifCond .eq 39, 3) := dk_153 0 39 (dk_at dksX5_map_0 5 rfl rfl)
theorem dX5_map_8 : decode cX5_map 8 = .ok (.iload_n 2, 1) := dk_28 (dk_at dksX5_map_0 8 rfl rfl)
theorem dX5_map_9 : decode cX5_map 9 = .ok (.iconst 0, 1) := dk_3 (dk_at dksX5_map_0 9 rfl rfl)
theorem dX5_map_10 : decode cX5_map 10 = .ok (.aload_n 0, 1) := dk_42 (dk_at dksX5_map_0 10 rfl rfl)
theorem dX5_map_11 : decode cX5_map 11 = .ok (.invokevirtual 99, 3) := dk_182 0 99 (dk_at dksX5_map_0 11 rfl rfl)
theorem dX5_map_14 : decode cX5_map 14 = .ok (.iload_n 1, 1) := dk_27 (dk_at dksX5_map_0 14 rfl rfl)
theorem dX5_map_15 : decode cX5_map 15 = .ok (.invokevirtual 81, 3) := dk_182 0 81 (dk_at dksX5_map_0 15 rfl rfl)
theorem dX5_map_18 : decode cX5_map 18 = .ok (.invokestatic 3, 3) := dk_184 0 3 (dk_at dksX5_map_0 18 rfl rfl)
theorem dX5_map_21 : decode cX5_map 21 = .ok (.ifCond .eq 23, 3) := dk_153 0 23 (dk_at dksX5_map_0 21 rfl rfl)
theorem dX5_map_24 : decode cX5_map 24 = .ok (.iload_n 3, 1) := dk_29 (dk_at dksX5_map_1 0 rfl rfl)
theorem dX5_map_25 : decode cX5_map 25 = .ok (.iconst (-1), 1) := dk_2 (dk_at dksX5_map_1 1 rfl rfl)
theorem dX5_map_26 : decode cX5_map 26 = .ok (.aload_n 0, 1) := dk_42 (dk_at dksX5_map_1 2 rfl rfl)
theorem dX5_map_27 : decode cX5_map 27 = .ok (.getfield 62, 3) := dk_180 0 62 (dk_at dksX5_map_1 3 rfl rfl)
theorem dX5_map_30 : decode cX5_map 30 = .ok (.iload_n 1, 1) := dk_27 (dk_at dksX5_map_1 6 rfl rfl)
theorem dX5_map_31 : decode cX5_map 31 = .ok (.invokevirtual 81, 3) := dk_182 0 81 (dk_at dksX5_map_1 7 rfl rfl)
theorem dX5_map_34 : decode cX5_map 34 = .ok (.invokestatic 3, 3) := dk_184 0 3 (dk_at dksX5_map_1 10 rfl rfl)
theorem dX5_map_37 : decode cX5_map 37 = .ok (.ifCond .eq 7, 3) := dk_153 0 7 (dk_at dksX5_map_1 13 rfl rfl)
theorem dX5_map_40 : decode cX5_map 40 = .ok (.iconst 0, 1) := dk_3 (dk_at dksX5_map_1 16 rfl rfl)
theorem dX5_map_41 : decode cX5_map 41 = .ok (.goto 4, 3) := dk_167 0 4 (dk_at dksX5_map_1 17 rfl rfl)
theorem dX5_map_44 : decode cX5_map 44 = .ok (.iconst 1, 1) := dk_4 (dk_at dksX5_map_1 20 rfl rfl)
theorem dX5_map_45 : decode cX5_map 45 = .ok (.putfield 69, 3) := dk_181 0 69 (dk_at dksX5_map_1 21 rfl rfl)
theorem dX5_map_48 : decode cX5_map 48 = .ok (.aload_n 0, 1) := dk_42 (dk_at dksX5_map_2 0 rfl rfl)
theorem dX5_map_49 : decode cX5_map 49 = .ok (.getfield 69, 3) := dk_180 0 69 (dk_at dksX5_map_2 1 rfl rfl)
theorem dX5_map_52 : decode cX5_map 52 = .ok (.ifCond .le 5, 3) := dk_158 0 5 (dk_at dksX5_map_2 4 rfl rfl)
theorem dX5_map_55 : decode cX5_map 55 = .ok (.iconst 0, 1) := dk_3 (dk_at dksX5_map_2 7 rfl rfl)
theorem dX5_map_56 : decode cX5_map 56 = .ok (.ireturn, 1) := dk_172 (dk_at dksX5_map_2 8 rfl rfl)
theorem dX5_map_57 : decode cX5_map 57 = .ok (.aload_n 0, 1) := dk_42 (dk_at dksX5_map_2 9 rfl rfl)
theorem dX5_map_58 : decode cX5_map 58 = .ok (.getfield 62, 3) := dk_180 0 62 (dk_at dksX5_map_2 10 rfl rfl)
theorem dX5_map_61 : decode cX5_map 61 = .ok (.getfield 119, 3) := dk_180 0 119 (dk_at dksX5_map_2 13 rfl rfl)
theorem dX5_map_64 : decode cX5_map 64 = .ok (.bipush 11, 2) := dk_16 11 (dk_at dksX5_map_2 16 rfl rfl)
theorem dX5_map_66 : decode cX5_map 66 = .ok (.iload_n 1, 1) := dk_27 (dk_at dksX5_map_2 18 rfl rfl)
theorem dX5_map_67 : decode cX5_map 67 = .ok (.imul, 1) := dk_104 (dk_at dksX5_map_2 19 rfl rfl)
theorem dX5_map_68 : decode cX5_map 68 = .ok (.iload_n 2, 1) := dk_28 (dk_at dksX5_map_2 20 rfl rfl)
theorem dX5_map_69 : decode cX5_map 69 = .ok (.iadd, 1) := dk_96 (dk_at dksX5_map_2 21 rfl rfl)
theorem dX5_map_70 : decode cX5_map 70 = .ok (.iload_n 3, 1) := dk_29 (dk_at dksX5_map_2 22 rfl rfl)
theorem dX5_map_71 : decode cX5_map 71 = .ok (.iastore, 1) := dk_79 (dk_at dksX5_map_2 23 rfl rfl)
theorem dX5_map_72 : decode cX5_map 72 = .ok (.iconst 0, 1) := dk_3 (dk_at dksX5_map_3 0 rfl rfl)
theorem dX5_map_73 : decode cX5_map 73 = .ok (.istore 4, 2) := dk_54 4 (dk_at dksX5_map_3 1 rfl rfl)
theorem dX5_map_75 : decode cX5_map 75 = .ok (.iconst 0, 1) := dk_3 (dk_at dksX5_map_3 3 rfl rfl)
theorem dX5_map_76 : decode cX5_map 76 = .ok (.istore 5, 2) := dk_54 5 (dk_at dksX5_map_3 4 rfl rfl)
theorem dX5_map_78 : decode cX5_map 78 = .ok (.iload 5, 2) := dk_21 5 (dk_at dksX5_map_3 6 rfl rfl)
theorem dX5_map_80 : decode cX5_map 80 = .ok (.bipush 11, 2) := dk_16 11 (dk_at dksX5_map_3 8 rfl rfl)
theorem dX5_map_82 : decode cX5_map 82 = .ok (.if_icmp .ge 38, 3) := dk_162 0 38 (dk_at dksX5_map_3 10 rfl rfl)
theorem dX5_map_85 : decode cX5_map 85 = .ok (.iload 4, 2) := dk_21 4 (dk_at dksX5_map_3 13 rfl rfl)
theorem dX5_map_87 : decode cX5_map 87 = .ok (.aload_n 0, 1) := dk_42 (dk_at dksX5_map_3 15 rfl rfl)
theorem dX5_map_88 : decode cX5_map 88 = .ok (.getfield 62, 3) := dk_180 0 62 (dk_at dksX5_map_3 16 rfl rfl)
theorem dX5_map_91 : decode cX5_map 91 = .ok (.getfield 119, 3) := dk_180 0 119 (dk_at dksX5_map_3 19 rfl rfl)
theorem dX5_map_94 : decode cX5_map 94 = .ok (.bipush 11, 2) := dk_16 11 (dk_at dksX5_map_3 22 rfl rfl)
theorem dX5_map_96 : decode cX5_map 96 = .ok (.iload_n 1, 1) := dk_27 (dk_at dksX5_map_4 0 rfl rfl)
theorem dX5_map_97 : decode cX5_map 97 = .ok (.imul, 1) := dk_104 (dk_at dksX5_map_4 1 rfl rfl)
theorem dX5_map_98 : decode cX5_map 98 = .ok (.iload 5, 2) := dk_21 5 (dk_at dksX5_map_4 2 rfl rfl)
theorem dX5_map_100 : decode cX5_map 100 = .ok (.iadd, 1) := dk_96 (dk_at dksX5_map_4 4 rfl rfl)
theorem dX5_map_101 : decode cX5_map 101 = .ok (.iaload, 1) := dk_46 (dk_at dksX5_map_4 5 rfl rfl)
theorem dX5_map_102 : decode cX5_map 102 = .ok (.iconst (-1), 1) := dk_2 (dk_at dksX5_map_4 6 rfl rfl)
theorem dX5_map_103 : decode cX5_map 103 = .ok (.if_icmp .eq 7, 3) := dk_159 0 7 (dk_at dksX5_map_4 7 rfl rfl)
theorem dX5_map_106 : decode cX5_map 106 = .ok (.iconst 1, 1) := dk_4 (dk_at dksX5_map_4 10 rfl rfl)
theorem dX5_map_107 : decode cX5_map 107 = .ok (.goto 4, 3) := dk_167 0 4 (dk_at dksX5_map_4 11 rfl rfl)
theorem dX5_map_110 : decode cX5_map 110 = .ok (.iconst 0, 1) := dk_3 (dk_at dksX5_map_4 14 rfl rfl)
theorem dX5_map_111 : decode cX5_map 111 = .ok (.iadd, 1) := dk_96 (dk_at dksX5_map_4 15 rfl rfl)
theorem dX5_map_112 : decode cX5_map 112 = .ok (.istore 4, 2) := dk_54 4 (dk_at dksX5_map_4 16 rfl rfl)
theorem dX5_map_114 : decode cX5_map 114 = .ok (.iinc 5 1, 3) := dk_132 5 1 (dk_at dksX5_map_4 18 rfl rfl)
theorem dX5_map_117 : decode cX5_map 117 = .ok (.goto (-39), 3) := dk_167 255 217 (dk_at dksX5_map_4 21 rfl rfl)
theorem dX5_map_120 : decode cX5_map 120 = .ok (.iload 4, 2) := dk_21 4 (dk_at dksX5_map_5 0 rfl rfl)
theorem dX5_map_122 : decode cX5_map 122 = .ok (.ireturn, 1) := dk_172 (dk_at dksX5_map_5 2 rfl rfl)
abbrev cX5_publish : ByteArray := prog_24_method_14_code
def yX5_publish : MethodName := ⟨RX5, "publish", "()I"⟩
def dkwX5_publish_5 : List UInt8 := [42, 180, 0, 62, 183, 0, 51, 181, 0, 62, 42, 180, 0, 23, 182, 0, 73, 4, 100, 172]
abbrev dktX5_publish_5 : List UInt8 := dkwX5_publish_5 ++ []
def dkwX5_publish_4 : List UInt8 := [79, 132, 1, 1, 167, 255, 192, 42, 180, 0, 23, 42, 180, 0, 62, 182, 0, 54, 87, 42, 187, 0, 49, 89]
abbrev dktX5_publish_4 : List UInt8 := dkwX5_publish_4 ++ dktX5_publish_5
def dkwX5_publish_3 : List UInt8 := [180, 0, 62, 180, 0, 119, 27, 28, 153, 0, 7, 2, 167, 0, 12, 42, 180, 0, 62, 180, 0, 119, 27, 46]
abbrev dktX5_publish_3 : List UInt8 := dkwX5_publish_3 ++ dktX5_publish_4
def dkwX5_publish_2 : List UInt8 := [46, 42, 180, 0, 62, 27, 16, 11, 108, 182, 0, 81, 164, 0, 7, 4, 167, 0, 4, 3, 61, 42]
abbrev dktX5_publish_2 : List UInt8 := dkwX5_publish_2 ++ dktX5_publish_3
def dkwX5_publish_1 : List UInt8 := [180, 0, 69, 158, 0, 5, 3, 172, 3, 60, 27, 16, 55, 162, 0, 64, 42, 180, 0, 62, 180, 0, 119, 27]
abbrev dktX5_publish_1 : List UInt8 := dkwX5_publish_1 ++ dktX5_publish_2
def dkwX5_publish_0 : List UInt8 := [42, 42, 180, 0, 23, 182, 0, 73, 16, 6, 160, 0, 7, 4, 167, 0, 4, 3, 181, 0, 69, 42]
abbrev dktX5_publish_0 : List UInt8 := dkwX5_publish_0 ++ dktX5_publish_1
theorem dksX5_publish_0 : cX5_publish.data.toList.drop 0 = dktX5_publish_0 := by decide +kernel
theorem dksX5_publish_1 : cX5_publish.data.toList.drop 22 = dktX5_publish_1 := dk_seg dksX5_publish_0 22 rfl rfl
theorem dksX5_publish_2 : cX5_publish.data.toList.drop 46 = dktX5_publish_2 := dk_seg dksX5_publish_1 24 rfl rfl
theorem dksX5_publish_3 : cX5_publish.data.toList.drop 68 = dktX5_publish_3 := dk_seg dksX5_publish_2 22 rfl rfl
theorem dksX5_publish_4 : cX5_publish.data.toList.drop 92 = dktX5_publish_4 := dk_seg dksX5_publish_3 24 rfl rfl
theorem dksX5_publish_5 : cX5_publish.data.toList.drop 116 = dktX5_publish_5 := dk_seg dksX5_publish_4 24 rfl rfl
theorem dX5_publish_0 : decode cX5_publish 0 = .ok (.aload_n 0, 1) := dk_42 (dk_at dksX5_publish_0 0 rfl rfl)
theorem dX5_publish_1 : decode cX5_publish 1 = .ok (.aload_n 0, 1) := dk_42 (dk_at dksX5_publish_0 1 rfl rfl)
theorem dX5_publish_2 : decode cX5_publish 2 = .ok (.getfield 23, 3) := dk_180 0 23 (dk_at dksX5_publish_0 2 rfl rfl)
theorem dX5_publish_5 : decode cX5_publish 5 = .ok (.invokevirtual 73, 3) := dk_182 0 73 (dk_at dksX5_publish_0 5 rfl rfl)
theorem dX5_publish_8 : decode cX5_publish 8 = .ok (.bipush 6, 2) := dk_16 6 (dk_at dksX5_publish_0 8 rfl rfl)
theorem dX5_publish_10 : decode cX5_publish 10 = .ok (.if_icmp .ne 7, 3) := dk_160 0 7 (dk_at dksX5_publish_0 10 rfl rfl)
theorem dX5_publish_13 : decode cX5_publish 13 = .ok (.iconst 1, 1) := dk_4 (dk_at dksX5_publish_0 13 rfl rfl)
theorem dX5_publish_14 : decode cX5_publish 14 = .ok (.goto 4, 3) := dk_167 0 4 (dk_at dksX5_publish_0 14 rfl rfl)
theorem dX5_publish_17 : decode cX5_publish 17 = .ok (.iconst 0, 1) := dk_3 (dk_at dksX5_publish_0 17 rfl rfl)
theorem dX5_publish_18 : decode cX5_publish 18 = .ok (.putfield 69, 3) := dk_181 0 69 (dk_at dksX5_publish_0 18 rfl rfl)
theorem dX5_publish_21 : decode cX5_publish 21 = .ok (.aload_n 0, 1) := dk_42 (dk_at dksX5_publish_0 21 rfl rfl)
theorem dX5_publish_22 : decode cX5_publish 22 = .ok (.getfield 69, 3) := dk_180 0 69 (dk_at dksX5_publish_1 0 rfl rfl)
theorem dX5_publish_25 : decode cX5_publish 25 = .ok (.ifCond .le 5, 3) := dk_158 0 5 (dk_at dksX5_publish_1 3 rfl rfl)
theorem dX5_publish_28 : decode cX5_publish 28 = .ok (.iconst 0, 1) := dk_3 (dk_at dksX5_publish_1 6 rfl rfl)
theorem dX5_publish_29 : decode cX5_publish 29 = .ok (.ireturn, 1) := dk_172 (dk_at dksX5_publish_1 7 rfl rfl)
theorem dX5_publish_30 : decode cX5_publish 30 = .ok (.iconst 0, 1) := dk_3 (dk_at dksX5_publish_1 8 rfl rfl)
theorem dX5_publish_31 : decode cX5_publish 31 = .ok (.istore_n 1, 1) := dk_60 (dk_at dksX5_publish_1 9 rfl rfl)
theorem dX5_publish_32 : decode cX5_publish 32 = .ok (.iload_n 1, 1) := dk_27 (dk_at dksX5_publish_1 10 rfl rfl)
theorem dX5_publish_33 : decode cX5_publish 33 = .ok (.bipush 55, 2) := dk_16 55 (dk_at dksX5_publish_1 11 rfl rfl)
theorem dX5_publish_35 : decode cX5_publish 35 = .ok (.if_icmp .ge 64, 3) := dk_162 0 64 (dk_at dksX5_publish_1 13 rfl rfl)
theorem dX5_publish_38 : decode cX5_publish 38 = .ok (.aload_n 0, 1) := dk_42 (dk_at dksX5_publish_1 16 rfl rfl)
theorem dX5_publish_39 : decode cX5_publish 39 = .ok (.getfield 62, 3) := dk_180 0 62 (dk_at dksX5_publish_1 17 rfl rfl)
theorem dX5_publish_42 : decode cX5_publish 42 = .ok (.getfield 119, 3) := dk_180 0 119 (dk_at dksX5_publish_1 20 rfl rfl)
theorem dX5_publish_45 : decode cX5_publish 45 = .ok (.iload_n 1, 1) := dk_27 (dk_at dksX5_publish_1 23 rfl rfl)
theorem dX5_publish_46 : decode cX5_publish 46 = .ok (.iaload, 1) := dk_46 (dk_at dksX5_publish_2 0 rfl rfl)
theorem dX5_publish_47 : decode cX5_publish 47 = .ok (.aload_n 0, 1) := dk_42 (dk_at dksX5_publish_2 1 rfl rfl)
theorem dX5_publish_48 : decode cX5_publish 48 = .ok (.getfield 62, 3) := dk_180 0 62 (dk_at dksX5_publish_2 2 rfl rfl)
theorem dX5_publish_51 : decode cX5_publish 51 = .ok (.iload_n 1, 1) := dk_27 (dk_at dksX5_publish_2 5 rfl rfl)
theorem dX5_publish_52 : decode cX5_publish 52 = .ok (.bipush 11, 2) := dk_16 11 (dk_at dksX5_publish_2 6 rfl rfl)
theorem dX5_publish_54 : decode cX5_publish 54 = .ok (.idiv, 1) := dk_108 (dk_at dksX5_publish_2 8 rfl rfl)
theorem dX5_publish_55 : decode cX5_publish 55 = .ok (.invokevirtual 81, 3) := dk_182 0 81 (dk_at dksX5_publish_2 9 rfl rfl)
theorem dX5_publish_58 : decode cX5_publish 58 = .ok (.if_icmp .le 7, 3) := dk_164 0 7 (dk_at dksX5_publish_2 12 rfl rfl)
theorem dX5_publish_61 : decode cX5_publish 61 = .ok (.iconst 1, 1) := dk_4 (dk_at dksX5_publish_2 15 rfl rfl)
theorem dX5_publish_62 : decode cX5_publish 62 = .ok (.goto 4, 3) := dk_167 0 4 (dk_at dksX5_publish_2 16 rfl rfl)
theorem dX5_publish_65 : decode cX5_publish 65 = .ok (.iconst 0, 1) := dk_3 (dk_at dksX5_publish_2 19 rfl rfl)
theorem dX5_publish_66 : decode cX5_publish 66 = .ok (.istore_n 2, 1) := dk_61 (dk_at dksX5_publish_2 20 rfl rfl)
theorem dX5_publish_67 : decode cX5_publish 67 = .ok (.aload_n 0, 1) := dk_42 (dk_at dksX5_publish_2 21 rfl rfl)
theorem dX5_publish_68 : decode cX5_publish 68 = .ok (.getfield 62, 3) := dk_180 0 62 (dk_at dksX5_publish_3 0 rfl rfl)
theorem dX5_publish_71 : decode cX5_publish 71 = .ok (.getfield 119, 3) := dk_180 0 119 (dk_at dksX5_publish_3 3 rfl rfl)
theorem dX5_publish_74 : decode cX5_publish 74 = .ok (.iload_n 1, 1) := dk_27 (dk_at dksX5_publish_3 6 rfl rfl)
theorem dX5_publish_75 : decode cX5_publish 75 = .ok (.iload_n 2, 1) := dk_28 (dk_at dksX5_publish_3 7 rfl rfl)
theorem dX5_publish_76 : decode cX5_publish 76 = .ok (.ifCond .eq 7, 3) := dk_153 0 7 (dk_at dksX5_publish_3 8 rfl rfl)
theorem dX5_publish_79 : decode cX5_publish 79 = .ok (.iconst (-1), 1) := dk_2 (dk_at dksX5_publish_3 11 rfl rfl)
theorem dX5_publish_80 : decode cX5_publish 80 = .ok (.goto 12, 3) := dk_167 0 12 (dk_at dksX5_publish_3 12 rfl rfl)
theorem dX5_publish_83 : decode cX5_publish 83 = .ok (.aload_n 0, 1) := dk_42 (dk_at dksX5_publish_3 15 rfl rfl)
theorem dX5_publish_84 : decode cX5_publish 84 = .ok (.getfield 62, 3) := dk_180 0 62 (dk_at dksX5_publish_3 16 rfl rfl)
theorem dX5_publish_87 : decode cX5_publish 87 = .ok (.getfield 119, 3) := dk_180 0 119 (dk_at dksX5_publish_3 19 rfl rfl)
theorem dX5_publish_90 : decode cX5_publish 90 = .ok (.iload_n 1, 1) := dk_27 (dk_at dksX5_publish_3 22 rfl rfl)
theorem dX5_publish_91 : decode cX5_publish 91 = .ok (.iaload, 1) := dk_46 (dk_at dksX5_publish_3 23 rfl rfl)
theorem dX5_publish_92 : decode cX5_publish 92 = .ok (.iastore, 1) := dk_79 (dk_at dksX5_publish_4 0 rfl rfl)
theorem dX5_publish_93 : decode cX5_publish 93 = .ok (.iinc 1 1, 3) := dk_132 1 1 (dk_at dksX5_publish_4 1 rfl rfl)
theorem dX5_publish_96 : decode cX5_publish 96 = .ok (.goto (-64), 3) := dk_167 255 192 (dk_at dksX5_publish_4 4 rfl rfl)
theorem dX5_publish_99 : decode cX5_publish 99 = .ok (.aload_n 0, 1) := dk_42 (dk_at dksX5_publish_4 7 rfl rfl)
theorem dX5_publish_100 : decode cX5_publish 100 = .ok (.getfield 23, 3) := dk_180 0 23 (dk_at dksX5_publish_4 8 rfl rfl)
theorem dX5_publish_103 : decode cX5_publish 103 = .ok (.aload_n 0, 1) := dk_42 (dk_at dksX5_publish_4 11 rfl rfl)
theorem dX5_publish_104 : decode cX5_publish 104 = .ok (.getfield 62, 3) := dk_180 0 62 (dk_at dksX5_publish_4 12 rfl rfl)
theorem dX5_publish_107 : decode cX5_publish 107 = .ok (.invokevirtual 54, 3) := dk_182 0 54 (dk_at dksX5_publish_4 15 rfl rfl)
theorem dX5_publish_110 : decode cX5_publish 110 = .ok (.pop, 1) := dk_87 (dk_at dksX5_publish_4 18 rfl rfl)
theorem dX5_publish_111 : decode cX5_publish 111 = .ok (.aload_n 0, 1) := dk_42 (dk_at dksX5_publish_4 19 rfl rfl)
theorem dX5_publish_112 : decode cX5_publish 112 = .ok (.new 49, 3) := dk_187 0 49 (dk_at dksX5_publish_4 20 rfl rfl)
theorem dX5_publish_115 : decode cX5_publish 115 = .ok (.dup, 1) := dk_89 (dk_at dksX5_publish_4 23 rfl rfl)
theorem dX5_publish_116 : decode cX5_publish 116 = .ok (.aload_n 0, 1) := dk_42 (dk_at dksX5_publish_5 0 rfl rfl)
theorem dX5_publish_117 : decode cX5_publish 117 = .ok (.getfield 62, 3) := dk_180 0 62 (dk_at dksX5_publish_5 1 rfl rfl)
theorem dX5_publish_120 : decode cX5_publish 120 = .ok (.invokespecial 51, 3) := dk_183 0 51 (dk_at dksX5_publish_5 4 rfl rfl)
theorem dX5_publish_123 : decode cX5_publish 123 = .ok (.putfield 62, 3) := dk_181 0 62 (dk_at dksX5_publish_5 7 rfl rfl)
theorem dX5_publish_126 : decode cX5_publish 126 = .ok (.aload_n 0, 1) := dk_42 (dk_at dksX5_publish_5 10 rfl rfl)
theorem dX5_publish_127 : decode cX5_publish 127 = .ok (.getfield 23, 3) := dk_180 0 23 (dk_at dksX5_publish_5 11 rfl rfl)
theorem dX5_publish_130 : decode cX5_publish 130 = .ok (.invokevirtual 73, 3) := dk_182 0 73 (dk_at dksX5_publish_5 14 rfl rfl)
theorem dX5_publish_133 : decode cX5_publish 133 = .ok (.iconst 1, 1) := dk_4 (dk_at dksX5_publish_5 17 rfl rfl)
theorem dX5_publish_134 : decode cX5_publish 134 = .ok (.isub, 1) := dk_100 (dk_at dksX5_publish_5 18 rfl rfl)
theorem dX5_publish_135 : decode cX5_publish 135 = .ok (.ireturn, 1) := dk_172 (dk_at dksX5_publish_5 19 rfl rfl)
abbrev cX5_isTouched : ByteArray := prog_24_method_16_code
def yX5_isTouched : MethodName := ⟨RX5, "isTouched", "(II)Z"⟩
def dkwX5_isTouched_2 : List UInt8 := [182, 0, 129, 153, 0, 7, 4, 167, 0, 4, 3, 172]
abbrev dktX5_isTouched_2 : List UInt8 := dkwX5_isTouched_2 ++ []
def dkwX5_isTouched_1 : List UInt8 := [184, 0, 11, 154, 0, 7, 5, 167, 0, 4, 3, 181, 0, 69, 42, 180, 0, 69, 154, 0, 16, 42, 27, 28]
abbrev dktX5_isTouched_1 : List UInt8 := dkwX5_isTouched_1 ++ dktX5_isTouched_2
def dkwX5_isTouched_0 : List UInt8 := [42, 27, 3, 42, 180, 0, 23, 182, 0, 73, 5, 100, 184, 0, 3, 154, 0, 7, 4, 167, 0, 15, 28]
abbrev dktX5_isTouched_0 : List UInt8 := dkwX5_isTouched_0 ++ dktX5_isTouched_1
theorem dksX5_isTouched_0 : cX5_isTouched.data.toList.drop 0 = dktX5_isTouched_0 := by decide +kernel
theorem dksX5_isTouched_1 : cX5_isTouched.data.toList.drop 23 = dktX5_isTouched_1 := dk_seg dksX5_isTouched_0 23 rfl rfl
theorem dksX5_isTouched_2 : cX5_isTouched.data.toList.drop 47 = dktX5_isTouched_2 := dk_seg dksX5_isTouched_1 24 rfl rfl
theorem dX5_isTouched_0 : decode cX5_isTouched 0 = .ok (.aload_n 0, 1) := dk_42 (dk_at dksX5_isTouched_0 0 rfl rfl)
theorem dX5_isTouched_1 : decode cX5_isTouched 1 = .ok (.iload_n 1, 1) := dk_27 (dk_at dksX5_isTouched_0 1 rfl rfl)
theorem dX5_isTouched_2 : decode cX5_isTouched 2 = .ok (.iconst 0, 1) := dk_3 (dk_at dksX5_isTouched_0 2 rfl rfl)
theorem dX5_isTouched_3 : decode cX5_isTouched 3 = .ok (.aload_n 0, 1) := dk_42 (dk_at dksX5_isTouched_0 3 rfl rfl)
theorem dX5_isTouched_4 : decode cX5_isTouched 4 = .ok (.getfield 23, 3) := dk_180 0 23 (dk_at dksX5_isTouched_0 4 rfl rfl)
theorem dX5_isTouched_7 : decode cX5_isTouched 7 = .ok (.invokevirtual 73, 3) := dk_182 0 73 (dk_at dksX5_isTouched_0 7 rfl rfl)
theorem dX5_isTouched_10 : decode cX5_isTouched 10 = .ok (.iconst 2, 1) := dk_5 (dk_at dksX5_isTouched_0 10 rfl rfl)
theorem dX5_isTouched_11 : decode cX5_isTouched 11 = .ok (.isub, 1) := dk_100 (dk_at dksX5_isTouched_0 11 rfl rfl)
theorem dX5_isTouched_12 : decode cX5_isTouched 12 = .ok (.invokestatic 3, 3) := dk_184 0 3 (dk_at dksX5_isTouched_0 12 rfl rfl)
theorem dX5_isTouched_15 : decode cX5_isTouched 15 = .ok (.ifCond .ne 7, 3) := dk_154 0 7 (dk_at dksX5_isTouched_0 15 rfl rfl)
theorem dX5_isTouched_18 : decode cX5_isTouched 18 = .ok (.iconst 1, 1) := dk_4 (dk_at dksX5_isTouched_0 18 rfl rfl)
theorem dX5_isTouched_19 : decode cX5_isTouched 19 = .ok (.goto 15, 3) := dk_167 0 15 (dk_at dksX5_isTouched_0 19 rfl rfl)
theorem dX5_isTouched_22 : decode cX5_isTouched 22 = .ok (.iload_n 2, 1) := dk_28 (dk_at dksX5_isTouched_0 22 rfl rfl)
theorem dX5_isTouched_23 : decode cX5_isTouched 23 = .ok (.invokestatic 11, 3) := dk_184 0 11 (dk_at dksX5_isTouched_1 0 rfl rfl)
theorem dX5_isTouched_26 : decode cX5_isTouched 26 = .ok (.ifCond .ne 7, 3) := dk_154 0 7 (dk_at dksX5_isTouched_1 3 rfl rfl)
theorem dX5_isTouched_29 : decode cX5_isTouched 29 = .ok (.iconst 2, 1) := dk_5 (dk_at dksX5_isTouched_1 6 rfl rfl)
theorem dX5_isTouched_30 : decode cX5_isTouched 30 = .ok (.goto 4, 3) := dk_167 0 4 (dk_at dksX5_isTouched_1 7 rfl rfl)
theorem dX5_isTouched_33 : decode cX5_isTouched 33 = .ok (.iconst 0, 1) := dk_3 (dk_at dksX5_isTouched_1 10 rfl rfl)
theorem dX5_isTouched_34 : decode cX5_isTouched 34 = .ok (.putfield 69, 3) := dk_181 0 69 (dk_at dksX5_isTouched_1 11 rfl rfl)
theorem dX5_isTouched_37 : decode cX5_isTouched 37 = .ok (.aload_n 0, 1) := dk_42 (dk_at dksX5_isTouched_1 14 rfl rfl)
theorem dX5_isTouched_38 : decode cX5_isTouched 38 = .ok (.getfield 69, 3) := dk_180 0 69 (dk_at dksX5_isTouched_1 15 rfl rfl)
theorem dX5_isTouched_41 : decode cX5_isTouched 41 = .ok (.ifCond .ne 16, 3) := dk_154 0 16 (dk_at dksX5_isTouched_1 18 rfl rfl)
theorem dX5_isTouched_44 : decode cX5_isTouched 44 = .ok (.aload_n 0, 1) := dk_42 (dk_at dksX5_isTouched_1 21 rfl rfl)
theorem dX5_isTouched_45 : decode cX5_isTouched 45 = .ok (.iload_n 1, 1) := dk_27 (dk_at dksX5_isTouched_1 22 rfl rfl)
theorem dX5_isTouched_46 : decode cX5_isTouched 46 = .ok (.iload_n 2, 1) := dk_28 (dk_at dksX5_isTouched_1 23 rfl rfl)
theorem dX5_isTouched_47 : decode cX5_isTouched 47 = .ok (.invokevirtual 129, 3) := dk_182 0 129 (dk_at dksX5_isTouched_2 0 rfl rfl)
theorem dX5_isTouched_50 : decode cX5_isTouched 50 = .ok (.ifCond .eq 7, 3) := dk_153 0 7 (dk_at dksX5_isTouched_2 3 rfl rfl)
theorem dX5_isTouched_53 : decode cX5_isTouched 53 = .ok (.iconst 1, 1) := dk_4 (dk_at dksX5_isTouched_2 6 rfl rfl)
theorem dX5_isTouched_54 : decode cX5_isTouched 54 = .ok (.goto 4, 3) := dk_167 0 4 (dk_at dksX5_isTouched_2 7 rfl rfl)
theorem dX5_isTouched_57 : decode cX5_isTouched 57 = .ok (.iconst 0, 1) := dk_3 (dk_at dksX5_isTouched_2 10 rfl rfl)
theorem dX5_isTouched_58 : decode cX5_isTouched 58 = .ok (.ireturn, 1) := dk_172 (dk_at dksX5_isTouched_2 11 rfl rfl)
abbrev cX5_touches : ByteArray := prog_24_method_15_code
def yX5_touches : MethodName := ⟨RX5, "touches", "(II)Z"⟩
def dkwX5_touches_6 : List UInt8 := [21, 8, 46, 159, 0, 7, 4, 167, 0, 4, 3, 54, 5, 132, 6, 1, 167, 255, 151, 21, 5, 172]
abbrev dktX5_touches_6 : List UInt8 := dkwX5_touches_6 ++ []
def dkwX5_touches_5 : List UInt8 := [182, 0, 125, 153, 0, 27, 21, 8, 2, 159, 0, 25, 45, 180, 0, 96, 21, 8, 46, 25, 4, 180, 0, 96]
abbrev dktX5_touches_5 : List UInt8 := dkwX5_touches_5 ++ dktX5_touches_6
def dkwX5_touches_4 : List UInt8 := [25, 7, 25, 4, 180, 0, 85, 28, 182, 0, 58, 192, 0, 20, 21, 6, 182, 0, 58, 192, 0, 88]
abbrev dktX5_touches_4 : List UInt8 := dkwX5_touches_4 ++ dktX5_touches_5
def dkwX5_touches_3 : List UInt8 := [28, 182, 0, 58, 192, 0, 20, 21, 6, 182, 0, 58, 192, 0, 88, 58, 7, 25, 7, 182, 0, 122, 54, 8]
abbrev dktX5_touches_3 : List UInt8 := dkwX5_touches_3 ++ dktX5_touches_4
def dkwX5_touches_2 : List UInt8 := [54, 5, 3, 54, 6, 21, 6, 45, 28, 182, 0, 81, 162, 0, 101, 21, 5, 154, 0, 96, 45, 180, 0, 85]
abbrev dktX5_touches_2 : List UInt8 := dkwX5_touches_2 ++ dktX5_touches_3
def dkwX5_touches_1 : List UInt8 := [192, 0, 49, 58, 4, 45, 28, 182, 0, 81, 25, 4, 28, 182, 0, 81, 159, 0, 7, 4, 167, 0, 4, 3]
abbrev dktX5_touches_1 : List UInt8 := dkwX5_touches_1 ++ dktX5_touches_2
def dkwX5_touches_0 : List UInt8 := [42, 180, 0, 23, 27, 182, 0, 58, 192, 0, 49, 78, 42, 180, 0, 23, 27, 4, 96, 182, 0, 58]
abbrev dktX5_touches_0 : List UInt8 := dkwX5_touches_0 ++ dktX5_touches_1
theorem dksX5_touches_0 : cX5_touches.data.toList.drop 0 = dktX5_touches_0 := by decide +kernel
theorem dksX5_touches_1 : cX5_touches.data.toList.drop 22 = dktX5_touches_1 := dk_seg dksX5_touches_0 22 rfl rfl
theorem dksX5_touches_2 : cX5_touches.data.toList.drop 46 = dktX5_touches_2 := dk_seg dksX5_touches_1 24 rfl rfl
theorem dksX5_touches_3 : cX5_touches.data.toList.drop 70 = dktX5_touches_3 := dk_seg dksX5_touches_2 24 rfl rfl
theorem dksX5_touches_4 : cX5_touches.data.toList.drop 94 = dktX5_touches_4 := dk_seg dksX5_touches_3 24 rfl rfl
theorem dksX5_touches_5 : cX5_touches.data.toList.drop 116 = dktX5_touches_5 := dk_seg dksX5_touches_4 22 rfl rfl
theorem dksX5_touches_6 : cX5_touches.data.toList.drop 140 = dktX5_touches_6 := dk_seg dksX5_touches_5 24 rfl rfl
theorem dX5_touches_0 : decode cX5_touches 0 = .ok (.aload_n 0, 1) := dk_42 (dk_at dksX5_touches_0 0 rfl rfl)
theorem dX5_touches_1 : decode cX5_touches 1 = .ok (.getfield 23, 3) := dk_180 0 23 (dk_at dksX5_touches_0 1 rfl rfl)
theorem dX5_touches_4 : decode cX5_touches 4 = .ok (.iload_n 1, 1) := dk_27 (dk_at dksX5_touches_0 4 rfl rfl)
theorem dX5_touches_5 : decode cX5_touches 5 = .ok (.invokevirtual 58, 3) := dk_182 0 58 (dk_at dksX5_touches_0 5 rfl rfl)
theorem dX5_touches_8 : decode cX5_touches 8 = .ok (.checkcast 49, 3) := dk_192 0 49 (dk_at dksX5_touches_0 8 rfl rfl)
theorem dX5_touches_11 : decode cX5_touches 11 = .ok (.astore_n 3, 1) := dk_78 (dk_at dksX5_touches_0 11 rfl rfl)
theorem dX5_touches_12 : decode cX5_touches 12 = .ok (.aload_n 0, 1) := dk_42 (dk_at dksX5_touches_0 12 rfl rfl)
theorem dX5_touches_13 : decode cX5_touches 13 = .ok (.getfield 23, 3) := dk_180 0 23 (dk_at dksX5_touches_0 13 rfl rfl)
theorem dX5_touches_16 : decode cX5_touches 16 = .ok (.iload_n 1, 1) := dk_27 (dk_at dksX5_touches_0 16 rfl rfl)
theorem dX5_touches_17 : decode cX5_touches 17 = .ok (.iconst 1, 1) := dk_4 (dk_at dksX5_touches_0 17 rfl rfl)
theorem dX5_touches_18 : decode cX5_touches 18 = .ok (.iadd, 1) := dk_96 (dk_at dksX5_touches_0 18 rfl rfl)
theorem dX5_touches_19 : decode cX5_touches 19 = .ok (.invokevirtual 58, 3) := dk_182 0 58 (dk_at dksX5_touches_0 19 rfl rfl)
theorem dX5_touches_22 : decode cX5_touches 22 = .ok (.checkcast 49, 3) := dk_192 0 49 (dk_at dksX5_touches_1 0 rfl rfl)
theorem dX5_touches_25 : decode cX5_touches 25 = .ok (.astore 4, 2) := dk_58 4 (dk_at dksX5_touches_1 3 rfl rfl)
theorem dX5_touches_27 : decode cX5_touches 27 = .ok (.aload_n 3, 1) := dk_45 (dk_at dksX5_touches_1 5 rfl rfl)
theorem dX5_touches_28 : decode cX5_touches 28 = .ok (.iload_n 2, 1) := dk_28 (dk_at dksX5_touches_1 6 rfl rfl)
theorem dX5_touches_29 : decode cX5_touches 29 = .ok (.invokevirtual 81, 3) := dk_182 0 81 (dk_at dksX5_touches_1 7 rfl rfl)
theorem dX5_touches_32 : decode cX5_touches 32 = .ok (.aload 4, 2) := dk_25 4 (dk_at dksX5_touches_1 10 rfl rfl)
theorem dX5_touches_34 : decode cX5_touches 34 = .ok (.iload_n 2, 1) := dk_28 (dk_at dksX5_touches_1 12 rfl rfl)
theorem dX5_touches_35 : decode cX5_touches 35 = .ok (.invokevirtual 81, 3) := dk_182 0 81 (dk_at dksX5_touches_1 13 rfl rfl)
theorem dX5_touches_38 : decode cX5_touches 38 = .ok (.if_icmp .eq 7, 3) := dk_159 0 7 (dk_at dksX5_touches_1 16 rfl rfl)
theorem dX5_touches_41 : decode cX5_touches 41 = .ok (.iconst 1, 1) := dk_4 (dk_at dksX5_touches_1 19 rfl rfl)
theorem dX5_touches_42 : decode cX5_touches 42 = .ok (.goto 4, 3) := dk_167 0 4 (dk_at dksX5_touches_1 20 rfl rfl)
theorem dX5_touches_45 : decode cX5_touches 45 = .ok (.iconst 0, 1) := dk_3 (dk_at dksX5_touches_1 23 rfl rfl)
theorem dX5_touches_46 : decode cX5_touches 46 = .ok (.istore 5, 2) := dk_54 5 (dk_at dksX5_touches_2 0 rfl rfl)
theorem dX5_touches_48 : decode cX5_touches 48 = .ok (.iconst 0, 1) := dk_3 (dk_at dksX5_touches_2 2 rfl rfl)
theorem dX5_touches_49 : decode cX5_touches 49 = .ok (.istore 6, 2) := dk_54 6 (dk_at dksX5_touches_2 3 rfl rfl)
theorem dX5_touches_51 : decode cX5_touches 51 = .ok (.iload 6, 2) := dk_21 6 (dk_at dksX5_touches_2 5 rfl rfl)
theorem dX5_touches_53 : decode cX5_touches 53 = .ok (.aload_n 3, 1) := dk_45 (dk_at dksX5_touches_2 7 rfl rfl)
theorem dX5_touches_54 : decode cX5_touches 54 = .ok (.iload_n 2, 1) := dk_28 (dk_at dksX5_touches_2 8 rfl rfl)
theorem dX5_touches_55 : decode cX5_touches 55 = .ok (.invokevirtual 81, 3) := dk_182 0 81 (dk_at dksX5_touches_2 9 rfl rfl)
theorem dX5_touches_58 : decode cX5_touches 58 = .ok (.if_icmp .ge 101, 3) := dk_162 0 101 (dk_at dksX5_touches_2 12 rfl rfl)
theorem dX5_touches_61 : decode cX5_touches 61 = .ok (.iload 5, 2) := dk_21 5 (dk_at dksX5_touches_2 15 rfl rfl)
theorem dX5_touches_63 : decode cX5_touches 63 = .ok (.ifCond .ne 96, 3) := dk_154 0 96 (dk_at dksX5_touches_2 17 rfl rfl)
theorem dX5_touches_66 : decode cX5_touches 66 = .ok (.aload_n 3, 1) := dk_45 (dk_at dksX5_touches_2 20 rfl rfl)
theorem dX5_touches_67 : decode cX5_touches 67 = .ok (.getfield 85, 3) := dk_180 0 85 (dk_at dksX5_touches_2 21 rfl rfl)
theorem dX5_touches_70 : decode cX5_touches 70 = .ok (.iload_n 2, 1) := dk_28 (dk_at dksX5_touches_3 0 rfl rfl)
theorem dX5_touches_71 : decode cX5_touches 71 = .ok (.invokevirtual 58, 3) := dk_182 0 58 (dk_at dksX5_touches_3 1 rfl rfl)
theorem dX5_touches_74 : decode cX5_touches 74 = .ok (.checkcast 20, 3) := dk_192 0 20 (dk_at dksX5_touches_3 4 rfl rfl)
theorem dX5_touches_77 : decode cX5_touches 77 = .ok (.iload 6, 2) := dk_21 6 (dk_at dksX5_touches_3 7 rfl rfl)
theorem dX5_touches_79 : decode cX5_touches 79 = .ok (.invokevirtual 58, 3) := dk_182 0 58 (dk_at dksX5_touches_3 9 rfl rfl)
theorem dX5_touches_82 : decode cX5_touches 82 = .ok (.checkcast 88, 3) := dk_192 0 88 (dk_at dksX5_touches_3 12 rfl rfl)
theorem dX5_touches_85 : decode cX5_touches 85 = .ok (.astore 7, 2) := dk_58 7 (dk_at dksX5_touches_3 15 rfl rfl)
theorem dX5_touches_87 : decode cX5_touches 87 = .ok (.aload 7, 2) := dk_25 7 (dk_at dksX5_touches_3 17 rfl rfl)
theorem dX5_touches_89 : decode cX5_touches 89 = .ok (.invokevirtual 122, 3) := dk_182 0 122 (dk_at dksX5_touches_3 19 rfl rfl)
theorem dX5_touches_92 : decode cX5_touches 92 = .ok (.istore 8, 2) := dk_54 8 (dk_at dksX5_touches_3 22 rfl rfl)
theorem dX5_touches_94 : decode cX5_touches 94 = .ok (.aload 7, 2) := dk_25 7 (dk_at dksX5_touches_4 0 rfl rfl)
theorem dX5_touches_96 : decode cX5_touches 96 = .ok (.aload 4, 2) := dk_25 4 (dk_at dksX5_touches_4 2 rfl rfl)
theorem dX5_touches_98 : decode cX5_touches 98 = .ok (.getfield 85, 3) := dk_180 0 85 (dk_at dksX5_touches_4 4 rfl rfl)
theorem dX5_touches_101 : decode cX5_touches 101 = .ok (.iload_n 2, 1) := dk_28 (dk_at dksX5_touches_4 7 rfl rfl)
theorem dX5_touches_102 : decode cX5_touches 102 = .ok (.invokevirtual 58, 3) := dk_182 0 58 (dk_at dksX5_touches_4 8 rfl rfl)
theorem dX5_touches_105 : decode cX5_touches 105 = .ok (.checkcast 20, 3) := dk_192 0 20 (dk_at dksX5_touches_4 11 rfl rfl)
theorem dX5_touches_108 : decode cX5_touches 108 = .ok (.iload 6, 2) := dk_21 6 (dk_at dksX5_touches_4 14 rfl rfl)
theorem dX5_touches_110 : decode cX5_touches 110 = .ok (.invokevirtual 58, 3) := dk_182 0 58 (dk_at dksX5_touches_4 16 rfl rfl)
theorem dX5_touches_113 : decode cX5_touches 113 = .ok (.checkcast 88, 3) := dk_192 0 88 (dk_at dksX5_touches_4 19 rfl rfl)
theorem dX5_touches_116 : decode cX5_touches 116 = .ok (.invokevirtual 125, 3) := dk_182 0 125 (dk_at dksX5_touches_5 0 rfl rfl)
theorem dX5_touches_119 : decode cX5_touches 119 = .ok (.ifCond .eq 27, 3) := dk_153 0 27 (dk_at dksX5_touches_5 3 rfl rfl)
theorem dX5_touches_122 : decode cX5_touches 122 = .ok (.iload 8, 2) := dk_21 8 (dk_at dksX5_touches_5 6 rfl rfl)
theorem dX5_touches_124 : decode cX5_touches 124 = .ok (.iconst (-1), 1) := dk_2 (dk_at dksX5_touches_5 8 rfl rfl)
theorem dX5_touches_125 : decode cX5_touches 125 = .ok (.if_icmp .eq 25, 3) := dk_159 0 25 (dk_at dksX5_touches_5 9 rfl rfl)
theorem dX5_touches_128 : decode cX5_touches 128 = .ok (.aload_n 3, 1) := dk_45 (dk_at dksX5_touches_5 12 rfl rfl)
theorem dX5_touches_129 : decode cX5_touches 129 = .ok (.getfield 96, 3) := dk_180 0 96 (dk_at dksX5_touches_5 13 rfl rfl)
theorem dX5_touches_132 : decode cX5_touches 132 = .ok (.iload 8, 2) := dk_21 8 (dk_at dksX5_touches_5 16 rfl rfl)
theorem dX5_touches_134 : decode cX5_touches 134 = .ok (.iaload, 1) := dk_46 (dk_at dksX5_touches_5 18 rfl rfl)
theorem dX5_touches_135 : decode cX5_touches 135 = .ok (.aload 4, 2) := dk_25 4 (dk_at dksX5_touches_5 19 rfl rfl)
theorem dX5_touches_137 : decode cX5_touches 137 = .ok (.getfield 96, 3) := dk_180 0 96 (dk_at dksX5_touches_5 21 rfl rfl)
theorem dX5_touches_140 : decode cX5_touches 140 = .ok (.iload 8, 2) := dk_21 8 (dk_at dksX5_touches_6 0 rfl rfl)
theorem dX5_touches_142 : decode cX5_touches 142 = .ok (.iaload, 1) := dk_46 (dk_at dksX5_touches_6 2 rfl rfl)
theorem dX5_touches_143 : decode cX5_touches 143 = .ok (.if_icmp .eq 7, 3) := dk_159 0 7 (dk_at dksX5_touches_6 3 rfl rfl)
theorem dX5_touches_146 : decode cX5_touches 146 = .ok (.iconst 1, 1) := dk_4 (dk_at dksX5_touches_6 6 rfl rfl)
theorem dX5_touches_147 : decode cX5_touches 147 = .ok (.goto 4, 3) := dk_167 0 4 (dk_at dksX5_touches_6 7 rfl rfl)
theorem dX5_touches_150 : decode cX5_touches 150 = .ok (.iconst 0, 1) := dk_3 (dk_at dksX5_touches_6 10 rfl rfl)
theorem dX5_touches_151 : decode cX5_touches 151 = .ok (.istore 5, 2) := dk_54 5 (dk_at dksX5_touches_6 11 rfl rfl)
theorem dX5_touches_153 : decode cX5_touches 153 = .ok (.iinc 6 1, 3) := dk_132 6 1 (dk_at dksX5_touches_6 13 rfl rfl)
theorem dX5_touches_156 : decode cX5_touches 156 = .ok (.goto (-105), 3) := dk_167 255 151 (dk_at dksX5_touches_6 16 rfl rfl)
theorem dX5_touches_159 : decode cX5_touches 159 = .ok (.iload 5, 2) := dk_21 5 (dk_at dksX5_touches_6 19 rfl rfl)
theorem dX5_touches_161 : decode cX5_touches 161 = .ok (.ireturn, 1) := dk_172 (dk_at dksX5_touches_6 21 rfl rfl)
abbrev cX5_start : ByteArray := prog_24_method_31_code
def yX5_start : MethodName := ⟨RX5, "start", "(II)I"⟩
def dkwX5_start_4 : List UInt8 := [182, 1, 6, 21, 4, 172]
abbrev dktX5_start_4 : List UInt8 := dkwX5_start_4 ++ []
def dkwX5_start_3 : List UInt8 := [45, 180, 0, 200, 187, 0, 168, 89, 42, 180, 0, 150, 28, 3, 3, 183, 1, 3, 182, 0, 54, 87, 42]
abbrev dktX5_start_3 : List UInt8 := dkwX5_start_3 ++ dktX5_start_4
def dkwX5_start_2 : List UInt8 := [181, 0, 69, 42, 180, 0, 69, 158, 0, 5, 3, 172, 42, 180, 0, 150, 54, 4, 45, 16, 114, 182, 0, 255]
abbrev dktX5_start_2 : List UInt8 := dkwX5_start_2 ++ dktX5_start_3
def dkwX5_start_1 : List UInt8 := [180, 0, 27, 27, 182, 0, 58, 192, 0, 66, 78, 42, 45, 182, 0, 252, 153, 0, 7, 5, 167, 0, 4, 3]
abbrev dktX5_start_1 : List UInt8 := dkwX5_start_1 ++ dktX5_start_2
def dkwX5_start_0 : List UInt8 := [42, 27, 182, 0, 246, 154, 0, 10, 28, 184, 0, 11, 154, 0, 9, 42, 4, 182, 0, 249, 172, 42]
abbrev dktX5_start_0 : List UInt8 := dkwX5_start_0 ++ dktX5_start_1
theorem dksX5_start_0 : cX5_start.data.toList.drop 0 = dktX5_start_0 := by decide +kernel
theorem dksX5_start_1 : cX5_start.data.toList.drop 22 = dktX5_start_1 := dk_seg dksX5_start_0 22 rfl rfl
theorem dksX5_start_2 : cX5_start.data.toList.drop 46 = dktX5_start_2 := dk_seg dksX5_start_1 24 rfl rfl
theorem dksX5_start_3 : cX5_start.data.toList.drop 70 = dktX5_start_3 := dk_seg dksX5_start_2 24 rfl rfl
theorem dksX5_start_4 : cX5_start.data.toList.drop 93 = dktX5_start_4 := dk_seg dksX5_start_3 23 rfl rfl
theorem dX5_start_0 : decode cX5_start 0 = .ok (.aload_n 0, 1) := dk_42 (dk_at dksX5_start_0 0 rfl rfl)
theorem dX5_start_1 : decode cX5_start 1 = .ok (.iload_n 1, 1) := dk_27 (dk_at dksX5_start_0 1 rfl rfl)
theorem dX5_start_2 : decode cX5_start 2 = .ok (.invokevirtual 246, 3) := dk_182 0 246 (dk_at dksX5_start_0 2 rfl rfl)
theorem dX5_start_5 : decode cX5_start 5 = .ok (.ifCond .ne 10, 3) := dk_154 0 10 (dk_at dksX5_start_0 5 rfl rfl)
theorem dX5_start_8 : decode cX5_start 8 = .ok (.iload_n 2, 1) := dk_28 (dk_at dksX5_start_0 8 rfl rfl)
theorem dX5_start_9 : decode cX5_start 9 = .ok (.invokestatic 11, 3) := dk_184 0 11 (dk_at dksX5_start_0 9 rfl rfl)
theorem dX5_start_12 : decode cX5_start 12 = .ok (.ifCond .ne 9, 3) := dk_154 0 9 (dk_at dksX5_start_0 12 rfl rfl)
theorem dX5_start_15 : decode cX5_start 15 = .ok (.aload_n 0, 1) := dk_42 (dk_at dksX5_start_0 15 rfl rfl)
theorem dX5_start_16 : decode cX5_start 16 = .ok (.iconst 1, 1) := dk_4 (dk_at dksX5_start_0 16 rfl rfl)
theorem dX5_start_17 : decode cX5_start 17 = .ok (.invokevirtual 249, 3) := dk_182 0 249 (dk_at dksX5_start_0 17 rfl rfl)
theorem dX5_start_20 : decode cX5_start 20 = .ok (.ireturn, 1) := dk_172 (dk_at dksX5_start_0 20 rfl rfl)
theorem dX5_start_21 : decode cX5_start 21 = .ok (.aload_n 0, 1) := dk_42 (dk_at dksX5_start_0 21 rfl rfl)
theorem dX5_start_22 : decode cX5_start 22 = .ok (.getfield 27, 3) := dk_180 0 27 (dk_at dksX5_start_1 0 rfl rfl)
theorem dX5_start_25 : decode cX5_start 25 = .ok (.iload_n 1, 1) := dk_27 (dk_at dksX5_start_1 3 rfl rfl)
theorem dX5_start_26 : decode cX5_start 26 = .ok (.invokevirtual 58, 3) := dk_182 0 58 (dk_at dksX5_start_1 4 rfl rfl)
theorem dX5_start_29 : decode cX5_start 29 = .ok (.checkcast 66, 3) := dk_192 0 66 (dk_at dksX5_start_1 7 rfl rfl)
theorem dX5_start_32 : decode cX5_start 32 = .ok (.astore_n 3, 1) := dk_78 (dk_at dksX5_start_1 10 rfl rfl)
theorem dX5_start_33 : decode cX5_start 33 = .ok (.aload_n 0, 1) := dk_42 (dk_at dksX5_start_1 11 rfl rfl)
theorem dX5_start_34 : decode cX5_start 34 = .ok (.aload_n 3, 1) := dk_45 (dk_at dksX5_start_1 12 rfl rfl)
theorem dX5_start_35 : decode cX5_start 35 = .ok (.invokevirtual 252, 3) := dk_182 0 252 (dk_at dksX5_start_1 13 rfl rfl)
theorem dX5_start_38 : decode cX5_start 38 = .ok (.ifCond .eq 7, 3) := dk_153 0 7 (dk_at dksX5_start_1 16 rfl rfl)
theorem dX5_start_41 : decode cX5_start 41 = .ok (.iconst 2, 1) := dk_5 (dk_at dksX5_start_1 19 rfl rfl)
theorem dX5_start_42 : decode cX5_start 42 = .ok (.goto 4, 3) := dk_167 0 4 (dk_at dksX5_start_1 20 rfl rfl)
theorem dX5_start_45 : decode cX5_start 45 = .ok (.iconst 0, 1) := dk_3 (dk_at dksX5_start_1 23 rfl rfl)
theorem dX5_start_46 : decode cX5_start 46 = .ok (.putfield 69, 3) := dk_181 0 69 (dk_at dksX5_start_2 0 rfl rfl)
theorem dX5_start_49 : decode cX5_start 49 = .ok (.aload_n 0, 1) := dk_42 (dk_at dksX5_start_2 3 rfl rfl)
theorem dX5_start_50 : decode cX5_start 50 = .ok (.getfield 69, 3) := dk_180 0 69 (dk_at dksX5_start_2 4 rfl rfl)
theorem dX5_start_53 : decode cX5_start 53 = .ok (.ifCond .le 5, 3) := dk_158 0 5 (dk_at dksX5_start_2 7 rfl rfl)
theorem dX5_start_56 : decode cX5_start 56 = .ok (.iconst 0, 1) := dk_3 (dk_at dksX5_start_2 10 rfl rfl)
theorem dX5_start_57 : decode cX5_start 57 = .ok (.ireturn, 1) := dk_172 (dk_at dksX5_start_2 11 rfl rfl)
theorem dX5_start_58 : decode cX5_start 58 = .ok (.aload_n 0, 1) := dk_42 (dk_at dksX5_start_2 12 rfl rfl)
theorem dX5_start_59 : decode cX5_start 59 = .ok (.getfield 150, 3) := dk_180 0 150 (dk_at dksX5_start_2 13 rfl rfl)
theorem dX5_start_62 : decode cX5_start 62 = .ok (.istore 4, 2) := dk_54 4 (dk_at dksX5_start_2 16 rfl rfl)
theorem dX5_start_64 : decode cX5_start 64 = .ok (.aload_n 3, 1) := dk_45 (dk_at dksX5_start_2 18 rfl rfl)
theorem dX5_start_65 : decode cX5_start 65 = .ok (.bipush 114, 2) := dk_16 114 (dk_at dksX5_start_2 19 rfl rfl)
theorem dX5_start_67 : decode cX5_start 67 = .ok (.invokevirtual 255, 3) := dk_182 0 255 (dk_at dksX5_start_2 21 rfl rfl)
theorem dX5_start_70 : decode cX5_start 70 = .ok (.aload_n 3, 1) := dk_45 (dk_at dksX5_start_3 0 rfl rfl)
theorem dX5_start_71 : decode cX5_start 71 = .ok (.getfield 200, 3) := dk_180 0 200 (dk_at dksX5_start_3 1 rfl rfl)
theorem dX5_start_74 : decode cX5_start 74 = .ok (.new 168, 3) := dk_187 0 168 (dk_at dksX5_start_3 4 rfl rfl)
theorem dX5_start_77 : decode cX5_start 77 = .ok (.dup, 1) := dk_89 (dk_at dksX5_start_3 7 rfl rfl)
theorem dX5_start_78 : decode cX5_start 78 = .ok (.aload_n 0, 1) := dk_42 (dk_at dksX5_start_3 8 rfl rfl)
theorem dX5_start_79 : decode cX5_start 79 = .ok (.getfield 150, 3) := dk_180 0 150 (dk_at dksX5_start_3 9 rfl rfl)
theorem dX5_start_82 : decode cX5_start 82 = .ok (.iload_n 2, 1) := dk_28 (dk_at dksX5_start_3 12 rfl rfl)
theorem dX5_start_83 : decode cX5_start 83 = .ok (.iconst 0, 1) := dk_3 (dk_at dksX5_start_3 13 rfl rfl)
theorem dX5_start_84 : decode cX5_start 84 = .ok (.iconst 0, 1) := dk_3 (dk_at dksX5_start_3 14 rfl rfl)
theorem dX5_start_85 : decode cX5_start 85 = .ok (.invokespecial 259, 3) := dk_183 1 3 (dk_at dksX5_start_3 15 rfl rfl)
theorem dX5_start_88 : decode cX5_start 88 = .ok (.invokevirtual 54, 3) := dk_182 0 54 (dk_at dksX5_start_3 18 rfl rfl)
theorem dX5_start_91 : decode cX5_start 91 = .ok (.pop, 1) := dk_87 (dk_at dksX5_start_3 21 rfl rfl)
theorem dX5_start_92 : decode cX5_start 92 = .ok (.aload_n 0, 1) := dk_42 (dk_at dksX5_start_3 22 rfl rfl)
theorem dX5_start_93 : decode cX5_start 93 = .ok (.invokevirtual 262, 3) := dk_182 1 6 (dk_at dksX5_start_4 0 rfl rfl)
theorem dX5_start_96 : decode cX5_start 96 = .ok (.iload 4, 2) := dk_21 4 (dk_at dksX5_start_4 3 rfl rfl)
theorem dX5_start_98 : decode cX5_start 98 = .ok (.ireturn, 1) := dk_172 (dk_at dksX5_start_4 5 rfl rfl)
abbrev cX5_noThread : ByteArray := prog_24_method_30_code
def yX5_noThread : MethodName := ⟨RX5, "noThread", "(I)Z"⟩
def dkwX5_noThread_1 : List UInt8 := [158, 0, 7, 4, 167, 0, 4, 3, 172]
abbrev dktX5_noThread_1 : List UInt8 := dkwX5_noThread_1 ++ []
def dkwX5_noThread_0 : List UInt8 := [42, 27, 3, 5, 184, 0, 3, 153, 0, 7, 3, 167, 0, 4, 4, 181, 0, 69, 42, 180, 0, 69]
abbrev dktX5_noThread_0 : List UInt8 := dkwX5_noThread_0 ++ dktX5_noThread_1
theorem dksX5_noThread_0 : cX5_noThread.data.toList.drop 0 = dktX5_noThread_0 := by decide +kernel
theorem dksX5_noThread_1 : cX5_noThread.data.toList.drop 22 = dktX5_noThread_1 := dk_seg dksX5_noThread_0 22 rfl rfl
theorem dX5_noThread_0 : decode cX5_noThread 0 = .ok (.aload_n 0, 1) := dk_42 (dk_at dksX5_noThread_0 0 rfl rfl)
theorem dX5_noThread_1 : decode cX5_noThread 1 = .ok (.iload_n 1, 1) := dk_27 (dk_at dksX5_noThread_0 1 rfl rfl)
theorem dX5_noThread_2 : decode cX5_noThread 2 = .ok (.iconst 0, 1) := dk_3 (dk_at dksX5_noThread_0 2 rfl rfl)
theorem dX5_noThread_3 : decode cX5_noThread 3 = .ok (.iconst 2, 1) := dk_5 (dk_at dksX5_noThread_0 3 rfl rfl)
theorem dX5_noThread_4 : decode cX5_noThread 4 = .ok (.invokestatic 3, 3) := dk_184 0 3 (dk_at dksX5_noThread_0 4 rfl rfl)
theorem dX5_noThread_7 : decode cX5_noThread 7 = .ok (.ifCond .eq 7, 3) := dk_153 0 7 (dk_at dksX5_noThread_0 7 rfl rfl)
theorem dX5_noThread_10 : decode cX5_noThread 10 = .ok (.iconst 0, 1) := dk_3 (dk_at dksX5_noThread_0 10 rfl rfl)
theorem dX5_noThread_11 : decode cX5_noThread 11 = .ok (.goto 4, 3) := dk_167 0 4 (dk_at dksX5_noThread_0 11 rfl rfl)
theorem dX5_noThread_14 : decode cX5_noThread 14 = .ok (.iconst 1, 1) := dk_4 (dk_at dksX5_noThread_0 14 rfl rfl)
theorem dX5_noThread_15 : decode cX5_noThread 15 = .ok (.putfield 69, 3) := dk_181 0 69 (dk_at dksX5_noThread_0 15 rfl rfl)
theorem dX5_noThread_18 : decode cX5_noThread 18 = .ok (.aload_n 0, 1) := dk_42 (dk_at dksX5_noThread_0 18 rfl rfl)
theorem dX5_noThread_19 : decode cX5_noThread 19 = .ok (.getfield 69, 3) := dk_180 0 69 (dk_at dksX5_noThread_0 19 rfl rfl)
theorem dX5_noThread_22 : decode cX5_noThread 22 = .ok (.ifCond .le 7, 3) := dk_158 0 7 (dk_at dksX5_noThread_1 0 rfl rfl)
theorem dX5_noThread_25 : decode cX5_noThread 25 = .ok (.iconst 1, 1) := dk_4 (dk_at dksX5_noThread_1 3 rfl rfl)
theorem dX5_noThread_26 : decode cX5_noThread 26 = .ok (.goto 4, 3) := dk_167 0 4 (dk_at dksX5_noThread_1 4 rfl rfl)
theorem dX5_noThread_29 : decode cX5_noThread 29 = .ok (.iconst 0, 1) := dk_3 (dk_at dksX5_noThread_1 7 rfl rfl)
theorem dX5_noThread_30 : decode cX5_noThread 30 = .ok (.ireturn, 1) := dk_172 (dk_at dksX5_noThread_1 8 rfl rfl)
abbrev cX5_raises : ByteArray := prog_24_method_7_code
def yX5_raises : MethodName := ⟨RX5, "raises", "(I)I"⟩
def dkwX5_raises_0 : List UInt8 := [42, 27, 181, 0, 69, 3, 172]
abbrev dktX5_raises_0 : List UInt8 := dkwX5_raises_0 ++ []
theorem dksX5_raises_0 : cX5_raises.data.toList.drop 0 = dktX5_raises_0 := by decide +kernel
theorem dX5_raises_0 : decode cX5_raises 0 = .ok (.aload_n 0, 1) := dk_42 (dk_at dksX5_raises_0 0 rfl rfl)
theorem dX5_raises_1 : decode cX5_raises 1 = .ok (.iload_n 1, 1) := dk_27 (dk_at dksX5_raises_0 1 rfl rfl)
theorem dX5_raises_2 : decode cX5_raises 2 = .ok (.putfield 69, 3) := dk_181 0 69 (dk_at dksX5_raises_0 2 rfl rfl)
theorem dX5_raises_5 : decode cX5_raises 5 = .ok (.iconst 0, 1) := dk_3 (dk_at dksX5_raises_0 5 rfl rfl)
theorem dX5_raises_6 : decode cX5_raises 6 = .ok (.ireturn, 1) := dk_172 (dk_at dksX5_raises_0 6 rfl rfl)
abbrev cX5_looks : ByteArray := prog_24_method_27_code
def yX5_looks : MethodName := ⟨RX5, "looks", "()V"⟩
def dkwX5_looks_2 : List UInt8 := [182, 0, 230, 154, 0, 11, 42, 44, 182, 0, 233, 167, 0, 5, 3, 60, 167, 255, 195, 177]
abbrev dktX5_looks_2 : List UInt8 := dkwX5_looks_2 ++ []
def dkwX5_looks_1 : List UInt8 := [192, 0, 154, 77, 42, 44, 182, 0, 159, 2, 160, 0, 11, 42, 44, 182, 0, 226, 167, 0, 21, 42, 44]
abbrev dktX5_looks_1 : List UInt8 := dkwX5_looks_1 ++ dktX5_looks_2
def dkwX5_looks_0 : List UInt8 := [4, 60, 27, 153, 0, 63, 42, 180, 0, 40, 182, 0, 223, 154, 0, 53, 42, 180, 0, 40, 3, 182, 0, 58]
abbrev dktX5_looks_0 : List UInt8 := dkwX5_looks_0 ++ dktX5_looks_1
theorem dksX5_looks_0 : cX5_looks.data.toList.drop 0 = dktX5_looks_0 := by decide +kernel
theorem dksX5_looks_1 : cX5_looks.data.toList.drop 24 = dktX5_looks_1 := dk_seg dksX5_looks_0 24 rfl rfl
theorem dksX5_looks_2 : cX5_looks.data.toList.drop 47 = dktX5_looks_2 := dk_seg dksX5_looks_1 23 rfl rfl
theorem dX5_looks_0 : decode cX5_looks 0 = .ok (.iconst 1, 1) := dk_4 (dk_at dksX5_looks_0 0 rfl rfl)
theorem dX5_looks_1 : decode cX5_looks 1 = .ok (.istore_n 1, 1) := dk_60 (dk_at dksX5_looks_0 1 rfl rfl)
theorem dX5_looks_2 : decode cX5_looks 2 = .ok (.iload_n 1, 1) := dk_27 (dk_at dksX5_looks_0 2 rfl rfl)
theorem dX5_looks_3 : decode cX5_looks 3 = .ok (.ifCond .eq 63, 3) := dk_153 0 63 (dk_at dksX5_looks_0 3 rfl rfl)
theorem dX5_looks_6 : decode cX5_looks 6 = .ok (.aload_n 0, 1) := dk_42 (dk_at dksX5_looks_0 6 rfl rfl)
theorem dX5_looks_7 : decode cX5_looks 7 = .ok (.getfield 40, 3) := dk_180 0 40 (dk_at dksX5_looks_0 7 rfl rfl)
theorem dX5_looks_10 : decode cX5_looks 10 = .ok (.invokevirtual 223, 3) := dk_182 0 223 (dk_at dksX5_looks_0 10 rfl rfl)
theorem dX5_looks_13 : decode cX5_looks 13 = .ok (.ifCond .ne 53, 3) := dk_154 0 53 (dk_at dksX5_looks_0 13 rfl rfl)
theorem dX5_looks_16 : decode cX5_looks 16 = .ok (.aload_n 0, 1) := dk_42 (dk_at dksX5_looks_0 16 rfl rfl)
theorem dX5_looks_17 : decode cX5_looks 17 = .ok (.getfield 40, 3) := dk_180 0 40 (dk_at dksX5_looks_0 17 rfl rfl)
theorem dX5_looks_20 : decode cX5_looks 20 = .ok (.iconst 0, 1) := dk_3 (dk_at dksX5_looks_0 20 rfl rfl)
theorem dX5_looks_21 : decode cX5_looks 21 = .ok (.invokevirtual 58, 3) := dk_182 0 58 (dk_at dksX5_looks_0 21 rfl rfl)
theorem dX5_looks_24 : decode cX5_looks 24 = .ok (.checkcast 154, 3) := dk_192 0 154 (dk_at dksX5_looks_1 0 rfl rfl)
theorem dX5_looks_27 : decode cX5_looks 27 = .ok (.astore_n 2, 1) := dk_77 (dk_at dksX5_looks_1 3 rfl rfl)
theorem dX5_looks_28 : decode cX5_looks 28 = .ok (.aload_n 0, 1) := dk_42 (dk_at dksX5_looks_1 4 rfl rfl)
theorem dX5_looks_29 : decode cX5_looks 29 = .ok (.aload_n 2, 1) := dk_44 (dk_at dksX5_looks_1 5 rfl rfl)
theorem dX5_looks_30 : decode cX5_looks 30 = .ok (.invokevirtual 159, 3) := dk_182 0 159 (dk_at dksX5_looks_1 6 rfl rfl)
theorem dX5_looks_33 : decode cX5_looks 33 = .ok (.iconst (-1), 1) := dk_2 (dk_at dksX5_looks_1 9 rfl rfl)
theorem dX5_looks_34 : decode cX5_looks 34 = .ok (.if_icmp .ne 11, 3) := dk_160 0 11 (dk_at dksX5_looks_1 10 rfl rfl)
theorem dX5_looks_37 : decode cX5_looks 37 = .ok (.aload_n 0, 1) := dk_42 (dk_at dksX5_looks_1 13 rfl rfl)
theorem dX5_looks_38 : decode cX5_looks 38 = .ok (.aload_n 2, 1) := dk_44 (dk_at dksX5_looks_1 14 rfl rfl)
theorem dX5_looks_39 : decode cX5_looks 39 = .ok (.invokevirtual 226, 3) := dk_182 0 226 (dk_at dksX5_looks_1 15 rfl rfl)
theorem dX5_looks_42 : decode cX5_looks 42 = .ok (.goto 21, 3) := dk_167 0 21 (dk_at dksX5_looks_1 18 rfl rfl)
theorem dX5_looks_45 : decode cX5_looks 45 = .ok (.aload_n 0, 1) := dk_42 (dk_at dksX5_looks_1 21 rfl rfl)
theorem dX5_looks_46 : decode cX5_looks 46 = .ok (.aload_n 2, 1) := dk_44 (dk_at dksX5_looks_1 22 rfl rfl)
theorem dX5_looks_47 : decode cX5_looks 47 = .ok (.invokevirtual 230, 3) := dk_182 0 230 (dk_at dksX5_looks_2 0 rfl rfl)
theorem dX5_looks_50 : decode cX5_looks 50 = .ok (.ifCond .ne 11, 3) := dk_154 0 11 (dk_at dksX5_looks_2 3 rfl rfl)
theorem dX5_looks_53 : decode cX5_looks 53 = .ok (.aload_n 0, 1) := dk_42 (dk_at dksX5_looks_2 6 rfl rfl)
theorem dX5_looks_54 : decode cX5_looks 54 = .ok (.aload_n 2, 1) := dk_44 (dk_at dksX5_looks_2 7 rfl rfl)
theorem dX5_looks_55 : decode cX5_looks 55 = .ok (.invokevirtual 233, 3) := dk_182 0 233 (dk_at dksX5_looks_2 8 rfl rfl)
theorem dX5_looks_58 : decode cX5_looks 58 = .ok (.goto 5, 3) := dk_167 0 5 (dk_at dksX5_looks_2 11 rfl rfl)
theorem dX5_looks_61 : decode cX5_looks 61 = .ok (.iconst 0, 1) := dk_3 (dk_at dksX5_looks_2 14 rfl rfl)
theorem dX5_looks_62 : decode cX5_looks 62 = .ok (.istore_n 1, 1) := dk_60 (dk_at dksX5_looks_2 15 rfl rfl)
theorem dX5_looks_63 : decode cX5_looks 63 = .ok (.goto (-61), 3) := dk_167 255 195 (dk_at dksX5_looks_2 16 rfl rfl)
theorem dX5_looks_66 : decode cX5_looks 66 = .ok (.return_, 1) := dk_177 (dk_at dksX5_looks_2 19 rfl rfl)
abbrev cX5_target : ByteArray := prog_24_method_20_code
def yX5_target : MethodName := ⟨RX5, "target", "(LSwapWhileModel$Change;)I"⟩
def dkwX5_target_1 : List UInt8 := [182, 0, 73, 4, 100, 184, 0, 3, 153, 0, 7, 28, 167, 0, 4, 2, 172]
abbrev dktX5_target_1 : List UInt8 := dkwX5_target_1 ++ []
def dkwX5_target_0 : List UInt8 := [42, 180, 0, 150, 43, 180, 0, 153, 153, 0, 7, 2, 167, 0, 4, 4, 96, 61, 28, 3, 42, 180, 0, 23]
abbrev dktX5_target_0 : List UInt8 := dkwX5_target_0 ++ dktX5_target_1
theorem dksX5_target_0 : cX5_target.data.toList.drop 0 = dktX5_target_0 := by decide +kernel
theorem dksX5_target_1 : cX5_target.data.toList.drop 24 = dktX5_target_1 := dk_seg dksX5_target_0 24 rfl rfl
theorem dX5_target_0 : decode cX5_target 0 = .ok (.aload_n 0, 1) := dk_42 (dk_at dksX5_target_0 0 rfl rfl)
theorem dX5_target_1 : decode cX5_target 1 = .ok (.getfield 150, 3) := dk_180 0 150 (dk_at dksX5_target_0 1 rfl rfl)
theorem dX5_target_4 : decode cX5_target 4 = .ok (.aload_n 1, 1) := dk_43 (dk_at dksX5_target_0 4 rfl rfl)
theorem dX5_target_5 : decode cX5_target 5 = .ok (.getfield 153, 3) := dk_180 0 153 (dk_at dksX5_target_0 5 rfl rfl)
theorem dX5_target_8 : decode cX5_target 8 = .ok (.ifCond .eq 7, 3) := dk_153 0 7 (dk_at dksX5_target_0 8 rfl rfl)
theorem dX5_target_11 : decode cX5_target 11 = .ok (.iconst (-1), 1) := dk_2 (dk_at dksX5_target_0 11 rfl rfl)
theorem dX5_target_12 : decode cX5_target 12 = .ok (.goto 4, 3) := dk_167 0 4 (dk_at dksX5_target_0 12 rfl rfl)
theorem dX5_target_15 : decode cX5_target 15 = .ok (.iconst 1, 1) := dk_4 (dk_at dksX5_target_0 15 rfl rfl)
theorem dX5_target_16 : decode cX5_target 16 = .ok (.iadd, 1) := dk_96 (dk_at dksX5_target_0 16 rfl rfl)
theorem dX5_target_17 : decode cX5_target 17 = .ok (.istore_n 2, 1) := dk_61 (dk_at dksX5_target_0 17 rfl rfl)
theorem dX5_target_18 : decode cX5_target 18 = .ok (.iload_n 2, 1) := dk_28 (dk_at dksX5_target_0 18 rfl rfl)
theorem dX5_target_19 : decode cX5_target 19 = .ok (.iconst 0, 1) := dk_3 (dk_at dksX5_target_0 19 rfl rfl)
theorem dX5_target_20 : decode cX5_target 20 = .ok (.aload_n 0, 1) := dk_42 (dk_at dksX5_target_0 20 rfl rfl)
theorem dX5_target_21 : decode cX5_target 21 = .ok (.getfield 23, 3) := dk_180 0 23 (dk_at dksX5_target_0 21 rfl rfl)
theorem dX5_target_24 : decode cX5_target 24 = .ok (.invokevirtual 73, 3) := dk_182 0 73 (dk_at dksX5_target_1 0 rfl rfl)
theorem dX5_target_27 : decode cX5_target 27 = .ok (.iconst 1, 1) := dk_4 (dk_at dksX5_target_1 3 rfl rfl)
theorem dX5_target_28 : decode cX5_target 28 = .ok (.isub, 1) := dk_100 (dk_at dksX5_target_1 4 rfl rfl)
theorem dX5_target_29 : decode cX5_target 29 = .ok (.invokestatic 3, 3) := dk_184 0 3 (dk_at dksX5_target_1 5 rfl rfl)
theorem dX5_target_32 : decode cX5_target 32 = .ok (.ifCond .eq 7, 3) := dk_153 0 7 (dk_at dksX5_target_1 8 rfl rfl)
theorem dX5_target_35 : decode cX5_target 35 = .ok (.iload_n 2, 1) := dk_28 (dk_at dksX5_target_1 11 rfl rfl)
theorem dX5_target_36 : decode cX5_target 36 = .ok (.goto 4, 3) := dk_167 0 4 (dk_at dksX5_target_1 12 rfl rfl)
theorem dX5_target_39 : decode cX5_target 39 = .ok (.iconst (-1), 1) := dk_2 (dk_at dksX5_target_1 15 rfl rfl)
theorem dX5_target_40 : decode cX5_target 40 = .ok (.ireturn, 1) := dk_172 (dk_at dksX5_target_1 16 rfl rfl)
abbrev cX5_drops : ByteArray := prog_24_method_26_code
def yX5_drops : MethodName := ⟨RX5, "drops", "(LSwapWhileModel$Change;)V"⟩
def dkwX5_drops_0 : List UInt8 := [43, 16, 100, 181, 0, 217, 42, 180, 0, 40, 43, 182, 0, 220, 87, 177]
abbrev dktX5_drops_0 : List UInt8 := dkwX5_drops_0 ++ []
theorem dksX5_drops_0 : cX5_drops.data.toList.drop 0 = dktX5_drops_0 := by decide +kernel
theorem dX5_drops_0 : decode cX5_drops 0 = .ok (.aload_n 1, 1) := dk_43 (dk_at dksX5_drops_0 0 rfl rfl)
theorem dX5_drops_1 : decode cX5_drops 1 = .ok (.bipush 100, 2) := dk_16 100 (dk_at dksX5_drops_0 1 rfl rfl)
theorem dX5_drops_3 : decode cX5_drops 3 = .ok (.putfield 217, 3) := dk_181 0 217 (dk_at dksX5_drops_0 3 rfl rfl)
theorem dX5_drops_6 : decode cX5_drops 6 = .ok (.aload_n 0, 1) := dk_42 (dk_at dksX5_drops_0 6 rfl rfl)
theorem dX5_drops_7 : decode cX5_drops 7 = .ok (.getfield 40, 3) := dk_180 0 40 (dk_at dksX5_drops_0 7 rfl rfl)
theorem dX5_drops_10 : decode cX5_drops 10 = .ok (.aload_n 1, 1) := dk_43 (dk_at dksX5_drops_0 10 rfl rfl)
theorem dX5_drops_11 : decode cX5_drops 11 = .ok (.invokevirtual 220, 3) := dk_182 0 220 (dk_at dksX5_drops_0 11 rfl rfl)
theorem dX5_drops_14 : decode cX5_drops 14 = .ok (.pop, 1) := dk_87 (dk_at dksX5_drops_0 14 rfl rfl)
theorem dX5_drops_15 : decode cX5_drops 15 = .ok (.return_, 1) := dk_177 (dk_at dksX5_drops_0 15 rfl rfl)
abbrev cX5_against : ByteArray := prog_24_method_23_code
def yX5_against : MethodName := ⟨RX5, "against", "(LSwapWhileModel$Change;)I"⟩
def dkwX5_against_3 : List UInt8 := [43, 182, 0, 203, 153, 0, 7, 4, 167, 0, 4, 3, 96, 61, 167, 255, 216, 167, 255, 183, 28, 172]
abbrev dktX5_against_3 : List UInt8 := dkwX5_against_3 ++ []
def dkwX5_against_2 : List UInt8 := [185, 0, 190, 1, 0, 153, 0, 36, 25, 5, 185, 0, 196, 1, 0, 192, 0, 168, 58, 6, 28, 42, 25, 6]
abbrev dktX5_against_2 : List UInt8 := dkwX5_against_2 ++ dktX5_against_3
def dkwX5_against_1 : List UInt8 := [185, 0, 196, 1, 0, 192, 0, 66, 58, 4, 25, 4, 180, 0, 200, 182, 0, 186, 58, 5, 25, 5]
abbrev dktX5_against_1 : List UInt8 := dkwX5_against_1 ++ dktX5_against_2
def dkwX5_against_0 : List UInt8 := [3, 61, 42, 180, 0, 27, 182, 0, 186, 78, 45, 185, 0, 190, 1, 0, 153, 0, 70, 45]
abbrev dktX5_against_0 : List UInt8 := dkwX5_against_0 ++ dktX5_against_1
theorem dksX5_against_0 : cX5_against.data.toList.drop 0 = dktX5_against_0 := by decide +kernel
theorem dksX5_against_1 : cX5_against.data.toList.drop 20 = dktX5_against_1 := dk_seg dksX5_against_0 20 rfl rfl
theorem dksX5_against_2 : cX5_against.data.toList.drop 42 = dktX5_against_2 := dk_seg dksX5_against_1 22 rfl rfl
theorem dksX5_against_3 : cX5_against.data.toList.drop 66 = dktX5_against_3 := dk_seg dksX5_against_2 24 rfl rfl
theorem dX5_against_0 : decode cX5_against 0 = .ok (.iconst 0, 1) := dk_3 (dk_at dksX5_against_0 0 rfl rfl)
theorem dX5_against_1 : decode cX5_against 1 = .ok (.istore_n 2, 1) := dk_61 (dk_at dksX5_against_0 1 rfl rfl)
theorem dX5_against_2 : decode cX5_against 2 = .ok (.aload_n 0, 1) := dk_42 (dk_at dksX5_against_0 2 rfl rfl)
theorem dX5_against_3 : decode cX5_against 3 = .ok (.getfield 27, 3) := dk_180 0 27 (dk_at dksX5_against_0 3 rfl rfl)
theorem dX5_against_6 : decode cX5_against 6 = .ok (.invokevirtual 186, 3) := dk_182 0 186 (dk_at dksX5_against_0 6 rfl rfl)
theorem dX5_against_9 : decode cX5_against 9 = .ok (.astore_n 3, 1) := dk_78 (dk_at dksX5_against_0 9 rfl rfl)
theorem dX5_against_10 : decode cX5_against 10 = .ok (.aload_n 3, 1) := dk_45 (dk_at dksX5_against_0 10 rfl rfl)
theorem dX5_against_11 : decode cX5_against 11 = .ok (.invokeinterface 190 1, 5) := by decide +kernel
theorem dX5_against_16 : decode cX5_against 16 = .ok (.ifCond .eq 70, 3) := dk_153 0 70 (dk_at dksX5_against_0 16 rfl rfl)
theorem dX5_against_19 : decode cX5_against 19 = .ok (.aload_n 3, 1) := dk_45 (dk_at dksX5_against_0 19 rfl rfl)
theorem dX5_against_20 : decode cX5_against 20 = .ok (.invokeinterface 196 1, 5) := by decide +kernel
theorem dX5_against_25 : decode cX5_against 25 = .ok (.checkcast 66, 3) := dk_192 0 66 (dk_at dksX5_against_1 5 rfl rfl)
theorem dX5_against_28 : decode cX5_against 28 = .ok (.astore 4, 2) := dk_58 4 (dk_at dksX5_against_1 8 rfl rfl)
theorem dX5_against_30 : decode cX5_against 30 = .ok (.aload 4, 2) := dk_25 4 (dk_at dksX5_against_1 10 rfl rfl)
theorem dX5_against_32 : decode cX5_against 32 = .ok (.getfield 200, 3) := dk_180 0 200 (dk_at dksX5_against_1 12 rfl rfl)
theorem dX5_against_35 : decode cX5_against 35 = .ok (.invokevirtual 186, 3) := dk_182 0 186 (dk_at dksX5_against_1 15 rfl rfl)
theorem dX5_against_38 : decode cX5_against 38 = .ok (.astore 5, 2) := dk_58 5 (dk_at dksX5_against_1 18 rfl rfl)
theorem dX5_against_40 : decode cX5_against 40 = .ok (.aload 5, 2) := dk_25 5 (dk_at dksX5_against_1 20 rfl rfl)
theorem dX5_against_42 : decode cX5_against 42 = .ok (.invokeinterface 190 1, 5) := by decide +kernel
theorem dX5_against_47 : decode cX5_against 47 = .ok (.ifCond .eq 36, 3) := dk_153 0 36 (dk_at dksX5_against_2 5 rfl rfl)
theorem dX5_against_50 : decode cX5_against 50 = .ok (.aload 5, 2) := dk_25 5 (dk_at dksX5_against_2 8 rfl rfl)
theorem dX5_against_52 : decode cX5_against 52 = .ok (.invokeinterface 196 1, 5) := by decide +kernel
theorem dX5_against_57 : decode cX5_against 57 = .ok (.checkcast 168, 3) := dk_192 0 168 (dk_at dksX5_against_2 15 rfl rfl)
theorem dX5_against_60 : decode cX5_against 60 = .ok (.astore 6, 2) := dk_58 6 (dk_at dksX5_against_2 18 rfl rfl)
theorem dX5_against_62 : decode cX5_against 62 = .ok (.iload_n 2, 1) := dk_28 (dk_at dksX5_against_2 20 rfl rfl)
theorem dX5_against_63 : decode cX5_against 63 = .ok (.aload_n 0, 1) := dk_42 (dk_at dksX5_against_2 21 rfl rfl)
theorem dX5_against_64 : decode cX5_against 64 = .ok (.aload 6, 2) := dk_25 6 (dk_at dksX5_against_2 22 rfl rfl)
theorem dX5_against_66 : decode cX5_against 66 = .ok (.aload_n 1, 1) := dk_43 (dk_at dksX5_against_3 0 rfl rfl)
theorem dX5_against_67 : decode cX5_against 67 = .ok (.invokevirtual 203, 3) := dk_182 0 203 (dk_at dksX5_against_3 1 rfl rfl)
theorem dX5_against_70 : decode cX5_against 70 = .ok (.ifCond .eq 7, 3) := dk_153 0 7 (dk_at dksX5_against_3 4 rfl rfl)
theorem dX5_against_73 : decode cX5_against 73 = .ok (.iconst 1, 1) := dk_4 (dk_at dksX5_against_3 7 rfl rfl)
theorem dX5_against_74 : decode cX5_against 74 = .ok (.goto 4, 3) := dk_167 0 4 (dk_at dksX5_against_3 8 rfl rfl)
theorem dX5_against_77 : decode cX5_against 77 = .ok (.iconst 0, 1) := dk_3 (dk_at dksX5_against_3 11 rfl rfl)
theorem dX5_against_78 : decode cX5_against 78 = .ok (.iadd, 1) := dk_96 (dk_at dksX5_against_3 12 rfl rfl)
theorem dX5_against_79 : decode cX5_against 79 = .ok (.istore_n 2, 1) := dk_61 (dk_at dksX5_against_3 13 rfl rfl)
theorem dX5_against_80 : decode cX5_against 80 = .ok (.goto (-40), 3) := dk_167 255 216 (dk_at dksX5_against_3 14 rfl rfl)
theorem dX5_against_83 : decode cX5_against 83 = .ok (.goto (-73), 3) := dk_167 255 183 (dk_at dksX5_against_3 17 rfl rfl)
theorem dX5_against_86 : decode cX5_against 86 = .ok (.iload_n 2, 1) := dk_28 (dk_at dksX5_against_3 20 rfl rfl)
theorem dX5_against_87 : decode cX5_against 87 = .ok (.ireturn, 1) := dk_172 (dk_at dksX5_against_3 21 rfl rfl)
abbrev cX5_standsAgainst : ByteArray := prog_24_method_22_code
def yX5_standsAgainst : MethodName := ⟨RX5, "standsAgainst", "(LSwapWhileModel$Frame;LSwapWhileModel$Change;)Z"⟩
def dkwX5_standsAgainst_3 : List UInt8 := [182, 0, 182, 2, 160, 0, 7, 4, 167, 0, 4, 3, 172]
abbrev dktX5_standsAgainst_3 : List UInt8 := dkwX5_standsAgainst_3 ++ []
def dkwX5_standsAgainst_2 : List UInt8 := [154, 0, 5, 3, 172, 44, 180, 0, 163, 16, 119, 159, 0, 20, 42, 43, 180, 0, 176, 43, 180, 0, 179, 29]
abbrev dktX5_standsAgainst_2 : List UInt8 := dkwX5_standsAgainst_2 ++ dktX5_standsAgainst_3
def dkwX5_standsAgainst_1 : List UInt8 := [42, 180, 0, 150, 160, 0, 22, 42, 42, 180, 0, 150, 29, 184, 0, 170, 43, 180, 0, 176, 182, 0, 129]
abbrev dktX5_standsAgainst_1 : List UInt8 := dkwX5_standsAgainst_1 ++ dktX5_standsAgainst_2
def dkwX5_standsAgainst_0 : List UInt8 := [42, 44, 182, 0, 159, 62, 44, 180, 0, 163, 16, 111, 159, 0, 38, 29, 2, 159, 0, 33, 43, 180, 0, 167]
abbrev dktX5_standsAgainst_0 : List UInt8 := dkwX5_standsAgainst_0 ++ dktX5_standsAgainst_1
theorem dksX5_standsAgainst_0 : cX5_standsAgainst.data.toList.drop 0 = dktX5_standsAgainst_0 := by decide +kernel
theorem dksX5_standsAgainst_1 : cX5_standsAgainst.data.toList.drop 24 = dktX5_standsAgainst_1 := dk_seg dksX5_standsAgainst_0 24 rfl rfl
theorem dksX5_standsAgainst_2 : cX5_standsAgainst.data.toList.drop 47 = dktX5_standsAgainst_2 := dk_seg dksX5_standsAgainst_1 23 rfl rfl
theorem dksX5_standsAgainst_3 : cX5_standsAgainst.data.toList.drop 71 = dktX5_standsAgainst_3 := dk_seg dksX5_standsAgainst_2 24 rfl rfl
theorem dX5_standsAgainst_0 : decode cX5_standsAgainst 0 = .ok (.aload_n 0, 1) := dk_42 (dk_at dksX5_standsAgainst_0 0 rfl rfl)
theorem dX5_standsAgainst_1 : decode cX5_standsAgainst 1 = .ok (.aload_n 2, 1) := dk_44 (dk_at dksX5_standsAgainst_0 1 rfl rfl)
theorem dX5_standsAgainst_2 : decode cX5_standsAgainst 2 = .ok (.invokevirtual 159, 3) := dk_182 0 159 (dk_at dksX5_standsAgainst_0 2 rfl rfl)
theorem dX5_standsAgainst_5 : decode cX5_standsAgainst 5 = .ok (.istore_n 3, 1) := dk_62 (dk_at dksX5_standsAgainst_0 5 rfl rfl)
theorem dX5_standsAgainst_6 : decode cX5_standsAgainst 6 = .ok (.aload_n 2, 1) := dk_44 (dk_at dksX5_standsAgainst_0 6 rfl rfl)
theorem dX5_standsAgainst_7 : decode cX5_standsAgainst 7 = .ok (.getfield 163, 3) := dk_180 0 163 (dk_at dksX5_standsAgainst_0 7 rfl rfl)
theorem dX5_standsAgainst_10 : decode cX5_standsAgainst 10 = .ok (.bipush 111, 2) := dk_16 111 (dk_at dksX5_standsAgainst_0 10 rfl rfl)
theorem dX5_standsAgainst_12 : decode cX5_standsAgainst 12 = .ok (.if_icmp .eq 38, 3) := dk_159 0 38 (dk_at dksX5_standsAgainst_0 12 rfl rfl)
theorem dX5_standsAgainst_15 : decode cX5_standsAgainst 15 = .ok (.iload_n 3, 1) := dk_29 (dk_at dksX5_standsAgainst_0 15 rfl rfl)
theorem dX5_standsAgainst_16 : decode cX5_standsAgainst 16 = .ok (.iconst (-1), 1) := dk_2 (dk_at dksX5_standsAgainst_0 16 rfl rfl)
theorem dX5_standsAgainst_17 : decode cX5_standsAgainst 17 = .ok (.if_icmp .eq 33, 3) := dk_159 0 33 (dk_at dksX5_standsAgainst_0 17 rfl rfl)
theorem dX5_standsAgainst_20 : decode cX5_standsAgainst 20 = .ok (.aload_n 1, 1) := dk_43 (dk_at dksX5_standsAgainst_0 20 rfl rfl)
theorem dX5_standsAgainst_21 : decode cX5_standsAgainst 21 = .ok (.getfield 167, 3) := dk_180 0 167 (dk_at dksX5_standsAgainst_0 21 rfl rfl)
theorem dX5_standsAgainst_24 : decode cX5_standsAgainst 24 = .ok (.aload_n 0, 1) := dk_42 (dk_at dksX5_standsAgainst_1 0 rfl rfl)
theorem dX5_standsAgainst_25 : decode cX5_standsAgainst 25 = .ok (.getfield 150, 3) := dk_180 0 150 (dk_at dksX5_standsAgainst_1 1 rfl rfl)
theorem dX5_standsAgainst_28 : decode cX5_standsAgainst 28 = .ok (.if_icmp .ne 22, 3) := dk_160 0 22 (dk_at dksX5_standsAgainst_1 4 rfl rfl)
theorem dX5_standsAgainst_31 : decode cX5_standsAgainst 31 = .ok (.aload_n 0, 1) := dk_42 (dk_at dksX5_standsAgainst_1 7 rfl rfl)
theorem dX5_standsAgainst_32 : decode cX5_standsAgainst 32 = .ok (.aload_n 0, 1) := dk_42 (dk_at dksX5_standsAgainst_1 8 rfl rfl)
theorem dX5_standsAgainst_33 : decode cX5_standsAgainst 33 = .ok (.getfield 150, 3) := dk_180 0 150 (dk_at dksX5_standsAgainst_1 9 rfl rfl)
theorem dX5_standsAgainst_36 : decode cX5_standsAgainst 36 = .ok (.iload_n 3, 1) := dk_29 (dk_at dksX5_standsAgainst_1 12 rfl rfl)
theorem dX5_standsAgainst_37 : decode cX5_standsAgainst 37 = .ok (.invokestatic 170, 3) := dk_184 0 170 (dk_at dksX5_standsAgainst_1 13 rfl rfl)
theorem dX5_standsAgainst_40 : decode cX5_standsAgainst 40 = .ok (.aload_n 1, 1) := dk_43 (dk_at dksX5_standsAgainst_1 16 rfl rfl)
theorem dX5_standsAgainst_41 : decode cX5_standsAgainst 41 = .ok (.getfield 176, 3) := dk_180 0 176 (dk_at dksX5_standsAgainst_1 17 rfl rfl)
theorem dX5_standsAgainst_44 : decode cX5_standsAgainst 44 = .ok (.invokevirtual 129, 3) := dk_182 0 129 (dk_at dksX5_standsAgainst_1 20 rfl rfl)
theorem dX5_standsAgainst_47 : decode cX5_standsAgainst 47 = .ok (.ifCond .ne 5, 3) := dk_154 0 5 (dk_at dksX5_standsAgainst_2 0 rfl rfl)
theorem dX5_standsAgainst_50 : decode cX5_standsAgainst 50 = .ok (.iconst 0, 1) := dk_3 (dk_at dksX5_standsAgainst_2 3 rfl rfl)
theorem dX5_standsAgainst_51 : decode cX5_standsAgainst 51 = .ok (.ireturn, 1) := dk_172 (dk_at dksX5_standsAgainst_2 4 rfl rfl)
theorem dX5_standsAgainst_52 : decode cX5_standsAgainst 52 = .ok (.aload_n 2, 1) := dk_44 (dk_at dksX5_standsAgainst_2 5 rfl rfl)
theorem dX5_standsAgainst_53 : decode cX5_standsAgainst 53 = .ok (.getfield 163, 3) := dk_180 0 163 (dk_at dksX5_standsAgainst_2 6 rfl rfl)
theorem dX5_standsAgainst_56 : decode cX5_standsAgainst 56 = .ok (.bipush 119, 2) := dk_16 119 (dk_at dksX5_standsAgainst_2 9 rfl rfl)
theorem dX5_standsAgainst_58 : decode cX5_standsAgainst 58 = .ok (.if_icmp .eq 20, 3) := dk_159 0 20 (dk_at dksX5_standsAgainst_2 11 rfl rfl)
theorem dX5_standsAgainst_61 : decode cX5_standsAgainst 61 = .ok (.aload_n 0, 1) := dk_42 (dk_at dksX5_standsAgainst_2 14 rfl rfl)
theorem dX5_standsAgainst_62 : decode cX5_standsAgainst 62 = .ok (.aload_n 1, 1) := dk_43 (dk_at dksX5_standsAgainst_2 15 rfl rfl)
theorem dX5_standsAgainst_63 : decode cX5_standsAgainst 63 = .ok (.getfield 176, 3) := dk_180 0 176 (dk_at dksX5_standsAgainst_2 16 rfl rfl)
theorem dX5_standsAgainst_66 : decode cX5_standsAgainst 66 = .ok (.aload_n 1, 1) := dk_43 (dk_at dksX5_standsAgainst_2 19 rfl rfl)
theorem dX5_standsAgainst_67 : decode cX5_standsAgainst 67 = .ok (.getfield 179, 3) := dk_180 0 179 (dk_at dksX5_standsAgainst_2 20 rfl rfl)
theorem dX5_standsAgainst_70 : decode cX5_standsAgainst 70 = .ok (.iload_n 3, 1) := dk_29 (dk_at dksX5_standsAgainst_2 23 rfl rfl)
theorem dX5_standsAgainst_71 : decode cX5_standsAgainst 71 = .ok (.invokevirtual 182, 3) := dk_182 0 182 (dk_at dksX5_standsAgainst_3 0 rfl rfl)
theorem dX5_standsAgainst_74 : decode cX5_standsAgainst 74 = .ok (.iconst (-1), 1) := dk_2 (dk_at dksX5_standsAgainst_3 3 rfl rfl)
theorem dX5_standsAgainst_75 : decode cX5_standsAgainst 75 = .ok (.if_icmp .ne 7, 3) := dk_160 0 7 (dk_at dksX5_standsAgainst_3 4 rfl rfl)
theorem dX5_standsAgainst_78 : decode cX5_standsAgainst 78 = .ok (.iconst 1, 1) := dk_4 (dk_at dksX5_standsAgainst_3 7 rfl rfl)
theorem dX5_standsAgainst_79 : decode cX5_standsAgainst 79 = .ok (.goto 4, 3) := dk_167 0 4 (dk_at dksX5_standsAgainst_3 8 rfl rfl)
theorem dX5_standsAgainst_82 : decode cX5_standsAgainst 82 = .ok (.iconst 0, 1) := dk_3 (dk_at dksX5_standsAgainst_3 11 rfl rfl)
theorem dX5_standsAgainst_83 : decode cX5_standsAgainst 83 = .ok (.ireturn, 1) := dk_172 (dk_at dksX5_standsAgainst_3 12 rfl rfl)
abbrev cX5_mapped : ByteArray := prog_24_method_21_code
def yX5_mapped : MethodName := ⟨RX5, "mapped", "(III)I"⟩
def dkwX5_mapped_3 : List UInt8 := [132, 4, 1, 167, 255, 214, 2, 172]
abbrev dktX5_mapped_3 : List UInt8 := dkwX5_mapped_3 ++ []
def dkwX5_mapped_2 : List UInt8 := [182, 0, 58, 192, 0, 49, 180, 0, 119, 16, 11, 27, 104, 21, 4, 96, 46, 28, 160, 0, 6, 21, 4, 172]
abbrev dktX5_mapped_2 : List UInt8 := dkwX5_mapped_2 ++ dktX5_mapped_3
def dkwX5_mapped_1 : List UInt8 := [27, 104, 28, 96, 46, 172, 3, 54, 4, 21, 4, 16, 11, 162, 0, 41, 42, 180, 0, 23, 42, 180, 0, 150]
abbrev dktX5_mapped_1 : List UInt8 := dkwX5_mapped_1 ++ dktX5_mapped_2
def dkwX5_mapped_0 : List UInt8 := [29, 42, 180, 0, 150, 164, 0, 25, 42, 180, 0, 23, 29, 182, 0, 58, 192, 0, 49, 180, 0, 119, 16, 11]
abbrev dktX5_mapped_0 : List UInt8 := dkwX5_mapped_0 ++ dktX5_mapped_1
theorem dksX5_mapped_0 : cX5_mapped.data.toList.drop 0 = dktX5_mapped_0 := by decide +kernel
theorem dksX5_mapped_1 : cX5_mapped.data.toList.drop 24 = dktX5_mapped_1 := dk_seg dksX5_mapped_0 24 rfl rfl
theorem dksX5_mapped_2 : cX5_mapped.data.toList.drop 48 = dktX5_mapped_2 := dk_seg dksX5_mapped_1 24 rfl rfl
theorem dksX5_mapped_3 : cX5_mapped.data.toList.drop 72 = dktX5_mapped_3 := dk_seg dksX5_mapped_2 24 rfl rfl
theorem dX5_mapped_0 : decode cX5_mapped 0 = .ok (.iload_n 3, 1) := dk_29 (dk_at dksX5_mapped_0 0 rfl rfl)
theorem dX5_mapped_1 : decode cX5_mapped 1 = .ok (.aload_n 0, 1) := dk_42 (dk_at dksX5_mapped_0 1 rfl rfl)
theorem dX5_mapped_2 : decode cX5_mapped 2 = .ok (.getfield 150, 3) := dk_180 0 150 (dk_at dksX5_mapped_0 2 rfl rfl)
theorem dX5_mapped_5 : decode cX5_mapped 5 = .ok (.if_icmp .le 25, 3) := dk_164 0 25 (dk_at dksX5_mapped_0 5 rfl rfl)
theorem dX5_mapped_8 : decode cX5_mapped 8 = .ok (.aload_n 0, 1) := dk_42 (dk_at dksX5_mapped_0 8 rfl rfl)
theorem dX5_mapped_9 : decode cX5_mapped 9 = .ok (.getfield 23, 3) := dk_180 0 23 (dk_at dksX5_mapped_0 9 rfl rfl)
theorem dX5_mapped_12 : decode cX5_mapped 12 = .ok (.iload_n 3, 1) := dk_29 (dk_at dksX5_mapped_0 12 rfl rfl)
theorem dX5_mapped_13 : decode cX5_mapped 13 = .ok (.invokevirtual 58, 3) := dk_182 0 58 (dk_at dksX5_mapped_0 13 rfl rfl)
theorem dX5_mapped_16 : decode cX5_mapped 16 = .ok (.checkcast 49, 3) := dk_192 0 49 (dk_at dksX5_mapped_0 16 rfl rfl)
theorem dX5_mapped_19 : decode cX5_mapped 19 = .ok (.getfield 119, 3) := dk_180 0 119 (dk_at dksX5_mapped_0 19 rfl rfl)
theorem dX5_mapped_22 : decode cX5_mapped 22 = .ok (.bipush 11, 2) := dk_16 11 (dk_at dksX5_mapped_0 22 rfl rfl)
theorem dX5_mapped_24 : decode cX5_mapped 24 = .ok (.iload_n 1, 1) := dk_27 (dk_at dksX5_mapped_1 0 rfl rfl)
theorem dX5_mapped_25 : decode cX5_mapped 25 = .ok (.imul, 1) := dk_104 (dk_at dksX5_mapped_1 1 rfl rfl)
theorem dX5_mapped_26 : decode cX5_mapped 26 = .ok (.iload_n 2, 1) := dk_28 (dk_at dksX5_mapped_1 2 rfl rfl)
theorem dX5_mapped_27 : decode cX5_mapped 27 = .ok (.iadd, 1) := dk_96 (dk_at dksX5_mapped_1 3 rfl rfl)
theorem dX5_mapped_28 : decode cX5_mapped 28 = .ok (.iaload, 1) := dk_46 (dk_at dksX5_mapped_1 4 rfl rfl)
theorem dX5_mapped_29 : decode cX5_mapped 29 = .ok (.ireturn, 1) := dk_172 (dk_at dksX5_mapped_1 5 rfl rfl)
theorem dX5_mapped_30 : decode cX5_mapped 30 = .ok (.iconst 0, 1) := dk_3 (dk_at dksX5_mapped_1 6 rfl rfl)
theorem dX5_mapped_31 : decode cX5_mapped 31 = .ok (.istore 4, 2) := dk_54 4 (dk_at dksX5_mapped_1 7 rfl rfl)
theorem dX5_mapped_33 : decode cX5_mapped 33 = .ok (.iload 4, 2) := dk_21 4 (dk_at dksX5_mapped_1 9 rfl rfl)
theorem dX5_mapped_35 : decode cX5_mapped 35 = .ok (.bipush 11, 2) := dk_16 11 (dk_at dksX5_mapped_1 11 rfl rfl)
theorem dX5_mapped_37 : decode cX5_mapped 37 = .ok (.if_icmp .ge 41, 3) := dk_162 0 41 (dk_at dksX5_mapped_1 13 rfl rfl)
theorem dX5_mapped_40 : decode cX5_mapped 40 = .ok (.aload_n 0, 1) := dk_42 (dk_at dksX5_mapped_1 16 rfl rfl)
theorem dX5_mapped_41 : decode cX5_mapped 41 = .ok (.getfield 23, 3) := dk_180 0 23 (dk_at dksX5_mapped_1 17 rfl rfl)
theorem dX5_mapped_44 : decode cX5_mapped 44 = .ok (.aload_n 0, 1) := dk_42 (dk_at dksX5_mapped_1 20 rfl rfl)
theorem dX5_mapped_45 : decode cX5_mapped 45 = .ok (.getfield 150, 3) := dk_180 0 150 (dk_at dksX5_mapped_1 21 rfl rfl)
theorem dX5_mapped_48 : decode cX5_mapped 48 = .ok (.invokevirtual 58, 3) := dk_182 0 58 (dk_at dksX5_mapped_2 0 rfl rfl)
theorem dX5_mapped_51 : decode cX5_mapped 51 = .ok (.checkcast 49, 3) := dk_192 0 49 (dk_at dksX5_mapped_2 3 rfl rfl)
theorem dX5_mapped_54 : decode cX5_mapped 54 = .ok (.getfield 119, 3) := dk_180 0 119 (dk_at dksX5_mapped_2 6 rfl rfl)
theorem dX5_mapped_57 : decode cX5_mapped 57 = .ok (.bipush 11, 2) := dk_16 11 (dk_at dksX5_mapped_2 9 rfl rfl)
theorem dX5_mapped_59 : decode cX5_mapped 59 = .ok (.iload_n 1, 1) := dk_27 (dk_at dksX5_mapped_2 11 rfl rfl)
theorem dX5_mapped_60 : decode cX5_mapped 60 = .ok (.imul, 1) := dk_104 (dk_at dksX5_mapped_2 12 rfl rfl)
theorem dX5_mapped_61 : decode cX5_mapped 61 = .ok (.iload 4, 2) := dk_21 4 (dk_at dksX5_mapped_2 13 rfl rfl)
theorem dX5_mapped_63 : decode cX5_mapped 63 = .ok (.iadd, 1) := dk_96 (dk_at dksX5_mapped_2 15 rfl rfl)
theorem dX5_mapped_64 : decode cX5_mapped 64 = .ok (.iaload, 1) := dk_46 (dk_at dksX5_mapped_2 16 rfl rfl)
theorem dX5_mapped_65 : decode cX5_mapped 65 = .ok (.iload_n 2, 1) := dk_28 (dk_at dksX5_mapped_2 17 rfl rfl)
theorem dX5_mapped_66 : decode cX5_mapped 66 = .ok (.if_icmp .ne 6, 3) := dk_160 0 6 (dk_at dksX5_mapped_2 18 rfl rfl)
theorem dX5_mapped_69 : decode cX5_mapped 69 = .ok (.iload 4, 2) := dk_21 4 (dk_at dksX5_mapped_2 21 rfl rfl)
theorem dX5_mapped_71 : decode cX5_mapped 71 = .ok (.ireturn, 1) := dk_172 (dk_at dksX5_mapped_2 23 rfl rfl)
theorem dX5_mapped_72 : decode cX5_mapped 72 = .ok (.iinc 4 1, 3) := dk_132 4 1 (dk_at dksX5_mapped_3 0 rfl rfl)
theorem dX5_mapped_75 : decode cX5_mapped 75 = .ok (.goto (-42), 3) := dk_167 255 214 (dk_at dksX5_mapped_3 3 rfl rfl)
theorem dX5_mapped_78 : decode cX5_mapped 78 = .ok (.iconst (-1), 1) := dk_2 (dk_at dksX5_mapped_3 6 rfl rfl)
theorem dX5_mapped_79 : decode cX5_mapped 79 = .ok (.ireturn, 1) := dk_172 (dk_at dksX5_mapped_3 7 rfl rfl)
abbrev cX5_takesEffect : ByteArray := prog_24_method_25_code
def yX5_takesEffect : MethodName := ⟨RX5, "takesEffect", "(LSwapWhileModel$Change;)V"⟩
def dkwX5_takesEffect_6 : List UInt8 := [16, 101, 181, 0, 217, 42, 180, 0, 40, 43, 182, 0, 220, 87, 177]
abbrev dktX5_takesEffect_6 : List UInt8 := dkwX5_takesEffect_6 ++ []
def dkwX5_takesEffect_5 : List UInt8 := [192, 0, 138, 58, 4, 43, 180, 0, 211, 153, 0, 10, 42, 25, 4, 28, 182, 0, 214, 167, 255, 222, 43]
abbrev dktX5_takesEffect_5 : List UInt8 := dkwX5_takesEffect_5 ++ dktX5_takesEffect_6
def dkwX5_takesEffect_4 : List UInt8 := [180, 0, 30, 182, 0, 186, 78, 45, 185, 0, 190, 1, 0, 153, 0, 31, 45, 185, 0, 196, 1, 0]
abbrev dktX5_takesEffect_4 : List UInt8 := dkwX5_takesEffect_4 ++ dktX5_takesEffect_5
def dkwX5_takesEffect_3 : List UInt8 := [16, 111, 159, 0, 10, 42, 25, 6, 28, 182, 0, 207, 167, 255, 218, 167, 255, 185, 42, 28, 181, 0, 150, 42]
abbrev dktX5_takesEffect_3 : List UInt8 := dkwX5_takesEffect_3 ++ dktX5_takesEffect_4
def dkwX5_takesEffect_2 : List UInt8 := [185, 0, 190, 1, 0, 153, 0, 34, 25, 5, 185, 0, 196, 1, 0, 192, 0, 168, 58, 6, 43, 180, 0, 163]
abbrev dktX5_takesEffect_2 : List UInt8 := dkwX5_takesEffect_2 ++ dktX5_takesEffect_3
def dkwX5_takesEffect_1 : List UInt8 := [185, 0, 196, 1, 0, 192, 0, 66, 58, 4, 25, 4, 180, 0, 200, 182, 0, 186, 58, 5, 25, 5]
abbrev dktX5_takesEffect_1 : List UInt8 := dkwX5_takesEffect_1 ++ dktX5_takesEffect_2
def dkwX5_takesEffect_0 : List UInt8 := [42, 43, 182, 0, 159, 61, 42, 180, 0, 27, 182, 0, 186, 78, 45, 185, 0, 190, 1, 0, 153, 0, 68, 45]
abbrev dktX5_takesEffect_0 : List UInt8 := dkwX5_takesEffect_0 ++ dktX5_takesEffect_1
theorem dksX5_takesEffect_0 : cX5_takesEffect.data.toList.drop 0 = dktX5_takesEffect_0 := by decide +kernel
theorem dksX5_takesEffect_1 : cX5_takesEffect.data.toList.drop 24 = dktX5_takesEffect_1 := dk_seg dksX5_takesEffect_0 24 rfl rfl
theorem dksX5_takesEffect_2 : cX5_takesEffect.data.toList.drop 46 = dktX5_takesEffect_2 := dk_seg dksX5_takesEffect_1 22 rfl rfl
theorem dksX5_takesEffect_3 : cX5_takesEffect.data.toList.drop 70 = dktX5_takesEffect_3 := dk_seg dksX5_takesEffect_2 24 rfl rfl
theorem dksX5_takesEffect_4 : cX5_takesEffect.data.toList.drop 94 = dktX5_takesEffect_4 := dk_seg dksX5_takesEffect_3 24 rfl rfl
theorem dksX5_takesEffect_5 : cX5_takesEffect.data.toList.drop 116 = dktX5_takesEffect_5 := dk_seg dksX5_takesEffect_4 22 rfl rfl
theorem dksX5_takesEffect_6 : cX5_takesEffect.data.toList.drop 139 = dktX5_takesEffect_6 := dk_seg dksX5_takesEffect_5 23 rfl rfl
theorem dX5_takesEffect_0 : decode cX5_takesEffect 0 = .ok (.aload_n 0, 1) := dk_42 (dk_at dksX5_takesEffect_0 0 rfl rfl)
theorem dX5_takesEffect_1 : decode cX5_takesEffect 1 = .ok (.aload_n 1, 1) := dk_43 (dk_at dksX5_takesEffect_0 1 rfl rfl)
theorem dX5_takesEffect_2 : decode cX5_takesEffect 2 = .ok (.invokevirtual 159, 3) := dk_182 0 159 (dk_at dksX5_takesEffect_0 2 rfl rfl)
theorem dX5_takesEffect_5 : decode cX5_takesEffect 5 = .ok (.istore_n 2, 1) := dk_61 (dk_at dksX5_takesEffect_0 5 rfl rfl)
theorem dX5_takesEffect_6 : decode cX5_takesEffect 6 = .ok (.aload_n 0, 1) := dk_42 (dk_at dksX5_takesEffect_0 6 rfl rfl)
theorem dX5_takesEffect_7 : decode cX5_takesEffect 7 = .ok (.getfield 27, 3) := dk_180 0 27 (dk_at dksX5_takesEffect_0 7 rfl rfl)
theorem dX5_takesEffect_10 : decode cX5_takesEffect 10 = .ok (.invokevirtual 186, 3) := dk_182 0 186 (dk_at dksX5_takesEffect_0 10 rfl rfl)
theorem dX5_takesEffect_13 : decode cX5_takesEffect 13 = .ok (.astore_n 3, 1) := dk_78 (dk_at dksX5_takesEffect_0 13 rfl rfl)
theorem dX5_takesEffect_14 : decode cX5_takesEffect 14 = .ok (.aload_n 3, 1) := dk_45 (dk_at dksX5_takesEffect_0 14 rfl rfl)
theorem dX5_takesEffect_15 : decode cX5_takesEffect 15 = .ok (.invokeinterface 190 1, 5) := by decide +kernel
theorem dX5_takesEffect_20 : decode cX5_takesEffect 20 = .ok (.ifCond .eq 68, 3) := dk_153 0 68 (dk_at dksX5_takesEffect_0 20 rfl rfl)
theorem dX5_takesEffect_23 : decode cX5_takesEffect 23 = .ok (.aload_n 3, 1) := dk_45 (dk_at dksX5_takesEffect_0 23 rfl rfl)
theorem dX5_takesEffect_24 : decode cX5_takesEffect 24 = .ok (.invokeinterface 196 1, 5) := by decide +kernel
theorem dX5_takesEffect_29 : decode cX5_takesEffect 29 = .ok (.checkcast 66, 3) := dk_192 0 66 (dk_at dksX5_takesEffect_1 5 rfl rfl)
theorem dX5_takesEffect_32 : decode cX5_takesEffect 32 = .ok (.astore 4, 2) := dk_58 4 (dk_at dksX5_takesEffect_1 8 rfl rfl)
theorem dX5_takesEffect_34 : decode cX5_takesEffect 34 = .ok (.aload 4, 2) := dk_25 4 (dk_at dksX5_takesEffect_1 10 rfl rfl)
theorem dX5_takesEffect_36 : decode cX5_takesEffect 36 = .ok (.getfield 200, 3) := dk_180 0 200 (dk_at dksX5_takesEffect_1 12 rfl rfl)
theorem dX5_takesEffect_39 : decode cX5_takesEffect 39 = .ok (.invokevirtual 186, 3) := dk_182 0 186 (dk_at dksX5_takesEffect_1 15 rfl rfl)
theorem dX5_takesEffect_42 : decode cX5_takesEffect 42 = .ok (.astore 5, 2) := dk_58 5 (dk_at dksX5_takesEffect_1 18 rfl rfl)
theorem dX5_takesEffect_44 : decode cX5_takesEffect 44 = .ok (.aload 5, 2) := dk_25 5 (dk_at dksX5_takesEffect_1 20 rfl rfl)
theorem dX5_takesEffect_46 : decode cX5_takesEffect 46 = .ok (.invokeinterface 190 1, 5) := by decide +kernel
theorem dX5_takesEffect_51 : decode cX5_takesEffect 51 = .ok (.ifCond .eq 34, 3) := dk_153 0 34 (dk_at dksX5_takesEffect_2 5 rfl rfl)
theorem dX5_takesEffect_54 : decode cX5_takesEffect 54 = .ok (.aload 5, 2) := dk_25 5 (dk_at dksX5_takesEffect_2 8 rfl rfl)
theorem dX5_takesEffect_56 : decode cX5_takesEffect 56 = .ok (.invokeinterface 196 1, 5) := by decide +kernel
theorem dX5_takesEffect_61 : decode cX5_takesEffect 61 = .ok (.checkcast 168, 3) := dk_192 0 168 (dk_at dksX5_takesEffect_2 15 rfl rfl)
theorem dX5_takesEffect_64 : decode cX5_takesEffect 64 = .ok (.astore 6, 2) := dk_58 6 (dk_at dksX5_takesEffect_2 18 rfl rfl)
theorem dX5_takesEffect_66 : decode cX5_takesEffect 66 = .ok (.aload_n 1, 1) := dk_43 (dk_at dksX5_takesEffect_2 20 rfl rfl)
theorem dX5_takesEffect_67 : decode cX5_takesEffect 67 = .ok (.getfield 163, 3) := dk_180 0 163 (dk_at dksX5_takesEffect_2 21 rfl rfl)
theorem dX5_takesEffect_70 : decode cX5_takesEffect 70 = .ok (.bipush 111, 2) := dk_16 111 (dk_at dksX5_takesEffect_3 0 rfl rfl)
theorem dX5_takesEffect_72 : decode cX5_takesEffect 72 = .ok (.if_icmp .eq 10, 3) := dk_159 0 10 (dk_at dksX5_takesEffect_3 2 rfl rfl)
theorem dX5_takesEffect_75 : decode cX5_takesEffect 75 = .ok (.aload_n 0, 1) := dk_42 (dk_at dksX5_takesEffect_3 5 rfl rfl)
theorem dX5_takesEffect_76 : decode cX5_takesEffect 76 = .ok (.aload 6, 2) := dk_25 6 (dk_at dksX5_takesEffect_3 6 rfl rfl)
theorem dX5_takesEffect_78 : decode cX5_takesEffect 78 = .ok (.iload_n 2, 1) := dk_28 (dk_at dksX5_takesEffect_3 8 rfl rfl)
theorem dX5_takesEffect_79 : decode cX5_takesEffect 79 = .ok (.invokevirtual 207, 3) := dk_182 0 207 (dk_at dksX5_takesEffect_3 9 rfl rfl)
theorem dX5_takesEffect_82 : decode cX5_takesEffect 82 = .ok (.goto (-38), 3) := dk_167 255 218 (dk_at dksX5_takesEffect_3 12 rfl rfl)
theorem dX5_takesEffect_85 : decode cX5_takesEffect 85 = .ok (.goto (-71), 3) := dk_167 255 185 (dk_at dksX5_takesEffect_3 15 rfl rfl)
theorem dX5_takesEffect_88 : decode cX5_takesEffect 88 = .ok (.aload_n 0, 1) := dk_42 (dk_at dksX5_takesEffect_3 18 rfl rfl)
theorem dX5_takesEffect_89 : decode cX5_takesEffect 89 = .ok (.iload_n 2, 1) := dk_28 (dk_at dksX5_takesEffect_3 19 rfl rfl)
theorem dX5_takesEffect_90 : decode cX5_takesEffect 90 = .ok (.putfield 150, 3) := dk_181 0 150 (dk_at dksX5_takesEffect_3 20 rfl rfl)
theorem dX5_takesEffect_93 : decode cX5_takesEffect 93 = .ok (.aload_n 0, 1) := dk_42 (dk_at dksX5_takesEffect_3 23 rfl rfl)
theorem dX5_takesEffect_94 : decode cX5_takesEffect 94 = .ok (.getfield 30, 3) := dk_180 0 30 (dk_at dksX5_takesEffect_4 0 rfl rfl)
theorem dX5_takesEffect_97 : decode cX5_takesEffect 97 = .ok (.invokevirtual 186, 3) := dk_182 0 186 (dk_at dksX5_takesEffect_4 3 rfl rfl)
theorem dX5_takesEffect_100 : decode cX5_takesEffect 100 = .ok (.astore_n 3, 1) := dk_78 (dk_at dksX5_takesEffect_4 6 rfl rfl)
theorem dX5_takesEffect_101 : decode cX5_takesEffect 101 = .ok (.aload_n 3, 1) := dk_45 (dk_at dksX5_takesEffect_4 7 rfl rfl)
theorem dX5_takesEffect_102 : decode cX5_takesEffect 102 = .ok (.invokeinterface 190 1, 5) := by decide +kernel
theorem dX5_takesEffect_107 : decode cX5_takesEffect 107 = .ok (.ifCond .eq 31, 3) := dk_153 0 31 (dk_at dksX5_takesEffect_4 13 rfl rfl)
theorem dX5_takesEffect_110 : decode cX5_takesEffect 110 = .ok (.aload_n 3, 1) := dk_45 (dk_at dksX5_takesEffect_4 16 rfl rfl)
theorem dX5_takesEffect_111 : decode cX5_takesEffect 111 = .ok (.invokeinterface 196 1, 5) := by decide +kernel
theorem dX5_takesEffect_116 : decode cX5_takesEffect 116 = .ok (.checkcast 138, 3) := dk_192 0 138 (dk_at dksX5_takesEffect_5 0 rfl rfl)
theorem dX5_takesEffect_119 : decode cX5_takesEffect 119 = .ok (.astore 4, 2) := dk_58 4 (dk_at dksX5_takesEffect_5 3 rfl rfl)
theorem dX5_takesEffect_121 : decode cX5_takesEffect 121 = .ok (.aload_n 1, 1) := dk_43 (dk_at dksX5_takesEffect_5 5 rfl rfl)
theorem dX5_takesEffect_122 : decode cX5_takesEffect 122 = .ok (.getfield 211, 3) := dk_180 0 211 (dk_at dksX5_takesEffect_5 6 rfl rfl)
theorem dX5_takesEffect_125 : decode cX5_takesEffect 125 = .ok (.ifCond .eq 10, 3) := dk_153 0 10 (dk_at dksX5_takesEffect_5 9 rfl rfl)
theorem dX5_takesEffect_128 : decode cX5_takesEffect 128 = .ok (.aload_n 0, 1) := dk_42 (dk_at dksX5_takesEffect_5 12 rfl rfl)
theorem dX5_takesEffect_129 : decode cX5_takesEffect 129 = .ok (.aload 4, 2) := dk_25 4 (dk_at dksX5_takesEffect_5 13 rfl rfl)
theorem dX5_takesEffect_131 : decode cX5_takesEffect 131 = .ok (.iload_n 2, 1) := dk_28 (dk_at dksX5_takesEffect_5 15 rfl rfl)
theorem dX5_takesEffect_132 : decode cX5_takesEffect 132 = .ok (.invokevirtual 214, 3) := dk_182 0 214 (dk_at dksX5_takesEffect_5 16 rfl rfl)
theorem dX5_takesEffect_135 : decode cX5_takesEffect 135 = .ok (.goto (-34), 3) := dk_167 255 222 (dk_at dksX5_takesEffect_5 19 rfl rfl)
theorem dX5_takesEffect_138 : decode cX5_takesEffect 138 = .ok (.aload_n 1, 1) := dk_43 (dk_at dksX5_takesEffect_5 22 rfl rfl)
theorem dX5_takesEffect_139 : decode cX5_takesEffect 139 = .ok (.bipush 101, 2) := dk_16 101 (dk_at dksX5_takesEffect_6 0 rfl rfl)
theorem dX5_takesEffect_141 : decode cX5_takesEffect 141 = .ok (.putfield 217, 3) := dk_181 0 217 (dk_at dksX5_takesEffect_6 2 rfl rfl)
theorem dX5_takesEffect_144 : decode cX5_takesEffect 144 = .ok (.aload_n 0, 1) := dk_42 (dk_at dksX5_takesEffect_6 5 rfl rfl)
theorem dX5_takesEffect_145 : decode cX5_takesEffect 145 = .ok (.getfield 40, 3) := dk_180 0 40 (dk_at dksX5_takesEffect_6 6 rfl rfl)
theorem dX5_takesEffect_148 : decode cX5_takesEffect 148 = .ok (.aload_n 1, 1) := dk_43 (dk_at dksX5_takesEffect_6 9 rfl rfl)
theorem dX5_takesEffect_149 : decode cX5_takesEffect 149 = .ok (.invokevirtual 220, 3) := dk_182 0 220 (dk_at dksX5_takesEffect_6 10 rfl rfl)
theorem dX5_takesEffect_152 : decode cX5_takesEffect 152 = .ok (.pop, 1) := dk_87 (dk_at dksX5_takesEffect_6 13 rfl rfl)
theorem dX5_takesEffect_153 : decode cX5_takesEffect 153 = .ok (.return_, 1) := dk_177 (dk_at dksX5_takesEffect_6 14 rfl rfl)
abbrev cX5_moves : ByteArray := prog_24_method_24_code
def yX5_moves : MethodName := ⟨RX5, "moves", "(LSwapWhileModel$Frame;I)V"⟩
def dkwX5_moves_2 : List UInt8 := [167, 0, 7, 43, 180, 0, 179, 181, 0, 179, 43, 28, 181, 0, 167, 177]
abbrev dktX5_moves_2 : List UInt8 := dkwX5_moves_2 ++ []
def dkwX5_moves_1 : List UInt8 := [182, 0, 129, 62, 43, 29, 153, 0, 19, 42, 43, 180, 0, 176, 43, 180, 0, 179, 28, 182, 0, 182]
abbrev dktX5_moves_1 : List UInt8 := dkwX5_moves_1 ++ dktX5_moves_2
def dkwX5_moves_0 : List UInt8 := [43, 180, 0, 167, 42, 180, 0, 150, 160, 0, 53, 42, 42, 180, 0, 150, 28, 184, 0, 170, 43, 180, 0, 176]
abbrev dktX5_moves_0 : List UInt8 := dkwX5_moves_0 ++ dktX5_moves_1
theorem dksX5_moves_0 : cX5_moves.data.toList.drop 0 = dktX5_moves_0 := by decide +kernel
theorem dksX5_moves_1 : cX5_moves.data.toList.drop 24 = dktX5_moves_1 := dk_seg dksX5_moves_0 24 rfl rfl
theorem dksX5_moves_2 : cX5_moves.data.toList.drop 46 = dktX5_moves_2 := dk_seg dksX5_moves_1 22 rfl rfl
theorem dX5_moves_0 : decode cX5_moves 0 = .ok (.aload_n 1, 1) := dk_43 (dk_at dksX5_moves_0 0 rfl rfl)
theorem dX5_moves_1 : decode cX5_moves 1 = .ok (.getfield 167, 3) := dk_180 0 167 (dk_at dksX5_moves_0 1 rfl rfl)
theorem dX5_moves_4 : decode cX5_moves 4 = .ok (.aload_n 0, 1) := dk_42 (dk_at dksX5_moves_0 4 rfl rfl)
theorem dX5_moves_5 : decode cX5_moves 5 = .ok (.getfield 150, 3) := dk_180 0 150 (dk_at dksX5_moves_0 5 rfl rfl)
theorem dX5_moves_8 : decode cX5_moves 8 = .ok (.if_icmp .ne 53, 3) := dk_160 0 53 (dk_at dksX5_moves_0 8 rfl rfl)
theorem dX5_moves_11 : decode cX5_moves 11 = .ok (.aload_n 0, 1) := dk_42 (dk_at dksX5_moves_0 11 rfl rfl)
theorem dX5_moves_12 : decode cX5_moves 12 = .ok (.aload_n 0, 1) := dk_42 (dk_at dksX5_moves_0 12 rfl rfl)
theorem dX5_moves_13 : decode cX5_moves 13 = .ok (.getfield 150, 3) := dk_180 0 150 (dk_at dksX5_moves_0 13 rfl rfl)
theorem dX5_moves_16 : decode cX5_moves 16 = .ok (.iload_n 2, 1) := dk_28 (dk_at dksX5_moves_0 16 rfl rfl)
theorem dX5_moves_17 : decode cX5_moves 17 = .ok (.invokestatic 170, 3) := dk_184 0 170 (dk_at dksX5_moves_0 17 rfl rfl)
theorem dX5_moves_20 : decode cX5_moves 20 = .ok (.aload_n 1, 1) := dk_43 (dk_at dksX5_moves_0 20 rfl rfl)
theorem dX5_moves_21 : decode cX5_moves 21 = .ok (.getfield 176, 3) := dk_180 0 176 (dk_at dksX5_moves_0 21 rfl rfl)
theorem dX5_moves_24 : decode cX5_moves 24 = .ok (.invokevirtual 129, 3) := dk_182 0 129 (dk_at dksX5_moves_1 0 rfl rfl)
theorem dX5_moves_27 : decode cX5_moves 27 = .ok (.istore_n 3, 1) := dk_62 (dk_at dksX5_moves_1 3 rfl rfl)
theorem dX5_moves_28 : decode cX5_moves 28 = .ok (.aload_n 1, 1) := dk_43 (dk_at dksX5_moves_1 4 rfl rfl)
theorem dX5_moves_29 : decode cX5_moves 29 = .ok (.iload_n 3, 1) := dk_29 (dk_at dksX5_moves_1 5 rfl rfl)
theorem dX5_moves_30 : decode cX5_moves 30 = .ok (.ifCond .eq 19, 3) := dk_153 0 19 (dk_at dksX5_moves_1 6 rfl rfl)
theorem dX5_moves_33 : decode cX5_moves 33 = .ok (.aload_n 0, 1) := dk_42 (dk_at dksX5_moves_1 9 rfl rfl)
theorem dX5_moves_34 : decode cX5_moves 34 = .ok (.aload_n 1, 1) := dk_43 (dk_at dksX5_moves_1 10 rfl rfl)
theorem dX5_moves_35 : decode cX5_moves 35 = .ok (.getfield 176, 3) := dk_180 0 176 (dk_at dksX5_moves_1 11 rfl rfl)
theorem dX5_moves_38 : decode cX5_moves 38 = .ok (.aload_n 1, 1) := dk_43 (dk_at dksX5_moves_1 14 rfl rfl)
theorem dX5_moves_39 : decode cX5_moves 39 = .ok (.getfield 179, 3) := dk_180 0 179 (dk_at dksX5_moves_1 15 rfl rfl)
theorem dX5_moves_42 : decode cX5_moves 42 = .ok (.iload_n 2, 1) := dk_28 (dk_at dksX5_moves_1 18 rfl rfl)
theorem dX5_moves_43 : decode cX5_moves 43 = .ok (.invokevirtual 182, 3) := dk_182 0 182 (dk_at dksX5_moves_1 19 rfl rfl)
theorem dX5_moves_46 : decode cX5_moves 46 = .ok (.goto 7, 3) := dk_167 0 7 (dk_at dksX5_moves_2 0 rfl rfl)
theorem dX5_moves_49 : decode cX5_moves 49 = .ok (.aload_n 1, 1) := dk_43 (dk_at dksX5_moves_2 3 rfl rfl)
theorem dX5_moves_50 : decode cX5_moves 50 = .ok (.getfield 179, 3) := dk_180 0 179 (dk_at dksX5_moves_2 4 rfl rfl)
theorem dX5_moves_53 : decode cX5_moves 53 = .ok (.putfield 179, 3) := dk_181 0 179 (dk_at dksX5_moves_2 7 rfl rfl)
theorem dX5_moves_56 : decode cX5_moves 56 = .ok (.aload_n 1, 1) := dk_43 (dk_at dksX5_moves_2 10 rfl rfl)
theorem dX5_moves_57 : decode cX5_moves 57 = .ok (.iload_n 2, 1) := dk_28 (dk_at dksX5_moves_2 11 rfl rfl)
theorem dX5_moves_58 : decode cX5_moves 58 = .ok (.putfield 167, 3) := dk_181 0 167 (dk_at dksX5_moves_2 12 rfl rfl)
theorem dX5_moves_61 : decode cX5_moves 61 = .ok (.return_, 1) := dk_177 (dk_at dksX5_moves_2 15 rfl rfl)
abbrev cX5_carry : ByteArray := prog_24_method_19_code
def yX5_carry : MethodName := ⟨RX5, "carry", "(LSwapWhileModel$Thing;I)V"⟩
def dkwX5_carry_1 : List UInt8 := [181, 0, 143, 177]
abbrev dktX5_carry_1 : List UInt8 := dkwX5_carry_1 ++ []
def dkwX5_carry_0 : List UInt8 := [43, 42, 43, 180, 0, 137, 43, 180, 0, 142, 43, 180, 0, 143, 28, 182, 0, 146, 181, 0, 142, 43, 28]
abbrev dktX5_carry_0 : List UInt8 := dkwX5_carry_0 ++ dktX5_carry_1
theorem dksX5_carry_0 : cX5_carry.data.toList.drop 0 = dktX5_carry_0 := by decide +kernel
theorem dksX5_carry_1 : cX5_carry.data.toList.drop 23 = dktX5_carry_1 := dk_seg dksX5_carry_0 23 rfl rfl
theorem dX5_carry_0 : decode cX5_carry 0 = .ok (.aload_n 1, 1) := dk_43 (dk_at dksX5_carry_0 0 rfl rfl)
theorem dX5_carry_1 : decode cX5_carry 1 = .ok (.aload_n 0, 1) := dk_42 (dk_at dksX5_carry_0 1 rfl rfl)
theorem dX5_carry_2 : decode cX5_carry 2 = .ok (.aload_n 1, 1) := dk_43 (dk_at dksX5_carry_0 2 rfl rfl)
theorem dX5_carry_3 : decode cX5_carry 3 = .ok (.getfield 137, 3) := dk_180 0 137 (dk_at dksX5_carry_0 3 rfl rfl)
theorem dX5_carry_6 : decode cX5_carry 6 = .ok (.aload_n 1, 1) := dk_43 (dk_at dksX5_carry_0 6 rfl rfl)
theorem dX5_carry_7 : decode cX5_carry 7 = .ok (.getfield 142, 3) := dk_180 0 142 (dk_at dksX5_carry_0 7 rfl rfl)
theorem dX5_carry_10 : decode cX5_carry 10 = .ok (.aload_n 1, 1) := dk_43 (dk_at dksX5_carry_0 10 rfl rfl)
theorem dX5_carry_11 : decode cX5_carry 11 = .ok (.getfield 143, 3) := dk_180 0 143 (dk_at dksX5_carry_0 11 rfl rfl)
theorem dX5_carry_14 : decode cX5_carry 14 = .ok (.iload_n 2, 1) := dk_28 (dk_at dksX5_carry_0 14 rfl rfl)
theorem dX5_carry_15 : decode cX5_carry 15 = .ok (.invokevirtual 146, 3) := dk_182 0 146 (dk_at dksX5_carry_0 15 rfl rfl)
theorem dX5_carry_18 : decode cX5_carry 18 = .ok (.putfield 142, 3) := dk_181 0 142 (dk_at dksX5_carry_0 18 rfl rfl)
theorem dX5_carry_21 : decode cX5_carry 21 = .ok (.aload_n 1, 1) := dk_43 (dk_at dksX5_carry_0 21 rfl rfl)
theorem dX5_carry_22 : decode cX5_carry 22 = .ok (.iload_n 2, 1) := dk_28 (dk_at dksX5_carry_0 22 rfl rfl)
theorem dX5_carry_23 : decode cX5_carry 23 = .ok (.putfield 143, 3) := dk_181 0 143 (dk_at dksX5_carry_1 0 rfl rfl)
theorem dX5_carry_26 : decode cX5_carry 26 = .ok (.return_, 1) := dk_177 (dk_at dksX5_carry_1 3 rfl rfl)
abbrev cX5_carry_2 : ByteArray := prog_24_method_18_code
def yX5_carry_2 : MethodName := ⟨RX5, "carry", "(I[III)[I"⟩
def dkwX5_carry_2_8 : List UInt8 := [176]
abbrev dktX5_carry_2_8 : List UInt8 := dkwX5_carry_2_8 ++ []
def dkwX5_carry_2_7 : List UInt8 := [58, 5, 21, 6, 21, 6, 21, 4, 162, 0, 7, 4, 167, 0, 4, 2, 96, 54, 6, 167, 255, 77, 25, 5]
abbrev dktX5_carry_2_7 : List UInt8 := dkwX5_carry_2_7 ++ dktX5_carry_2_8
def dkwX5_carry_2_6 : List UInt8 := [21, 11, 46, 25, 7, 180, 0, 113, 21, 11, 46, 184, 0, 133, 79, 132, 10, 1, 167, 255, 180, 25, 9]
abbrev dktX5_carry_2_6 : List UInt8 := dkwX5_carry_2_6 ++ dktX5_carry_2_7
def dkwX5_carry_2_5 : List UInt8 := [21, 11, 46, 25, 7, 180, 0, 116, 21, 11, 46, 184, 0, 133, 167, 0, 24, 25, 5, 25, 7, 180, 0, 107]
abbrev dktX5_carry_2_5 : List UInt8 := dkwX5_carry_2_5 ++ dktX5_carry_2_6
def dkwX5_carry_2_4 : List UInt8 := [104, 21, 10, 96, 54, 11, 25, 9, 21, 10, 21, 6, 21, 4, 162, 0, 27, 25, 5, 25, 7, 180, 0, 110]
abbrev dktX5_carry_2_4 : List UInt8 := dkwX5_carry_2_4 ++ dktX5_carry_2_5
def dkwX5_carry_2_3 : List UInt8 := [25, 8, 180, 0, 96, 27, 46, 188, 10, 58, 9, 3, 54, 10, 21, 10, 25, 9, 190, 162, 0, 74, 7, 27]
abbrev dktX5_carry_2_3 : List UInt8 := dkwX5_carry_2_3 ++ dktX5_carry_2_4
def dkwX5_carry_2_2 : List UInt8 := [21, 4, 162, 0, 10, 21, 6, 4, 96, 167, 0, 7, 21, 6, 4, 100, 182, 0, 58, 192, 0, 49, 58, 8]
abbrev dktX5_carry_2_2 : List UInt8 := dkwX5_carry_2_2 ++ dktX5_carry_2_3
def dkwX5_carry_2_1 : List UInt8 := [21, 6, 4, 96, 167, 0, 5, 21, 6, 182, 0, 58, 192, 0, 49, 58, 7, 42, 180, 0, 23, 21, 6]
abbrev dktX5_carry_2_1 : List UInt8 := dkwX5_carry_2_1 ++ dktX5_carry_2_2
def dkwX5_carry_2_0 : List UInt8 := [44, 58, 5, 29, 54, 6, 21, 6, 21, 4, 159, 0, 178, 42, 180, 0, 23, 21, 6, 21, 4, 162, 0, 10]
abbrev dktX5_carry_2_0 : List UInt8 := dkwX5_carry_2_0 ++ dktX5_carry_2_1
theorem dksX5_carry_2_0 : cX5_carry_2.data.toList.drop 0 = dktX5_carry_2_0 := by decide +kernel
theorem dksX5_carry_2_1 : cX5_carry_2.data.toList.drop 24 = dktX5_carry_2_1 := dk_seg dksX5_carry_2_0 24 rfl rfl
theorem dksX5_carry_2_2 : cX5_carry_2.data.toList.drop 47 = dktX5_carry_2_2 := dk_seg dksX5_carry_2_1 23 rfl rfl
theorem dksX5_carry_2_3 : cX5_carry_2.data.toList.drop 71 = dktX5_carry_2_3 := dk_seg dksX5_carry_2_2 24 rfl rfl
theorem dksX5_carry_2_4 : cX5_carry_2.data.toList.drop 95 = dktX5_carry_2_4 := dk_seg dksX5_carry_2_3 24 rfl rfl
theorem dksX5_carry_2_5 : cX5_carry_2.data.toList.drop 119 = dktX5_carry_2_5 := dk_seg dksX5_carry_2_4 24 rfl rfl
theorem dksX5_carry_2_6 : cX5_carry_2.data.toList.drop 143 = dktX5_carry_2_6 := dk_seg dksX5_carry_2_5 24 rfl rfl
theorem dksX5_carry_2_7 : cX5_carry_2.data.toList.drop 166 = dktX5_carry_2_7 := dk_seg dksX5_carry_2_6 23 rfl rfl
theorem dksX5_carry_2_8 : cX5_carry_2.data.toList.drop 190 = dktX5_carry_2_8 := dk_seg dksX5_carry_2_7 24 rfl rfl
theorem dX5_carry_2_0 : decode cX5_carry_2 0 = .ok (.aload_n 2, 1) := dk_44 (dk_at dksX5_carry_2_0 0 rfl rfl)
theorem dX5_carry_2_1 : decode cX5_carry_2 1 = .ok (.astore 5, 2) := dk_58 5 (dk_at dksX5_carry_2_0 1 rfl rfl)
theorem dX5_carry_2_3 : decode cX5_carry_2 3 = .ok (.iload_n 3, 1) := dk_29 (dk_at dksX5_carry_2_0 3 rfl rfl)
theorem dX5_carry_2_4 : decode cX5_carry_2 4 = .ok (.istore 6, 2) := dk_54 6 (dk_at dksX5_carry_2_0 4 rfl rfl)
theorem dX5_carry_2_6 : decode cX5_carry_2 6 = .ok (.iload 6, 2) := dk_21 6 (dk_at dksX5_carry_2_0 6 rfl rfl)
theorem dX5_carry_2_8 : decode cX5_carry_2 8 = .ok (.iload 4, 2) := dk_21 4 (dk_at dksX5_carry_2_0 8 rfl rfl)
theorem dX5_carry_2_10 : decode cX5_carry_2 10 = .ok (.if_icmp .eq 178, 3) := dk_159 0 178 (dk_at dksX5_carry_2_0 10 rfl rfl)
theorem dX5_carry_2_13 : decode cX5_carry_2 13 = .ok (.aload_n 0, 1) := dk_42 (dk_at dksX5_carry_2_0 13 rfl rfl)
theorem dX5_carry_2_14 : decode cX5_carry_2 14 = .ok (.getfield 23, 3) := dk_180 0 23 (dk_at dksX5_carry_2_0 14 rfl rfl)
theorem dX5_carry_2_17 : decode cX5_carry_2 17 = .ok (.iload 6, 2) := dk_21 6 (dk_at dksX5_carry_2_0 17 rfl rfl)
theorem dX5_carry_2_19 : decode cX5_carry_2 19 = .ok (.iload 4, 2) := dk_21 4 (dk_at dksX5_carry_2_0 19 rfl rfl)
theorem dX5_carry_2_21 : decode cX5_carry_2 21 = .ok (.if_icmp .ge 10, 3) := dk_162 0 10 (dk_at dksX5_carry_2_0 21 rfl rfl)
theorem dX5_carry_2_24 : decode cX5_carry_2 24 = .ok (.iload 6, 2) := dk_21 6 (dk_at dksX5_carry_2_1 0 rfl rfl)
theorem dX5_carry_2_26 : decode cX5_carry_2 26 = .ok (.iconst 1, 1) := dk_4 (dk_at dksX5_carry_2_1 2 rfl rfl)
theorem dX5_carry_2_27 : decode cX5_carry_2 27 = .ok (.iadd, 1) := dk_96 (dk_at dksX5_carry_2_1 3 rfl rfl)
theorem dX5_carry_2_28 : decode cX5_carry_2 28 = .ok (.goto 5, 3) := dk_167 0 5 (dk_at dksX5_carry_2_1 4 rfl rfl)
theorem dX5_carry_2_31 : decode cX5_carry_2 31 = .ok (.iload 6, 2) := dk_21 6 (dk_at dksX5_carry_2_1 7 rfl rfl)
theorem dX5_carry_2_33 : decode cX5_carry_2 33 = .ok (.invokevirtual 58, 3) := dk_182 0 58 (dk_at dksX5_carry_2_1 9 rfl rfl)
theorem dX5_carry_2_36 : decode cX5_carry_2 36 = .ok (.checkcast 49, 3) := dk_192 0 49 (dk_at dksX5_carry_2_1 12 rfl rfl)
theorem dX5_carry_2_39 : decode cX5_carry_2 39 = .ok (.astore 7, 2) := dk_58 7 (dk_at dksX5_carry_2_1 15 rfl rfl)
theorem dX5_carry_2_41 : decode cX5_carry_2 41 = .ok (.aload_n 0, 1) := dk_42 (dk_at dksX5_carry_2_1 17 rfl rfl)
theorem dX5_carry_2_42 : decode cX5_carry_2 42 = .ok (.getfield 23, 3) := dk_180 0 23 (dk_at dksX5_carry_2_1 18 rfl rfl)
theorem dX5_carry_2_45 : decode cX5_carry_2 45 = .ok (.iload 6, 2) := dk_21 6 (dk_at dksX5_carry_2_1 21 rfl rfl)
theorem dX5_carry_2_47 : decode cX5_carry_2 47 = .ok (.iload 4, 2) := dk_21 4 (dk_at dksX5_carry_2_2 0 rfl rfl)
theorem dX5_carry_2_49 : decode cX5_carry_2 49 = .ok (.if_icmp .ge 10, 3) := dk_162 0 10 (dk_at dksX5_carry_2_2 2 rfl rfl)
theorem dX5_carry_2_52 : decode cX5_carry_2 52 = .ok (.iload 6, 2) := dk_21 6 (dk_at dksX5_carry_2_2 5 rfl rfl)
theorem dX5_carry_2_54 : decode cX5_carry_2 54 = .ok (.iconst 1, 1) := dk_4 (dk_at dksX5_carry_2_2 7 rfl rfl)
theorem dX5_carry_2_55 : decode cX5_carry_2 55 = .ok (.iadd, 1) := dk_96 (dk_at dksX5_carry_2_2 8 rfl rfl)
theorem dX5_carry_2_56 : decode cX5_carry_2 56 = .ok (.goto 7, 3) := dk_167 0 7 (dk_at dksX5_carry_2_2 9 rfl rfl)
theorem dX5_carry_2_59 : decode cX5_carry_2 59 = .ok (.iload 6, 2) := dk_21 6 (dk_at dksX5_carry_2_2 12 rfl rfl)
theorem dX5_carry_2_61 : decode cX5_carry_2 61 = .ok (.iconst 1, 1) := dk_4 (dk_at dksX5_carry_2_2 14 rfl rfl)
theorem dX5_carry_2_62 : decode cX5_carry_2 62 = .ok (.isub, 1) := dk_100 (dk_at dksX5_carry_2_2 15 rfl rfl)
theorem dX5_carry_2_63 : decode cX5_carry_2 63 = .ok (.invokevirtual 58, 3) := dk_182 0 58 (dk_at dksX5_carry_2_2 16 rfl rfl)
theorem dX5_carry_2_66 : decode cX5_carry_2 66 = .ok (.checkcast 49, 3) := dk_192 0 49 (dk_at dksX5_carry_2_2 19 rfl rfl)
theorem dX5_carry_2_69 : decode cX5_carry_2 69 = .ok (.astore 8, 2) := dk_58 8 (dk_at dksX5_carry_2_2 22 rfl rfl)
theorem dX5_carry_2_71 : decode cX5_carry_2 71 = .ok (.aload 8, 2) := dk_25 8 (dk_at dksX5_carry_2_3 0 rfl rfl)
theorem dX5_carry_2_73 : decode cX5_carry_2 73 = .ok (.getfield 96, 3) := dk_180 0 96 (dk_at dksX5_carry_2_3 2 rfl rfl)
theorem dX5_carry_2_76 : decode cX5_carry_2 76 = .ok (.iload_n 1, 1) := dk_27 (dk_at dksX5_carry_2_3 5 rfl rfl)
theorem dX5_carry_2_77 : decode cX5_carry_2 77 = .ok (.iaload, 1) := dk_46 (dk_at dksX5_carry_2_3 6 rfl rfl)
theorem dX5_carry_2_78 : decode cX5_carry_2 78 = .ok (.newarray .int, 2) := dk_188_10 (dk_at dksX5_carry_2_3 7 rfl rfl)
theorem dX5_carry_2_80 : decode cX5_carry_2 80 = .ok (.astore 9, 2) := dk_58 9 (dk_at dksX5_carry_2_3 9 rfl rfl)
theorem dX5_carry_2_82 : decode cX5_carry_2 82 = .ok (.iconst 0, 1) := dk_3 (dk_at dksX5_carry_2_3 11 rfl rfl)
theorem dX5_carry_2_83 : decode cX5_carry_2 83 = .ok (.istore 10, 2) := dk_54 10 (dk_at dksX5_carry_2_3 12 rfl rfl)
theorem dX5_carry_2_85 : decode cX5_carry_2 85 = .ok (.iload 10, 2) := dk_21 10 (dk_at dksX5_carry_2_3 14 rfl rfl)
theorem dX5_carry_2_87 : decode cX5_carry_2 87 = .ok (.aload 9, 2) := dk_25 9 (dk_at dksX5_carry_2_3 16 rfl rfl)
theorem dX5_carry_2_89 : decode cX5_carry_2 89 = .ok (.arraylength, 1) := dk_190 (dk_at dksX5_carry_2_3 18 rfl rfl)
theorem dX5_carry_2_90 : decode cX5_carry_2 90 = .ok (.if_icmp .ge 74, 3) := dk_162 0 74 (dk_at dksX5_carry_2_3 19 rfl rfl)
theorem dX5_carry_2_93 : decode cX5_carry_2 93 = .ok (.iconst 4, 1) := dk_7 (dk_at dksX5_carry_2_3 22 rfl rfl)
theorem dX5_carry_2_94 : decode cX5_carry_2 94 = .ok (.iload_n 1, 1) := dk_27 (dk_at dksX5_carry_2_3 23 rfl rfl)
theorem dX5_carry_2_95 : decode cX5_carry_2 95 = .ok (.imul, 1) := dk_104 (dk_at dksX5_carry_2_4 0 rfl rfl)
theorem dX5_carry_2_96 : decode cX5_carry_2 96 = .ok (.iload 10, 2) := dk_21 10 (dk_at dksX5_carry_2_4 1 rfl rfl)
theorem dX5_carry_2_98 : decode cX5_carry_2 98 = .ok (.iadd, 1) := dk_96 (dk_at dksX5_carry_2_4 3 rfl rfl)
theorem dX5_carry_2_99 : decode cX5_carry_2 99 = .ok (.istore 11, 2) := dk_54 11 (dk_at dksX5_carry_2_4 4 rfl rfl)
theorem dX5_carry_2_101 : decode cX5_carry_2 101 = .ok (.aload 9, 2) := dk_25 9 (dk_at dksX5_carry_2_4 6 rfl rfl)
theorem dX5_carry_2_103 : decode cX5_carry_2 103 = .ok (.iload 10, 2) := dk_21 10 (dk_at dksX5_carry_2_4 8 rfl rfl)
theorem dX5_carry_2_105 : decode cX5_carry_2 105 = .ok (.iload 6, 2) := dk_21 6 (dk_at dksX5_carry_2_4 10 rfl rfl)
theorem dX5_carry_2_107 : decode cX5_carry_2 107 = .ok (.iload 4, 2) := dk_21 4 (dk_at dksX5_carry_2_4 12 rfl rfl)
theorem dX5_carry_2_109 : decode cX5_carry_2 109 = .ok (.if_icmp .ge 27, 3) := dk_162 0 27 (dk_at dksX5_carry_2_4 14 rfl rfl)
theorem dX5_carry_2_112 : decode cX5_carry_2 112 = .ok (.aload 5, 2) := dk_25 5 (dk_at dksX5_carry_2_4 17 rfl rfl)
theorem dX5_carry_2_114 : decode cX5_carry_2 114 = .ok (.aload 7, 2) := dk_25 7 (dk_at dksX5_carry_2_4 19 rfl rfl)
theorem dX5_carry_2_116 : decode cX5_carry_2 116 = .ok (.getfield 110, 3) := dk_180 0 110 (dk_at dksX5_carry_2_4 21 rfl rfl)
theorem dX5_carry_2_119 : decode cX5_carry_2 119 = .ok (.iload 11, 2) := dk_21 11 (dk_at dksX5_carry_2_5 0 rfl rfl)
theorem dX5_carry_2_121 : decode cX5_carry_2 121 = .ok (.iaload, 1) := dk_46 (dk_at dksX5_carry_2_5 2 rfl rfl)
theorem dX5_carry_2_122 : decode cX5_carry_2 122 = .ok (.aload 7, 2) := dk_25 7 (dk_at dksX5_carry_2_5 3 rfl rfl)
theorem dX5_carry_2_124 : decode cX5_carry_2 124 = .ok (.getfield 116, 3) := dk_180 0 116 (dk_at dksX5_carry_2_5 5 rfl rfl)
theorem dX5_carry_2_127 : decode cX5_carry_2 127 = .ok (.iload 11, 2) := dk_21 11 (dk_at dksX5_carry_2_5 8 rfl rfl)
theorem dX5_carry_2_129 : decode cX5_carry_2 129 = .ok (.iaload, 1) := dk_46 (dk_at dksX5_carry_2_5 10 rfl rfl)
theorem dX5_carry_2_130 : decode cX5_carry_2 130 = .ok (.invokestatic 133, 3) := dk_184 0 133 (dk_at dksX5_carry_2_5 11 rfl rfl)
theorem dX5_carry_2_133 : decode cX5_carry_2 133 = .ok (.goto 24, 3) := dk_167 0 24 (dk_at dksX5_carry_2_5 14 rfl rfl)
theorem dX5_carry_2_136 : decode cX5_carry_2 136 = .ok (.aload 5, 2) := dk_25 5 (dk_at dksX5_carry_2_5 17 rfl rfl)
theorem dX5_carry_2_138 : decode cX5_carry_2 138 = .ok (.aload 7, 2) := dk_25 7 (dk_at dksX5_carry_2_5 19 rfl rfl)
theorem dX5_carry_2_140 : decode cX5_carry_2 140 = .ok (.getfield 107, 3) := dk_180 0 107 (dk_at dksX5_carry_2_5 21 rfl rfl)
theorem dX5_carry_2_143 : decode cX5_carry_2 143 = .ok (.iload 11, 2) := dk_21 11 (dk_at dksX5_carry_2_6 0 rfl rfl)
theorem dX5_carry_2_145 : decode cX5_carry_2 145 = .ok (.iaload, 1) := dk_46 (dk_at dksX5_carry_2_6 2 rfl rfl)
theorem dX5_carry_2_146 : decode cX5_carry_2 146 = .ok (.aload 7, 2) := dk_25 7 (dk_at dksX5_carry_2_6 3 rfl rfl)
theorem dX5_carry_2_148 : decode cX5_carry_2 148 = .ok (.getfield 113, 3) := dk_180 0 113 (dk_at dksX5_carry_2_6 5 rfl rfl)
theorem dX5_carry_2_151 : decode cX5_carry_2 151 = .ok (.iload 11, 2) := dk_21 11 (dk_at dksX5_carry_2_6 8 rfl rfl)
theorem dX5_carry_2_153 : decode cX5_carry_2 153 = .ok (.iaload, 1) := dk_46 (dk_at dksX5_carry_2_6 10 rfl rfl)
theorem dX5_carry_2_154 : decode cX5_carry_2 154 = .ok (.invokestatic 133, 3) := dk_184 0 133 (dk_at dksX5_carry_2_6 11 rfl rfl)
theorem dX5_carry_2_157 : decode cX5_carry_2 157 = .ok (.iastore, 1) := dk_79 (dk_at dksX5_carry_2_6 14 rfl rfl)
theorem dX5_carry_2_158 : decode cX5_carry_2 158 = .ok (.iinc 10 1, 3) := dk_132 10 1 (dk_at dksX5_carry_2_6 15 rfl rfl)
theorem dX5_carry_2_161 : decode cX5_carry_2 161 = .ok (.goto (-76), 3) := dk_167 255 180 (dk_at dksX5_carry_2_6 18 rfl rfl)
theorem dX5_carry_2_164 : decode cX5_carry_2 164 = .ok (.aload 9, 2) := dk_25 9 (dk_at dksX5_carry_2_6 21 rfl rfl)
theorem dX5_carry_2_166 : decode cX5_carry_2 166 = .ok (.astore 5, 2) := dk_58 5 (dk_at dksX5_carry_2_7 0 rfl rfl)
theorem dX5_carry_2_168 : decode cX5_carry_2 168 = .ok (.iload 6, 2) := dk_21 6 (dk_at dksX5_carry_2_7 2 rfl rfl)
theorem dX5_carry_2_170 : decode cX5_carry_2 170 = .ok (.iload 6, 2) := dk_21 6 (dk_at dksX5_carry_2_7 4 rfl rfl)
theorem dX5_carry_2_172 : decode cX5_carry_2 172 = .ok (.iload 4, 2) := dk_21 4 (dk_at dksX5_carry_2_7 6 rfl rfl)
theorem dX5_carry_2_174 : decode cX5_carry_2 174 = .ok (.if_icmp .ge 7, 3) := dk_162 0 7 (dk_at dksX5_carry_2_7 8 rfl rfl)
theorem dX5_carry_2_177 : decode cX5_carry_2 177 = .ok (.iconst 1, 1) := dk_4 (dk_at dksX5_carry_2_7 11 rfl rfl)
theorem dX5_carry_2_178 : decode cX5_carry_2 178 = .ok (.goto 4, 3) := dk_167 0 4 (dk_at dksX5_carry_2_7 12 rfl rfl)
theorem dX5_carry_2_181 : decode cX5_carry_2 181 = .ok (.iconst (-1), 1) := dk_2 (dk_at dksX5_carry_2_7 15 rfl rfl)
theorem dX5_carry_2_182 : decode cX5_carry_2 182 = .ok (.iadd, 1) := dk_96 (dk_at dksX5_carry_2_7 16 rfl rfl)
theorem dX5_carry_2_183 : decode cX5_carry_2 183 = .ok (.istore 6, 2) := dk_54 6 (dk_at dksX5_carry_2_7 17 rfl rfl)
theorem dX5_carry_2_185 : decode cX5_carry_2 185 = .ok (.goto (-179), 3) := dk_167 255 77 (dk_at dksX5_carry_2_7 19 rfl rfl)
theorem dX5_carry_2_188 : decode cX5_carry_2 188 = .ok (.aload 5, 2) := dk_25 5 (dk_at dksX5_carry_2_7 22 rfl rfl)
theorem dX5_carry_2_190 : decode cX5_carry_2 190 = .ok (.areturn, 1) := dk_176 (dk_at dksX5_carry_2_8 0 rfl rfl)
abbrev cX5_carried : ByteArray := prog_24_method_17_code
def yX5_carried : MethodName := ⟨RX5, "carried", "([III)I"⟩
def dkwX5_carried_0 : List UInt8 := [27, 2, 160, 0, 7, 3, 167, 0, 6, 42, 27, 46, 28, 96, 172]
abbrev dktX5_carried_0 : List UInt8 := dkwX5_carried_0 ++ []
theorem dksX5_carried_0 : cX5_carried.data.toList.drop 0 = dktX5_carried_0 := by decide +kernel
theorem dX5_carried_0 : decode cX5_carried 0 = .ok (.iload_n 1, 1) := dk_27 (dk_at dksX5_carried_0 0 rfl rfl)
theorem dX5_carried_1 : decode cX5_carried 1 = .ok (.iconst (-1), 1) := dk_2 (dk_at dksX5_carried_0 1 rfl rfl)
theorem dX5_carried_2 : decode cX5_carried 2 = .ok (.if_icmp .ne 7, 3) := dk_160 0 7 (dk_at dksX5_carried_0 2 rfl rfl)
theorem dX5_carried_5 : decode cX5_carried 5 = .ok (.iconst 0, 1) := dk_3 (dk_at dksX5_carried_0 5 rfl rfl)
theorem dX5_carried_6 : decode cX5_carried 6 = .ok (.goto 6, 3) := dk_167 0 6 (dk_at dksX5_carried_0 6 rfl rfl)
theorem dX5_carried_9 : decode cX5_carried 9 = .ok (.aload_n 0, 1) := dk_42 (dk_at dksX5_carried_0 9 rfl rfl)
theorem dX5_carried_10 : decode cX5_carried 10 = .ok (.iload_n 1, 1) := dk_27 (dk_at dksX5_carried_0 10 rfl rfl)
theorem dX5_carried_11 : decode cX5_carried 11 = .ok (.iaload, 1) := dk_46 (dk_at dksX5_carried_0 11 rfl rfl)
theorem dX5_carried_12 : decode cX5_carried 12 = .ok (.iload_n 2, 1) := dk_28 (dk_at dksX5_carried_0 12 rfl rfl)
theorem dX5_carried_13 : decode cX5_carried 13 = .ok (.iadd, 1) := dk_96 (dk_at dksX5_carried_0 13 rfl rfl)
theorem dX5_carried_14 : decode cX5_carried 14 = .ok (.ireturn, 1) := dk_172 (dk_at dksX5_carried_0 14 rfl rfl)
abbrev cX5_step : ByteArray := prog_24_method_39_code
def yX5_step : MethodName := ⟨RX5, "step", "(II)I"⟩
def dkwX5_step_3 : List UInt8 := [29, 172]
abbrev dktX5_step_3 : List UInt8 := dkwX5_step_3 ++ []
def dkwX5_step_2 : List UInt8 := [160, 0, 24, 42, 42, 180, 0, 27, 27, 182, 0, 58, 192, 0, 66, 182, 1, 75, 132, 3, 1, 167, 255, 214]
abbrev dktX5_step_2 : List UInt8 := dkwX5_step_2 ++ dktX5_step_3
def dkwX5_step_1 : List UInt8 := [3, 62, 29, 28, 162, 0, 43, 42, 180, 0, 27, 27, 182, 0, 58, 192, 0, 66, 180, 1, 68, 16, 114]
abbrev dktX5_step_1 : List UInt8 := dkwX5_step_1 ++ dktX5_step_2
def dkwX5_step_0 : List UInt8 := [42, 27, 182, 0, 246, 154, 0, 13, 28, 4, 16, 99, 184, 0, 3, 154, 0, 9, 42, 4, 182, 0, 249, 172]
abbrev dktX5_step_0 : List UInt8 := dkwX5_step_0 ++ dktX5_step_1
theorem dksX5_step_0 : cX5_step.data.toList.drop 0 = dktX5_step_0 := by decide +kernel
theorem dksX5_step_1 : cX5_step.data.toList.drop 24 = dktX5_step_1 := dk_seg dksX5_step_0 24 rfl rfl
theorem dksX5_step_2 : cX5_step.data.toList.drop 47 = dktX5_step_2 := dk_seg dksX5_step_1 23 rfl rfl
theorem dksX5_step_3 : cX5_step.data.toList.drop 71 = dktX5_step_3 := dk_seg dksX5_step_2 24 rfl rfl
theorem dX5_step_0 : decode cX5_step 0 = .ok (.aload_n 0, 1) := dk_42 (dk_at dksX5_step_0 0 rfl rfl)
theorem dX5_step_1 : decode cX5_step 1 = .ok (.iload_n 1, 1) := dk_27 (dk_at dksX5_step_0 1 rfl rfl)
theorem dX5_step_2 : decode cX5_step 2 = .ok (.invokevirtual 246, 3) := dk_182 0 246 (dk_at dksX5_step_0 2 rfl rfl)
theorem dX5_step_5 : decode cX5_step 5 = .ok (.ifCond .ne 13, 3) := dk_154 0 13 (dk_at dksX5_step_0 5 rfl rfl)
theorem dX5_step_8 : decode cX5_step 8 = .ok (.iload_n 2, 1) := dk_28 (dk_at dksX5_step_0 8 rfl rfl)
theorem dX5_step_9 : decode cX5_step 9 = .ok (.iconst 1, 1) := dk_4 (dk_at dksX5_step_0 9 rfl rfl)
theorem dX5_step_10 : decode cX5_step 10 = .ok (.bipush 99, 2) := dk_16 99 (dk_at dksX5_step_0 10 rfl rfl)
theorem dX5_step_12 : decode cX5_step 12 = .ok (.invokestatic 3, 3) := dk_184 0 3 (dk_at dksX5_step_0 12 rfl rfl)
theorem dX5_step_15 : decode cX5_step 15 = .ok (.ifCond .ne 9, 3) := dk_154 0 9 (dk_at dksX5_step_0 15 rfl rfl)
theorem dX5_step_18 : decode cX5_step 18 = .ok (.aload_n 0, 1) := dk_42 (dk_at dksX5_step_0 18 rfl rfl)
theorem dX5_step_19 : decode cX5_step 19 = .ok (.iconst 1, 1) := dk_4 (dk_at dksX5_step_0 19 rfl rfl)
theorem dX5_step_20 : decode cX5_step 20 = .ok (.invokevirtual 249, 3) := dk_182 0 249 (dk_at dksX5_step_0 20 rfl rfl)
theorem dX5_step_23 : decode cX5_step 23 = .ok (.ireturn, 1) := dk_172 (dk_at dksX5_step_0 23 rfl rfl)
theorem dX5_step_24 : decode cX5_step 24 = .ok (.iconst 0, 1) := dk_3 (dk_at dksX5_step_1 0 rfl rfl)
theorem dX5_step_25 : decode cX5_step 25 = .ok (.istore_n 3, 1) := dk_62 (dk_at dksX5_step_1 1 rfl rfl)
theorem dX5_step_26 : decode cX5_step 26 = .ok (.iload_n 3, 1) := dk_29 (dk_at dksX5_step_1 2 rfl rfl)
theorem dX5_step_27 : decode cX5_step 27 = .ok (.iload_n 2, 1) := dk_28 (dk_at dksX5_step_1 3 rfl rfl)
theorem dX5_step_28 : decode cX5_step 28 = .ok (.if_icmp .ge 43, 3) := dk_162 0 43 (dk_at dksX5_step_1 4 rfl rfl)
theorem dX5_step_31 : decode cX5_step 31 = .ok (.aload_n 0, 1) := dk_42 (dk_at dksX5_step_1 7 rfl rfl)
theorem dX5_step_32 : decode cX5_step 32 = .ok (.getfield 27, 3) := dk_180 0 27 (dk_at dksX5_step_1 8 rfl rfl)
theorem dX5_step_35 : decode cX5_step 35 = .ok (.iload_n 1, 1) := dk_27 (dk_at dksX5_step_1 11 rfl rfl)
theorem dX5_step_36 : decode cX5_step 36 = .ok (.invokevirtual 58, 3) := dk_182 0 58 (dk_at dksX5_step_1 12 rfl rfl)
theorem dX5_step_39 : decode cX5_step 39 = .ok (.checkcast 66, 3) := dk_192 0 66 (dk_at dksX5_step_1 15 rfl rfl)
theorem dX5_step_42 : decode cX5_step 42 = .ok (.getfield 324, 3) := dk_180 1 68 (dk_at dksX5_step_1 18 rfl rfl)
theorem dX5_step_45 : decode cX5_step 45 = .ok (.bipush 114, 2) := dk_16 114 (dk_at dksX5_step_1 21 rfl rfl)
theorem dX5_step_47 : decode cX5_step 47 = .ok (.if_icmp .ne 24, 3) := dk_160 0 24 (dk_at dksX5_step_2 0 rfl rfl)
theorem dX5_step_50 : decode cX5_step 50 = .ok (.aload_n 0, 1) := dk_42 (dk_at dksX5_step_2 3 rfl rfl)
theorem dX5_step_51 : decode cX5_step 51 = .ok (.aload_n 0, 1) := dk_42 (dk_at dksX5_step_2 4 rfl rfl)
theorem dX5_step_52 : decode cX5_step 52 = .ok (.getfield 27, 3) := dk_180 0 27 (dk_at dksX5_step_2 5 rfl rfl)
theorem dX5_step_55 : decode cX5_step 55 = .ok (.iload_n 1, 1) := dk_27 (dk_at dksX5_step_2 8 rfl rfl)
theorem dX5_step_56 : decode cX5_step 56 = .ok (.invokevirtual 58, 3) := dk_182 0 58 (dk_at dksX5_step_2 9 rfl rfl)
theorem dX5_step_59 : decode cX5_step 59 = .ok (.checkcast 66, 3) := dk_192 0 66 (dk_at dksX5_step_2 12 rfl rfl)
theorem dX5_step_62 : decode cX5_step 62 = .ok (.invokevirtual 331, 3) := dk_182 1 75 (dk_at dksX5_step_2 15 rfl rfl)
theorem dX5_step_65 : decode cX5_step 65 = .ok (.iinc 3 1, 3) := dk_132 3 1 (dk_at dksX5_step_2 18 rfl rfl)
theorem dX5_step_68 : decode cX5_step 68 = .ok (.goto (-42), 3) := dk_167 255 214 (dk_at dksX5_step_2 21 rfl rfl)
theorem dX5_step_71 : decode cX5_step 71 = .ok (.iload_n 3, 1) := dk_29 (dk_at dksX5_step_3 0 rfl rfl)
theorem dX5_step_72 : decode cX5_step 72 = .ok (.ireturn, 1) := dk_172 (dk_at dksX5_step_3 1 rfl rfl)
abbrev cX5_oneStep : ByteArray := prog_24_method_38_code
def yX5_oneStep : MethodName := ⟨RX5, "oneStep", "(LSwapWhileModel$Lane;)V"⟩
def dkwX5_oneStep_4 : List UInt8 := [182, 1, 6, 42, 182, 1, 72, 42, 182, 1, 6, 177]
abbrev dktX5_oneStep_4 : List UInt8 := dkwX5_oneStep_4 ++ []
def dkwX5_oneStep_3 : List UInt8 := [45, 44, 180, 0, 179, 182, 0, 58, 192, 0, 88, 182, 1, 69, 167, 0, 9, 42, 43, 3, 182, 1, 61, 42]
abbrev dktX5_oneStep_3 : List UInt8 := dkwX5_oneStep_3 ++ dktX5_oneStep_4
def dkwX5_oneStep_2 : List UInt8 := [42, 89, 180, 0, 236, 10, 97, 181, 0, 236, 44, 180, 0, 179, 45, 182, 0, 73, 162, 0, 23, 42, 43, 44]
abbrev dktX5_oneStep_2 : List UInt8 := dkwX5_oneStep_2 ++ dktX5_oneStep_3
def dkwX5_oneStep_1 : List UInt8 := [44, 180, 0, 167, 182, 0, 58, 192, 0, 49, 180, 0, 85, 44, 180, 0, 176, 182, 0, 58, 192, 0, 20, 78]
abbrev dktX5_oneStep_1 : List UInt8 := dkwX5_oneStep_1 ++ dktX5_oneStep_2
def dkwX5_oneStep_0 : List UInt8 := [43, 180, 0, 200, 43, 180, 0, 200, 182, 0, 73, 4, 100, 182, 0, 58, 192, 0, 168, 77, 42, 180, 0, 23]
abbrev dktX5_oneStep_0 : List UInt8 := dkwX5_oneStep_0 ++ dktX5_oneStep_1
theorem dksX5_oneStep_0 : cX5_oneStep.data.toList.drop 0 = dktX5_oneStep_0 := by decide +kernel
theorem dksX5_oneStep_1 : cX5_oneStep.data.toList.drop 24 = dktX5_oneStep_1 := dk_seg dksX5_oneStep_0 24 rfl rfl
theorem dksX5_oneStep_2 : cX5_oneStep.data.toList.drop 48 = dktX5_oneStep_2 := dk_seg dksX5_oneStep_1 24 rfl rfl
theorem dksX5_oneStep_3 : cX5_oneStep.data.toList.drop 72 = dktX5_oneStep_3 := dk_seg dksX5_oneStep_2 24 rfl rfl
theorem dksX5_oneStep_4 : cX5_oneStep.data.toList.drop 96 = dktX5_oneStep_4 := dk_seg dksX5_oneStep_3 24 rfl rfl
theorem dX5_oneStep_0 : decode cX5_oneStep 0 = .ok (.aload_n 1, 1) := dk_43 (dk_at dksX5_oneStep_0 0 rfl rfl)
theorem dX5_oneStep_1 : decode cX5_oneStep 1 = .ok (.getfield 200, 3) := dk_180 0 200 (dk_at dksX5_oneStep_0 1 rfl rfl)
theorem dX5_oneStep_4 : decode cX5_oneStep 4 = .ok (.aload_n 1, 1) := dk_43 (dk_at dksX5_oneStep_0 4 rfl rfl)
theorem dX5_oneStep_5 : decode cX5_oneStep 5 = .ok (.getfield 200, 3) := dk_180 0 200 (dk_at dksX5_oneStep_0 5 rfl rfl)
theorem dX5_oneStep_8 : decode cX5_oneStep 8 = .ok (.invokevirtual 73, 3) := dk_182 0 73 (dk_at dksX5_oneStep_0 8 rfl rfl)
theorem dX5_oneStep_11 : decode cX5_oneStep 11 = .ok (.iconst 1, 1) := dk_4 (dk_at dksX5_oneStep_0 11 rfl rfl)
theorem dX5_oneStep_12 : decode cX5_oneStep 12 = .ok (.isub, 1) := dk_100 (dk_at dksX5_oneStep_0 12 rfl rfl)
theorem dX5_oneStep_13 : decode cX5_oneStep 13 = .ok (.invokevirtual 58, 3) := dk_182 0 58 (dk_at dksX5_oneStep_0 13 rfl rfl)
theorem dX5_oneStep_16 : decode cX5_oneStep 16 = .ok (.checkcast 168, 3) := dk_192 0 168 (dk_at dksX5_oneStep_0 16 rfl rfl)
theorem dX5_oneStep_19 : decode cX5_oneStep 19 = .ok (.astore_n 2, 1) := dk_77 (dk_at dksX5_oneStep_0 19 rfl rfl)
theorem dX5_oneStep_20 : decode cX5_oneStep 20 = .ok (.aload_n 0, 1) := dk_42 (dk_at dksX5_oneStep_0 20 rfl rfl)
theorem dX5_oneStep_21 : decode cX5_oneStep 21 = .ok (.getfield 23, 3) := dk_180 0 23 (dk_at dksX5_oneStep_0 21 rfl rfl)
theorem dX5_oneStep_24 : decode cX5_oneStep 24 = .ok (.aload_n 2, 1) := dk_44 (dk_at dksX5_oneStep_1 0 rfl rfl)
theorem dX5_oneStep_25 : decode cX5_oneStep 25 = .ok (.getfield 167, 3) := dk_180 0 167 (dk_at dksX5_oneStep_1 1 rfl rfl)
theorem dX5_oneStep_28 : decode cX5_oneStep 28 = .ok (.invokevirtual 58, 3) := dk_182 0 58 (dk_at dksX5_oneStep_1 4 rfl rfl)
theorem dX5_oneStep_31 : decode cX5_oneStep 31 = .ok (.checkcast 49, 3) := dk_192 0 49 (dk_at dksX5_oneStep_1 7 rfl rfl)
theorem dX5_oneStep_34 : decode cX5_oneStep 34 = .ok (.getfield 85, 3) := dk_180 0 85 (dk_at dksX5_oneStep_1 10 rfl rfl)
theorem dX5_oneStep_37 : decode cX5_oneStep 37 = .ok (.aload_n 2, 1) := dk_44 (dk_at dksX5_oneStep_1 13 rfl rfl)
theorem dX5_oneStep_38 : decode cX5_oneStep 38 = .ok (.getfield 176, 3) := dk_180 0 176 (dk_at dksX5_oneStep_1 14 rfl rfl)
theorem dX5_oneStep_41 : decode cX5_oneStep 41 = .ok (.invokevirtual 58, 3) := dk_182 0 58 (dk_at dksX5_oneStep_1 17 rfl rfl)
theorem dX5_oneStep_44 : decode cX5_oneStep 44 = .ok (.checkcast 20, 3) := dk_192 0 20 (dk_at dksX5_oneStep_1 20 rfl rfl)
theorem dX5_oneStep_47 : decode cX5_oneStep 47 = .ok (.astore_n 3, 1) := dk_78 (dk_at dksX5_oneStep_1 23 rfl rfl)
theorem dX5_oneStep_48 : decode cX5_oneStep 48 = .ok (.aload_n 0, 1) := dk_42 (dk_at dksX5_oneStep_2 0 rfl rfl)
theorem dX5_oneStep_49 : decode cX5_oneStep 49 = .ok (.dup, 1) := dk_89 (dk_at dksX5_oneStep_2 1 rfl rfl)
theorem dX5_oneStep_50 : decode cX5_oneStep 50 = .ok (.getfield 236, 3) := dk_180 0 236 (dk_at dksX5_oneStep_2 2 rfl rfl)
theorem dX5_oneStep_53 : decode cX5_oneStep 53 = .ok (.lconst 1, 1) := dk_10 (dk_at dksX5_oneStep_2 5 rfl rfl)
theorem dX5_oneStep_54 : decode cX5_oneStep 54 = .ok (.ladd, 1) := dk_97 (dk_at dksX5_oneStep_2 6 rfl rfl)
theorem dX5_oneStep_55 : decode cX5_oneStep 55 = .ok (.putfield 236, 3) := dk_181 0 236 (dk_at dksX5_oneStep_2 7 rfl rfl)
theorem dX5_oneStep_58 : decode cX5_oneStep 58 = .ok (.aload_n 2, 1) := dk_44 (dk_at dksX5_oneStep_2 10 rfl rfl)
theorem dX5_oneStep_59 : decode cX5_oneStep 59 = .ok (.getfield 179, 3) := dk_180 0 179 (dk_at dksX5_oneStep_2 11 rfl rfl)
theorem dX5_oneStep_62 : decode cX5_oneStep 62 = .ok (.aload_n 3, 1) := dk_45 (dk_at dksX5_oneStep_2 14 rfl rfl)
theorem dX5_oneStep_63 : decode cX5_oneStep 63 = .ok (.invokevirtual 73, 3) := dk_182 0 73 (dk_at dksX5_oneStep_2 15 rfl rfl)
theorem dX5_oneStep_66 : decode cX5_oneStep 66 = .ok (.if_icmp .ge 23, 3) := dk_162 0 23 (dk_at dksX5_oneStep_2 18 rfl rfl)
theorem dX5_oneStep_69 : decode cX5_oneStep 69 = .ok (.aload_n 0, 1) := dk_42 (dk_at dksX5_oneStep_2 21 rfl rfl)
theorem dX5_oneStep_70 : decode cX5_oneStep 70 = .ok (.aload_n 1, 1) := dk_43 (dk_at dksX5_oneStep_2 22 rfl rfl)
theorem dX5_oneStep_71 : decode cX5_oneStep 71 = .ok (.aload_n 2, 1) := dk_44 (dk_at dksX5_oneStep_2 23 rfl rfl)
theorem dX5_oneStep_72 : decode cX5_oneStep 72 = .ok (.aload_n 3, 1) := dk_45 (dk_at dksX5_oneStep_3 0 rfl rfl)
theorem dX5_oneStep_73 : decode cX5_oneStep 73 = .ok (.aload_n 2, 1) := dk_44 (dk_at dksX5_oneStep_3 1 rfl rfl)
theorem dX5_oneStep_74 : decode cX5_oneStep 74 = .ok (.getfield 179, 3) := dk_180 0 179 (dk_at dksX5_oneStep_3 2 rfl rfl)
theorem dX5_oneStep_77 : decode cX5_oneStep 77 = .ok (.invokevirtual 58, 3) := dk_182 0 58 (dk_at dksX5_oneStep_3 5 rfl rfl)
theorem dX5_oneStep_80 : decode cX5_oneStep 80 = .ok (.checkcast 88, 3) := dk_192 0 88 (dk_at dksX5_oneStep_3 8 rfl rfl)
theorem dX5_oneStep_83 : decode cX5_oneStep 83 = .ok (.invokevirtual 325, 3) := dk_182 1 69 (dk_at dksX5_oneStep_3 11 rfl rfl)
theorem dX5_oneStep_86 : decode cX5_oneStep 86 = .ok (.goto 9, 3) := dk_167 0 9 (dk_at dksX5_oneStep_3 14 rfl rfl)
theorem dX5_oneStep_89 : decode cX5_oneStep 89 = .ok (.aload_n 0, 1) := dk_42 (dk_at dksX5_oneStep_3 17 rfl rfl)
theorem dX5_oneStep_90 : decode cX5_oneStep 90 = .ok (.aload_n 1, 1) := dk_43 (dk_at dksX5_oneStep_3 18 rfl rfl)
theorem dX5_oneStep_91 : decode cX5_oneStep 91 = .ok (.iconst 0, 1) := dk_3 (dk_at dksX5_oneStep_3 19 rfl rfl)
theorem dX5_oneStep_92 : decode cX5_oneStep 92 = .ok (.invokevirtual 317, 3) := dk_182 1 61 (dk_at dksX5_oneStep_3 20 rfl rfl)
theorem dX5_oneStep_95 : decode cX5_oneStep 95 = .ok (.aload_n 0, 1) := dk_42 (dk_at dksX5_oneStep_3 23 rfl rfl)
theorem dX5_oneStep_96 : decode cX5_oneStep 96 = .ok (.invokevirtual 262, 3) := dk_182 1 6 (dk_at dksX5_oneStep_4 0 rfl rfl)
theorem dX5_oneStep_99 : decode cX5_oneStep 99 = .ok (.aload_n 0, 1) := dk_42 (dk_at dksX5_oneStep_4 3 rfl rfl)
theorem dX5_oneStep_100 : decode cX5_oneStep 100 = .ok (.invokevirtual 328, 3) := dk_182 1 72 (dk_at dksX5_oneStep_4 4 rfl rfl)
theorem dX5_oneStep_103 : decode cX5_oneStep 103 = .ok (.aload_n 0, 1) := dk_42 (dk_at dksX5_oneStep_4 7 rfl rfl)
theorem dX5_oneStep_104 : decode cX5_oneStep 104 = .ok (.invokevirtual 262, 3) := dk_182 1 6 (dk_at dksX5_oneStep_4 8 rfl rfl)
theorem dX5_oneStep_107 : decode cX5_oneStep 107 = .ok (.return_, 1) := dk_177 (dk_at dksX5_oneStep_4 11 rfl rfl)
abbrev cX5_does : ByteArray := prog_24_method_37_code
def yX5_does : MethodName := ⟨RX5, "does", "(LSwapWhileModel$Lane;LSwapWhileModel$Frame;LSwapWhileModel$Code;)V"⟩
def dkwX5_does_9 : List UInt8 := [177]
abbrev dktX5_does_9 : List UInt8 := dkwX5_does_9 ++ []
def dkwX5_does_8 : List UInt8 := [167, 0, 24, 42, 44, 25, 4, 45, 180, 1, 23, 46, 182, 1, 65, 167, 0, 9, 43, 16, 119, 181, 1, 68]
abbrev dktX5_does_8 : List UInt8 := dkwX5_does_8 ++ dktX5_does_9
def dkwX5_does_7 : List UInt8 := [180, 1, 23, 45, 180, 1, 17, 79, 167, 0, 39, 42, 43, 25, 4, 45, 180, 1, 23, 46, 182, 1, 61]
abbrev dktX5_does_7 : List UInt8 := dkwX5_does_7 ++ dktX5_does_8
def dkwX5_does_6 : List UInt8 := [42, 43, 44, 42, 180, 0, 33, 45, 180, 1, 23, 46, 45, 182, 1, 57, 167, 0, 55, 42, 180, 0, 33, 45]
abbrev dktX5_does_6 : List UInt8 := dkwX5_does_6 ++ dktX5_does_7
def dkwX5_does_5 : List UInt8 := [44, 180, 0, 179, 181, 0, 179, 167, 0, 88, 42, 43, 44, 45, 180, 1, 23, 45, 182, 1, 57, 167, 0, 74]
abbrev dktX5_does_5 : List UInt8 := dkwX5_does_5 ++ dktX5_does_6
def dkwX5_does_4 : List UInt8 := [182, 1, 54, 167, 0, 116, 44, 25, 4, 45, 180, 1, 23, 46, 158, 0, 10, 45, 180, 1, 17, 167, 0, 7]
abbrev dktX5_does_4 : List UInt8 := dkwX5_does_4 ++ dktX5_does_5
def dkwX5_does_3 : List UInt8 := [45, 180, 1, 17, 46, 96, 79, 167, 0, 136, 42, 43, 44, 45, 182, 1, 50, 167, 0, 126, 42, 43, 44, 45]
abbrev dktX5_does_3 : List UInt8 := dkwX5_does_3 ++ dktX5_does_4
def dkwX5_does_2 : List UInt8 := [25, 4, 45, 180, 1, 23, 45, 180, 1, 17, 79, 167, 0, 156, 25, 4, 45, 180, 1, 23, 92, 46, 25, 4]
abbrev dktX5_does_2 : List UInt8 := dkwX5_does_2 ++ dktX5_does_3
def dkwX5_does_1 : List UInt8 := [170, 0, 0, 0, 0, 0, 1, 1, 0, 0, 0, 97, 0, 0, 0, 116, 0, 0, 0, 110, 0, 0, 1, 1, 0, 0, 0, 178, 0, 0, 1, 1, 0, 0, 1, 1, 0, 0, 1, 1, 0, 0, 0, 140, 0, 0, 1, 1, 0, 0, 1, 1, 0, 0, 0, 150, 0, 0, 0, 96, 0, 0, 1, 1, 0, 0, 1, 1, 0, 0, 0, 130, 0, 0, 0, 242, 0, 0, 0, 140, 0, 0, 1, 1, 0, 0, 0, 227, 0, 0, 0, 211, 0, 0, 0, 192]
abbrev dktX5_does_1 : List UInt8 := dkwX5_does_1 ++ dktX5_does_2
def dkwX5_does_0 : List UInt8 := [44, 180, 1, 11, 58, 4, 44, 89, 180, 0, 179, 4, 96, 181, 0, 179, 45, 180, 1, 29]
abbrev dktX5_does_0 : List UInt8 := dkwX5_does_0 ++ dktX5_does_1
theorem dksX5_does_0 : cX5_does.data.toList.drop 0 = dktX5_does_0 := by decide +kernel
theorem dksX5_does_1 : cX5_does.data.toList.drop 20 = dktX5_does_1 := dk_seg dksX5_does_0 20 rfl rfl
theorem dksX5_does_2 : cX5_does.data.toList.drop 116 = dktX5_does_2 := dk_seg dksX5_does_1 96 rfl rfl
theorem dksX5_does_3 : cX5_does.data.toList.drop 140 = dktX5_does_3 := dk_seg dksX5_does_2 24 rfl rfl
theorem dksX5_does_4 : cX5_does.data.toList.drop 164 = dktX5_does_4 := dk_seg dksX5_does_3 24 rfl rfl
theorem dksX5_does_5 : cX5_does.data.toList.drop 188 = dktX5_does_5 := dk_seg dksX5_does_4 24 rfl rfl
theorem dksX5_does_6 : cX5_does.data.toList.drop 212 = dktX5_does_6 := dk_seg dksX5_does_5 24 rfl rfl
theorem dksX5_does_7 : cX5_does.data.toList.drop 236 = dktX5_does_7 := dk_seg dksX5_does_6 24 rfl rfl
theorem dksX5_does_8 : cX5_does.data.toList.drop 259 = dktX5_does_8 := dk_seg dksX5_does_7 23 rfl rfl
theorem dksX5_does_9 : cX5_does.data.toList.drop 283 = dktX5_does_9 := dk_seg dksX5_does_8 24 rfl rfl
theorem dX5_does_0 : decode cX5_does 0 = .ok (.aload_n 2, 1) := dk_44 (dk_at dksX5_does_0 0 rfl rfl)
theorem dX5_does_1 : decode cX5_does 1 = .ok (.getfield 267, 3) := dk_180 1 11 (dk_at dksX5_does_0 1 rfl rfl)
theorem dX5_does_4 : decode cX5_does 4 = .ok (.astore 4, 2) := dk_58 4 (dk_at dksX5_does_0 4 rfl rfl)
theorem dX5_does_6 : decode cX5_does 6 = .ok (.aload_n 2, 1) := dk_44 (dk_at dksX5_does_0 6 rfl rfl)
theorem dX5_does_7 : decode cX5_does 7 = .ok (.dup, 1) := dk_89 (dk_at dksX5_does_0 7 rfl rfl)
theorem dX5_does_8 : decode cX5_does 8 = .ok (.getfield 179, 3) := dk_180 0 179 (dk_at dksX5_does_0 8 rfl rfl)
theorem dX5_does_11 : decode cX5_does 11 = .ok (.iconst 1, 1) := dk_4 (dk_at dksX5_does_0 11 rfl rfl)
theorem dX5_does_12 : decode cX5_does 12 = .ok (.iadd, 1) := dk_96 (dk_at dksX5_does_0 12 rfl rfl)
theorem dX5_does_13 : decode cX5_does 13 = .ok (.putfield 179, 3) := dk_181 0 179 (dk_at dksX5_does_0 13 rfl rfl)
theorem dX5_does_16 : decode cX5_does 16 = .ok (.aload_n 3, 1) := dk_45 (dk_at dksX5_does_0 16 rfl rfl)
theorem dX5_does_17 : decode cX5_does 17 = .ok (.getfield 285, 3) := dk_180 1 29 (dk_at dksX5_does_0 17 rfl rfl)
theorem dX5_does_20 : decode cX5_does 20 = .ok (.tableswitch 257 97 116 #[110, 257, 178, 257, 257, 257, 140, 257, 257, 150, 96, 257, 257, 130, 242, 140, 257, 227, 211, 192], 96) := by decide +kernel
theorem dX5_does_116 : decode cX5_does 116 = .ok (.aload 4, 2) := dk_25 4 (dk_at dksX5_does_2 0 rfl rfl)
theorem dX5_does_118 : decode cX5_does 118 = .ok (.aload_n 3, 1) := dk_45 (dk_at dksX5_does_2 2 rfl rfl)
theorem dX5_does_119 : decode cX5_does 119 = .ok (.getfield 279, 3) := dk_180 1 23 (dk_at dksX5_does_2 3 rfl rfl)
theorem dX5_does_122 : decode cX5_does 122 = .ok (.aload_n 3, 1) := dk_45 (dk_at dksX5_does_2 6 rfl rfl)
theorem dX5_does_123 : decode cX5_does 123 = .ok (.getfield 273, 3) := dk_180 1 17 (dk_at dksX5_does_2 7 rfl rfl)
theorem dX5_does_126 : decode cX5_does 126 = .ok (.iastore, 1) := dk_79 (dk_at dksX5_does_2 10 rfl rfl)
theorem dX5_does_127 : decode cX5_does 127 = .ok (.goto 156, 3) := dk_167 0 156 (dk_at dksX5_does_2 11 rfl rfl)
theorem dX5_does_130 : decode cX5_does 130 = .ok (.aload 4, 2) := dk_25 4 (dk_at dksX5_does_2 14 rfl rfl)
theorem dX5_does_132 : decode cX5_does 132 = .ok (.aload_n 3, 1) := dk_45 (dk_at dksX5_does_2 16 rfl rfl)
theorem dX5_does_133 : decode cX5_does 133 = .ok (.getfield 279, 3) := dk_180 1 23 (dk_at dksX5_does_2 17 rfl rfl)
theorem dX5_does_136 : decode cX5_does 136 = .ok (.dup2, 1) := dk_92 (dk_at dksX5_does_2 20 rfl rfl)
theorem dX5_does_137 : decode cX5_does 137 = .ok (.iaload, 1) := dk_46 (dk_at dksX5_does_2 21 rfl rfl)
theorem dX5_does_138 : decode cX5_does 138 = .ok (.aload 4, 2) := dk_25 4 (dk_at dksX5_does_2 22 rfl rfl)
theorem dX5_does_140 : decode cX5_does 140 = .ok (.aload_n 3, 1) := dk_45 (dk_at dksX5_does_3 0 rfl rfl)
theorem dX5_does_141 : decode cX5_does 141 = .ok (.getfield 273, 3) := dk_180 1 17 (dk_at dksX5_does_3 1 rfl rfl)
theorem dX5_does_144 : decode cX5_does 144 = .ok (.iaload, 1) := dk_46 (dk_at dksX5_does_3 4 rfl rfl)
theorem dX5_does_145 : decode cX5_does 145 = .ok (.iadd, 1) := dk_96 (dk_at dksX5_does_3 5 rfl rfl)
theorem dX5_does_146 : decode cX5_does 146 = .ok (.iastore, 1) := dk_79 (dk_at dksX5_does_3 6 rfl rfl)
theorem dX5_does_147 : decode cX5_does 147 = .ok (.goto 136, 3) := dk_167 0 136 (dk_at dksX5_does_3 7 rfl rfl)
theorem dX5_does_150 : decode cX5_does 150 = .ok (.aload_n 0, 1) := dk_42 (dk_at dksX5_does_3 10 rfl rfl)
theorem dX5_does_151 : decode cX5_does 151 = .ok (.aload_n 1, 1) := dk_43 (dk_at dksX5_does_3 11 rfl rfl)
theorem dX5_does_152 : decode cX5_does 152 = .ok (.aload_n 2, 1) := dk_44 (dk_at dksX5_does_3 12 rfl rfl)
theorem dX5_does_153 : decode cX5_does 153 = .ok (.aload_n 3, 1) := dk_45 (dk_at dksX5_does_3 13 rfl rfl)
theorem dX5_does_154 : decode cX5_does 154 = .ok (.invokevirtual 306, 3) := dk_182 1 50 (dk_at dksX5_does_3 14 rfl rfl)
theorem dX5_does_157 : decode cX5_does 157 = .ok (.goto 126, 3) := dk_167 0 126 (dk_at dksX5_does_3 17 rfl rfl)
theorem dX5_does_160 : decode cX5_does 160 = .ok (.aload_n 0, 1) := dk_42 (dk_at dksX5_does_3 20 rfl rfl)
theorem dX5_does_161 : decode cX5_does 161 = .ok (.aload_n 1, 1) := dk_43 (dk_at dksX5_does_3 21 rfl rfl)
theorem dX5_does_162 : decode cX5_does 162 = .ok (.aload_n 2, 1) := dk_44 (dk_at dksX5_does_3 22 rfl rfl)
theorem dX5_does_163 : decode cX5_does 163 = .ok (.aload_n 3, 1) := dk_45 (dk_at dksX5_does_3 23 rfl rfl)
theorem dX5_does_164 : decode cX5_does 164 = .ok (.invokevirtual 310, 3) := dk_182 1 54 (dk_at dksX5_does_4 0 rfl rfl)
theorem dX5_does_167 : decode cX5_does 167 = .ok (.goto 116, 3) := dk_167 0 116 (dk_at dksX5_does_4 3 rfl rfl)
theorem dX5_does_170 : decode cX5_does 170 = .ok (.aload_n 2, 1) := dk_44 (dk_at dksX5_does_4 6 rfl rfl)
theorem dX5_does_171 : decode cX5_does 171 = .ok (.aload 4, 2) := dk_25 4 (dk_at dksX5_does_4 7 rfl rfl)
theorem dX5_does_173 : decode cX5_does 173 = .ok (.aload_n 3, 1) := dk_45 (dk_at dksX5_does_4 9 rfl rfl)
theorem dX5_does_174 : decode cX5_does 174 = .ok (.getfield 279, 3) := dk_180 1 23 (dk_at dksX5_does_4 10 rfl rfl)
theorem dX5_does_177 : decode cX5_does 177 = .ok (.iaload, 1) := dk_46 (dk_at dksX5_does_4 13 rfl rfl)
theorem dX5_does_178 : decode cX5_does 178 = .ok (.ifCond .le 10, 3) := dk_158 0 10 (dk_at dksX5_does_4 14 rfl rfl)
theorem dX5_does_181 : decode cX5_does 181 = .ok (.aload_n 3, 1) := dk_45 (dk_at dksX5_does_4 17 rfl rfl)
theorem dX5_does_182 : decode cX5_does 182 = .ok (.getfield 273, 3) := dk_180 1 17 (dk_at dksX5_does_4 18 rfl rfl)
theorem dX5_does_185 : decode cX5_does 185 = .ok (.goto 7, 3) := dk_167 0 7 (dk_at dksX5_does_4 21 rfl rfl)
theorem dX5_does_188 : decode cX5_does 188 = .ok (.aload_n 2, 1) := dk_44 (dk_at dksX5_does_5 0 rfl rfl)
theorem dX5_does_189 : decode cX5_does 189 = .ok (.getfield 179, 3) := dk_180 0 179 (dk_at dksX5_does_5 1 rfl rfl)
theorem dX5_does_192 : decode cX5_does 192 = .ok (.putfield 179, 3) := dk_181 0 179 (dk_at dksX5_does_5 4 rfl rfl)
theorem dX5_does_195 : decode cX5_does 195 = .ok (.goto 88, 3) := dk_167 0 88 (dk_at dksX5_does_5 7 rfl rfl)
theorem dX5_does_198 : decode cX5_does 198 = .ok (.aload_n 0, 1) := dk_42 (dk_at dksX5_does_5 10 rfl rfl)
theorem dX5_does_199 : decode cX5_does 199 = .ok (.aload_n 1, 1) := dk_43 (dk_at dksX5_does_5 11 rfl rfl)
theorem dX5_does_200 : decode cX5_does 200 = .ok (.aload_n 2, 1) := dk_44 (dk_at dksX5_does_5 12 rfl rfl)
theorem dX5_does_201 : decode cX5_does 201 = .ok (.aload_n 3, 1) := dk_45 (dk_at dksX5_does_5 13 rfl rfl)
theorem dX5_does_202 : decode cX5_does 202 = .ok (.getfield 279, 3) := dk_180 1 23 (dk_at dksX5_does_5 14 rfl rfl)
theorem dX5_does_205 : decode cX5_does 205 = .ok (.aload_n 3, 1) := dk_45 (dk_at dksX5_does_5 17 rfl rfl)
theorem dX5_does_206 : decode cX5_does 206 = .ok (.invokevirtual 313, 3) := dk_182 1 57 (dk_at dksX5_does_5 18 rfl rfl)
theorem dX5_does_209 : decode cX5_does 209 = .ok (.goto 74, 3) := dk_167 0 74 (dk_at dksX5_does_5 21 rfl rfl)
theorem dX5_does_212 : decode cX5_does 212 = .ok (.aload_n 0, 1) := dk_42 (dk_at dksX5_does_6 0 rfl rfl)
theorem dX5_does_213 : decode cX5_does 213 = .ok (.aload_n 1, 1) := dk_43 (dk_at dksX5_does_6 1 rfl rfl)
theorem dX5_does_214 : decode cX5_does 214 = .ok (.aload_n 2, 1) := dk_44 (dk_at dksX5_does_6 2 rfl rfl)
theorem dX5_does_215 : decode cX5_does 215 = .ok (.aload_n 0, 1) := dk_42 (dk_at dksX5_does_6 3 rfl rfl)
theorem dX5_does_216 : decode cX5_does 216 = .ok (.getfield 33, 3) := dk_180 0 33 (dk_at dksX5_does_6 4 rfl rfl)
theorem dX5_does_219 : decode cX5_does 219 = .ok (.aload_n 3, 1) := dk_45 (dk_at dksX5_does_6 7 rfl rfl)
theorem dX5_does_220 : decode cX5_does 220 = .ok (.getfield 279, 3) := dk_180 1 23 (dk_at dksX5_does_6 8 rfl rfl)
theorem dX5_does_223 : decode cX5_does 223 = .ok (.iaload, 1) := dk_46 (dk_at dksX5_does_6 11 rfl rfl)
theorem dX5_does_224 : decode cX5_does 224 = .ok (.aload_n 3, 1) := dk_45 (dk_at dksX5_does_6 12 rfl rfl)
theorem dX5_does_225 : decode cX5_does 225 = .ok (.invokevirtual 313, 3) := dk_182 1 57 (dk_at dksX5_does_6 13 rfl rfl)
theorem dX5_does_228 : decode cX5_does 228 = .ok (.goto 55, 3) := dk_167 0 55 (dk_at dksX5_does_6 16 rfl rfl)
theorem dX5_does_231 : decode cX5_does 231 = .ok (.aload_n 0, 1) := dk_42 (dk_at dksX5_does_6 19 rfl rfl)
theorem dX5_does_232 : decode cX5_does 232 = .ok (.getfield 33, 3) := dk_180 0 33 (dk_at dksX5_does_6 20 rfl rfl)
theorem dX5_does_235 : decode cX5_does 235 = .ok (.aload_n 3, 1) := dk_45 (dk_at dksX5_does_6 23 rfl rfl)
theorem dX5_does_236 : decode cX5_does 236 = .ok (.getfield 279, 3) := dk_180 1 23 (dk_at dksX5_does_7 0 rfl rfl)
theorem dX5_does_239 : decode cX5_does 239 = .ok (.aload_n 3, 1) := dk_45 (dk_at dksX5_does_7 3 rfl rfl)
theorem dX5_does_240 : decode cX5_does 240 = .ok (.getfield 273, 3) := dk_180 1 17 (dk_at dksX5_does_7 4 rfl rfl)
theorem dX5_does_243 : decode cX5_does 243 = .ok (.iastore, 1) := dk_79 (dk_at dksX5_does_7 7 rfl rfl)
theorem dX5_does_244 : decode cX5_does 244 = .ok (.goto 39, 3) := dk_167 0 39 (dk_at dksX5_does_7 8 rfl rfl)
theorem dX5_does_247 : decode cX5_does 247 = .ok (.aload_n 0, 1) := dk_42 (dk_at dksX5_does_7 11 rfl rfl)
theorem dX5_does_248 : decode cX5_does 248 = .ok (.aload_n 1, 1) := dk_43 (dk_at dksX5_does_7 12 rfl rfl)
theorem dX5_does_249 : decode cX5_does 249 = .ok (.aload 4, 2) := dk_25 4 (dk_at dksX5_does_7 13 rfl rfl)
theorem dX5_does_251 : decode cX5_does 251 = .ok (.aload_n 3, 1) := dk_45 (dk_at dksX5_does_7 15 rfl rfl)
theorem dX5_does_252 : decode cX5_does 252 = .ok (.getfield 279, 3) := dk_180 1 23 (dk_at dksX5_does_7 16 rfl rfl)
theorem dX5_does_255 : decode cX5_does 255 = .ok (.iaload, 1) := dk_46 (dk_at dksX5_does_7 19 rfl rfl)
theorem dX5_does_256 : decode cX5_does 256 = .ok (.invokevirtual 317, 3) := dk_182 1 61 (dk_at dksX5_does_7 20 rfl rfl)
theorem dX5_does_259 : decode cX5_does 259 = .ok (.goto 24, 3) := dk_167 0 24 (dk_at dksX5_does_8 0 rfl rfl)
theorem dX5_does_262 : decode cX5_does 262 = .ok (.aload_n 0, 1) := dk_42 (dk_at dksX5_does_8 3 rfl rfl)
theorem dX5_does_263 : decode cX5_does 263 = .ok (.aload_n 2, 1) := dk_44 (dk_at dksX5_does_8 4 rfl rfl)
theorem dX5_does_264 : decode cX5_does 264 = .ok (.aload 4, 2) := dk_25 4 (dk_at dksX5_does_8 5 rfl rfl)
theorem dX5_does_266 : decode cX5_does 266 = .ok (.aload_n 3, 1) := dk_45 (dk_at dksX5_does_8 7 rfl rfl)
theorem dX5_does_267 : decode cX5_does 267 = .ok (.getfield 279, 3) := dk_180 1 23 (dk_at dksX5_does_8 8 rfl rfl)
theorem dX5_does_270 : decode cX5_does 270 = .ok (.iaload, 1) := dk_46 (dk_at dksX5_does_8 11 rfl rfl)
theorem dX5_does_271 : decode cX5_does 271 = .ok (.invokevirtual 321, 3) := dk_182 1 65 (dk_at dksX5_does_8 12 rfl rfl)
theorem dX5_does_274 : decode cX5_does 274 = .ok (.goto 9, 3) := dk_167 0 9 (dk_at dksX5_does_8 15 rfl rfl)
theorem dX5_does_277 : decode cX5_does 277 = .ok (.aload_n 1, 1) := dk_43 (dk_at dksX5_does_8 18 rfl rfl)
theorem dX5_does_278 : decode cX5_does 278 = .ok (.bipush 119, 2) := dk_16 119 (dk_at dksX5_does_8 19 rfl rfl)
theorem dX5_does_280 : decode cX5_does 280 = .ok (.putfield 324, 3) := dk_181 1 68 (dk_at dksX5_does_8 21 rfl rfl)
theorem dX5_does_283 : decode cX5_does 283 = .ok (.return_, 1) := dk_177 (dk_at dksX5_does_9 0 rfl rfl)
abbrev cX5_makesNew : ByteArray := prog_24_method_34_code
def yX5_makesNew : MethodName := ⟨RX5, "makesNew", "(LSwapWhileModel$Lane;LSwapWhileModel$Frame;LSwapWhileModel$Code;)V"⟩
def dkwX5_makesNew_3 : List UInt8 := [45, 180, 1, 17, 46, 188, 10, 183, 1, 26, 182, 0, 54, 87, 177]
abbrev dktX5_makesNew_3 : List UInt8 := dkwX5_makesNew_3 ++ []
def dkwX5_makesNew_2 : List UInt8 := [180, 1, 17, 44, 180, 0, 167, 42, 180, 0, 23, 44, 180, 0, 167, 182, 0, 58, 192, 0, 49, 180, 0, 96]
abbrev dktX5_makesNew_2 : List UInt8 := dkwX5_makesNew_2 ++ dktX5_makesNew_3
def dkwX5_makesNew_1 : List UInt8 := [180, 1, 11, 45, 180, 1, 23, 42, 180, 0, 30, 182, 0, 73, 79, 42, 180, 0, 30, 187, 0, 138, 89, 45]
abbrev dktX5_makesNew_1 : List UInt8 := dkwX5_makesNew_1 ++ dktX5_makesNew_2
def dkwX5_makesNew_0 : List UInt8 := [42, 180, 0, 30, 182, 0, 73, 16, 30, 160, 0, 12, 43, 16, 102, 182, 0, 255, 167, 0, 66, 44]
abbrev dktX5_makesNew_0 : List UInt8 := dkwX5_makesNew_0 ++ dktX5_makesNew_1
theorem dksX5_makesNew_0 : cX5_makesNew.data.toList.drop 0 = dktX5_makesNew_0 := by decide +kernel
theorem dksX5_makesNew_1 : cX5_makesNew.data.toList.drop 22 = dktX5_makesNew_1 := dk_seg dksX5_makesNew_0 22 rfl rfl
theorem dksX5_makesNew_2 : cX5_makesNew.data.toList.drop 46 = dktX5_makesNew_2 := dk_seg dksX5_makesNew_1 24 rfl rfl
theorem dksX5_makesNew_3 : cX5_makesNew.data.toList.drop 70 = dktX5_makesNew_3 := dk_seg dksX5_makesNew_2 24 rfl rfl
theorem dX5_makesNew_0 : decode cX5_makesNew 0 = .ok (.aload_n 0, 1) := dk_42 (dk_at dksX5_makesNew_0 0 rfl rfl)
theorem dX5_makesNew_1 : decode cX5_makesNew 1 = .ok (.getfield 30, 3) := dk_180 0 30 (dk_at dksX5_makesNew_0 1 rfl rfl)
theorem dX5_makesNew_4 : decode cX5_makesNew 4 = .ok (.invokevirtual 73, 3) := dk_182 0 73 (dk_at dksX5_makesNew_0 4 rfl rfl)
theorem dX5_makesNew_7 : decode cX5_makesNew 7 = .ok (.bipush 30, 2) := dk_16 30 (dk_at dksX5_makesNew_0 7 rfl rfl)
theorem dX5_makesNew_9 : decode cX5_makesNew 9 = .ok (.if_icmp .ne 12, 3) := dk_160 0 12 (dk_at dksX5_makesNew_0 9 rfl rfl)
theorem dX5_makesNew_12 : decode cX5_makesNew 12 = .ok (.aload_n 1, 1) := dk_43 (dk_at dksX5_makesNew_0 12 rfl rfl)
theorem dX5_makesNew_13 : decode cX5_makesNew 13 = .ok (.bipush 102, 2) := dk_16 102 (dk_at dksX5_makesNew_0 13 rfl rfl)
theorem dX5_makesNew_15 : decode cX5_makesNew 15 = .ok (.invokevirtual 255, 3) := dk_182 0 255 (dk_at dksX5_makesNew_0 15 rfl rfl)
theorem dX5_makesNew_18 : decode cX5_makesNew 18 = .ok (.goto 66, 3) := dk_167 0 66 (dk_at dksX5_makesNew_0 18 rfl rfl)
theorem dX5_makesNew_21 : decode cX5_makesNew 21 = .ok (.aload_n 2, 1) := dk_44 (dk_at dksX5_makesNew_0 21 rfl rfl)
theorem dX5_makesNew_22 : decode cX5_makesNew 22 = .ok (.getfield 267, 3) := dk_180 1 11 (dk_at dksX5_makesNew_1 0 rfl rfl)
theorem dX5_makesNew_25 : decode cX5_makesNew 25 = .ok (.aload_n 3, 1) := dk_45 (dk_at dksX5_makesNew_1 3 rfl rfl)
theorem dX5_makesNew_26 : decode cX5_makesNew 26 = .ok (.getfield 279, 3) := dk_180 1 23 (dk_at dksX5_makesNew_1 4 rfl rfl)
theorem dX5_makesNew_29 : decode cX5_makesNew 29 = .ok (.aload_n 0, 1) := dk_42 (dk_at dksX5_makesNew_1 7 rfl rfl)
theorem dX5_makesNew_30 : decode cX5_makesNew 30 = .ok (.getfield 30, 3) := dk_180 0 30 (dk_at dksX5_makesNew_1 8 rfl rfl)
theorem dX5_makesNew_33 : decode cX5_makesNew 33 = .ok (.invokevirtual 73, 3) := dk_182 0 73 (dk_at dksX5_makesNew_1 11 rfl rfl)
theorem dX5_makesNew_36 : decode cX5_makesNew 36 = .ok (.iastore, 1) := dk_79 (dk_at dksX5_makesNew_1 14 rfl rfl)
theorem dX5_makesNew_37 : decode cX5_makesNew 37 = .ok (.aload_n 0, 1) := dk_42 (dk_at dksX5_makesNew_1 15 rfl rfl)
theorem dX5_makesNew_38 : decode cX5_makesNew 38 = .ok (.getfield 30, 3) := dk_180 0 30 (dk_at dksX5_makesNew_1 16 rfl rfl)
theorem dX5_makesNew_41 : decode cX5_makesNew 41 = .ok (.new 138, 3) := dk_187 0 138 (dk_at dksX5_makesNew_1 19 rfl rfl)
theorem dX5_makesNew_44 : decode cX5_makesNew 44 = .ok (.dup, 1) := dk_89 (dk_at dksX5_makesNew_1 22 rfl rfl)
theorem dX5_makesNew_45 : decode cX5_makesNew 45 = .ok (.aload_n 3, 1) := dk_45 (dk_at dksX5_makesNew_1 23 rfl rfl)
theorem dX5_makesNew_46 : decode cX5_makesNew 46 = .ok (.getfield 273, 3) := dk_180 1 17 (dk_at dksX5_makesNew_2 0 rfl rfl)
theorem dX5_makesNew_49 : decode cX5_makesNew 49 = .ok (.aload_n 2, 1) := dk_44 (dk_at dksX5_makesNew_2 3 rfl rfl)
theorem dX5_makesNew_50 : decode cX5_makesNew 50 = .ok (.getfield 167, 3) := dk_180 0 167 (dk_at dksX5_makesNew_2 4 rfl rfl)
theorem dX5_makesNew_53 : decode cX5_makesNew 53 = .ok (.aload_n 0, 1) := dk_42 (dk_at dksX5_makesNew_2 7 rfl rfl)
theorem dX5_makesNew_54 : decode cX5_makesNew 54 = .ok (.getfield 23, 3) := dk_180 0 23 (dk_at dksX5_makesNew_2 8 rfl rfl)
theorem dX5_makesNew_57 : decode cX5_makesNew 57 = .ok (.aload_n 2, 1) := dk_44 (dk_at dksX5_makesNew_2 11 rfl rfl)
theorem dX5_makesNew_58 : decode cX5_makesNew 58 = .ok (.getfield 167, 3) := dk_180 0 167 (dk_at dksX5_makesNew_2 12 rfl rfl)
theorem dX5_makesNew_61 : decode cX5_makesNew 61 = .ok (.invokevirtual 58, 3) := dk_182 0 58 (dk_at dksX5_makesNew_2 15 rfl rfl)
theorem dX5_makesNew_64 : decode cX5_makesNew 64 = .ok (.checkcast 49, 3) := dk_192 0 49 (dk_at dksX5_makesNew_2 18 rfl rfl)
theorem dX5_makesNew_67 : decode cX5_makesNew 67 = .ok (.getfield 96, 3) := dk_180 0 96 (dk_at dksX5_makesNew_2 21 rfl rfl)
theorem dX5_makesNew_70 : decode cX5_makesNew 70 = .ok (.aload_n 3, 1) := dk_45 (dk_at dksX5_makesNew_3 0 rfl rfl)
theorem dX5_makesNew_71 : decode cX5_makesNew 71 = .ok (.getfield 273, 3) := dk_180 1 17 (dk_at dksX5_makesNew_3 1 rfl rfl)
theorem dX5_makesNew_74 : decode cX5_makesNew 74 = .ok (.iaload, 1) := dk_46 (dk_at dksX5_makesNew_3 4 rfl rfl)
theorem dX5_makesNew_75 : decode cX5_makesNew 75 = .ok (.newarray .int, 2) := dk_188_10 (dk_at dksX5_makesNew_3 5 rfl rfl)
theorem dX5_makesNew_77 : decode cX5_makesNew 77 = .ok (.invokespecial 282, 3) := dk_183 1 26 (dk_at dksX5_makesNew_3 7 rfl rfl)
theorem dX5_makesNew_80 : decode cX5_makesNew 80 = .ok (.invokevirtual 54, 3) := dk_182 0 54 (dk_at dksX5_makesNew_3 10 rfl rfl)
theorem dX5_makesNew_83 : decode cX5_makesNew 83 = .ok (.pop, 1) := dk_87 (dk_at dksX5_makesNew_3 13 rfl rfl)
theorem dX5_makesNew_84 : decode cX5_makesNew 84 = .ok (.return_, 1) := dk_177 (dk_at dksX5_makesNew_3 14 rfl rfl)
abbrev cX5_looksInto : ByteArray := prog_24_method_35_code
def yX5_looksInto : MethodName := ⟨RX5, "looksInto", "(LSwapWhileModel$Lane;LSwapWhileModel$Frame;LSwapWhileModel$Code;)V"⟩
def dkwX5_looksInto_7 : List UInt8 := [25, 7, 180, 0, 142, 21, 5, 44, 180, 1, 11, 45, 180, 1, 23, 46, 79, 177]
abbrev dktX5_looksInto_7 : List UInt8 := dkwX5_looksInto_7 ++ []
def dkwX5_looksInto_6 : List UInt8 := [160, 0, 23, 44, 180, 1, 11, 45, 180, 1, 23, 25, 7, 180, 0, 142, 21, 5, 46, 79, 167, 0, 20]
abbrev dktX5_looksInto_6 : List UInt8 := dkwX5_looksInto_6 ++ dktX5_looksInto_7
def dkwX5_looksInto_5 : List UInt8 := [182, 0, 58, 192, 0, 138, 58, 7, 42, 25, 7, 44, 180, 0, 167, 182, 0, 214, 45, 180, 1, 29, 16, 103]
abbrev dktX5_looksInto_5 : List UInt8 := dkwX5_looksInto_5 ++ dktX5_looksInto_6
def dkwX5_looksInto_4 : List UInt8 := [167, 0, 4, 3, 54, 6, 21, 6, 154, 0, 10, 43, 16, 102, 182, 0, 255, 177, 42, 180, 0, 30, 21, 4]
abbrev dktX5_looksInto_4 : List UInt8 := dkwX5_looksInto_4 ++ dktX5_looksInto_5
def dkwX5_looksInto_3 : List UInt8 := [180, 0, 167, 182, 0, 58, 192, 0, 49, 180, 0, 96, 45, 180, 1, 17, 16, 10, 108, 46, 162, 0, 7, 4]
abbrev dktX5_looksInto_3 : List UInt8 := dkwX5_looksInto_3 ++ dktX5_looksInto_4
def dkwX5_looksInto_2 : List UInt8 := [192, 0, 138, 180, 0, 137, 45, 180, 1, 17, 16, 10, 108, 160, 0, 37, 21, 5, 42, 180, 0, 23, 44]
abbrev dktX5_looksInto_2 : List UInt8 := dkwX5_looksInto_2 ++ dktX5_looksInto_3
def dkwX5_looksInto_1 : List UInt8 := [180, 0, 30, 182, 0, 73, 4, 100, 184, 0, 3, 153, 0, 62, 42, 180, 0, 30, 21, 4, 182, 0, 58]
abbrev dktX5_looksInto_1 : List UInt8 := dkwX5_looksInto_1 ++ dktX5_looksInto_2
def dkwX5_looksInto_0 : List UInt8 := [44, 180, 1, 11, 45, 180, 1, 20, 46, 54, 4, 45, 180, 1, 17, 16, 10, 112, 54, 5, 21, 4, 3, 42]
abbrev dktX5_looksInto_0 : List UInt8 := dkwX5_looksInto_0 ++ dktX5_looksInto_1
theorem dksX5_looksInto_0 : cX5_looksInto.data.toList.drop 0 = dktX5_looksInto_0 := by decide +kernel
theorem dksX5_looksInto_1 : cX5_looksInto.data.toList.drop 24 = dktX5_looksInto_1 := dk_seg dksX5_looksInto_0 24 rfl rfl
theorem dksX5_looksInto_2 : cX5_looksInto.data.toList.drop 47 = dktX5_looksInto_2 := dk_seg dksX5_looksInto_1 23 rfl rfl
theorem dksX5_looksInto_3 : cX5_looksInto.data.toList.drop 70 = dktX5_looksInto_3 := dk_seg dksX5_looksInto_2 23 rfl rfl
theorem dksX5_looksInto_4 : cX5_looksInto.data.toList.drop 94 = dktX5_looksInto_4 := dk_seg dksX5_looksInto_3 24 rfl rfl
theorem dksX5_looksInto_5 : cX5_looksInto.data.toList.drop 118 = dktX5_looksInto_5 := dk_seg dksX5_looksInto_4 24 rfl rfl
theorem dksX5_looksInto_6 : cX5_looksInto.data.toList.drop 142 = dktX5_looksInto_6 := dk_seg dksX5_looksInto_5 24 rfl rfl
theorem dksX5_looksInto_7 : cX5_looksInto.data.toList.drop 165 = dktX5_looksInto_7 := dk_seg dksX5_looksInto_6 23 rfl rfl
theorem dX5_looksInto_0 : decode cX5_looksInto 0 = .ok (.aload_n 2, 1) := dk_44 (dk_at dksX5_looksInto_0 0 rfl rfl)
theorem dX5_looksInto_1 : decode cX5_looksInto 1 = .ok (.getfield 267, 3) := dk_180 1 11 (dk_at dksX5_looksInto_0 1 rfl rfl)
theorem dX5_looksInto_4 : decode cX5_looksInto 4 = .ok (.aload_n 3, 1) := dk_45 (dk_at dksX5_looksInto_0 4 rfl rfl)
theorem dX5_looksInto_5 : decode cX5_looksInto 5 = .ok (.getfield 276, 3) := dk_180 1 20 (dk_at dksX5_looksInto_0 5 rfl rfl)
theorem dX5_looksInto_8 : decode cX5_looksInto 8 = .ok (.iaload, 1) := dk_46 (dk_at dksX5_looksInto_0 8 rfl rfl)
theorem dX5_looksInto_9 : decode cX5_looksInto 9 = .ok (.istore 4, 2) := dk_54 4 (dk_at dksX5_looksInto_0 9 rfl rfl)
theorem dX5_looksInto_11 : decode cX5_looksInto 11 = .ok (.aload_n 3, 1) := dk_45 (dk_at dksX5_looksInto_0 11 rfl rfl)
theorem dX5_looksInto_12 : decode cX5_looksInto 12 = .ok (.getfield 273, 3) := dk_180 1 17 (dk_at dksX5_looksInto_0 12 rfl rfl)
theorem dX5_looksInto_15 : decode cX5_looksInto 15 = .ok (.bipush 10, 2) := dk_16 10 (dk_at dksX5_looksInto_0 15 rfl rfl)
theorem dX5_looksInto_17 : decode cX5_looksInto 17 = .ok (.irem, 1) := dk_112 (dk_at dksX5_looksInto_0 17 rfl rfl)
theorem dX5_looksInto_18 : decode cX5_looksInto 18 = .ok (.istore 5, 2) := dk_54 5 (dk_at dksX5_looksInto_0 18 rfl rfl)
theorem dX5_looksInto_20 : decode cX5_looksInto 20 = .ok (.iload 4, 2) := dk_21 4 (dk_at dksX5_looksInto_0 20 rfl rfl)
theorem dX5_looksInto_22 : decode cX5_looksInto 22 = .ok (.iconst 0, 1) := dk_3 (dk_at dksX5_looksInto_0 22 rfl rfl)
theorem dX5_looksInto_23 : decode cX5_looksInto 23 = .ok (.aload_n 0, 1) := dk_42 (dk_at dksX5_looksInto_0 23 rfl rfl)
theorem dX5_looksInto_24 : decode cX5_looksInto 24 = .ok (.getfield 30, 3) := dk_180 0 30 (dk_at dksX5_looksInto_1 0 rfl rfl)
theorem dX5_looksInto_27 : decode cX5_looksInto 27 = .ok (.invokevirtual 73, 3) := dk_182 0 73 (dk_at dksX5_looksInto_1 3 rfl rfl)
theorem dX5_looksInto_30 : decode cX5_looksInto 30 = .ok (.iconst 1, 1) := dk_4 (dk_at dksX5_looksInto_1 6 rfl rfl)
theorem dX5_looksInto_31 : decode cX5_looksInto 31 = .ok (.isub, 1) := dk_100 (dk_at dksX5_looksInto_1 7 rfl rfl)
theorem dX5_looksInto_32 : decode cX5_looksInto 32 = .ok (.invokestatic 3, 3) := dk_184 0 3 (dk_at dksX5_looksInto_1 8 rfl rfl)
theorem dX5_looksInto_35 : decode cX5_looksInto 35 = .ok (.ifCond .eq 62, 3) := dk_153 0 62 (dk_at dksX5_looksInto_1 11 rfl rfl)
theorem dX5_looksInto_38 : decode cX5_looksInto 38 = .ok (.aload_n 0, 1) := dk_42 (dk_at dksX5_looksInto_1 14 rfl rfl)
theorem dX5_looksInto_39 : decode cX5_looksInto 39 = .ok (.getfield 30, 3) := dk_180 0 30 (dk_at dksX5_looksInto_1 15 rfl rfl)
theorem dX5_looksInto_42 : decode cX5_looksInto 42 = .ok (.iload 4, 2) := dk_21 4 (dk_at dksX5_looksInto_1 18 rfl rfl)
theorem dX5_looksInto_44 : decode cX5_looksInto 44 = .ok (.invokevirtual 58, 3) := dk_182 0 58 (dk_at dksX5_looksInto_1 20 rfl rfl)
theorem dX5_looksInto_47 : decode cX5_looksInto 47 = .ok (.checkcast 138, 3) := dk_192 0 138 (dk_at dksX5_looksInto_2 0 rfl rfl)
theorem dX5_looksInto_50 : decode cX5_looksInto 50 = .ok (.getfield 137, 3) := dk_180 0 137 (dk_at dksX5_looksInto_2 3 rfl rfl)
theorem dX5_looksInto_53 : decode cX5_looksInto 53 = .ok (.aload_n 3, 1) := dk_45 (dk_at dksX5_looksInto_2 6 rfl rfl)
theorem dX5_looksInto_54 : decode cX5_looksInto 54 = .ok (.getfield 273, 3) := dk_180 1 17 (dk_at dksX5_looksInto_2 7 rfl rfl)
theorem dX5_looksInto_57 : decode cX5_looksInto 57 = .ok (.bipush 10, 2) := dk_16 10 (dk_at dksX5_looksInto_2 10 rfl rfl)
theorem dX5_looksInto_59 : decode cX5_looksInto 59 = .ok (.idiv, 1) := dk_108 (dk_at dksX5_looksInto_2 12 rfl rfl)
theorem dX5_looksInto_60 : decode cX5_looksInto 60 = .ok (.if_icmp .ne 37, 3) := dk_160 0 37 (dk_at dksX5_looksInto_2 13 rfl rfl)
theorem dX5_looksInto_63 : decode cX5_looksInto 63 = .ok (.iload 5, 2) := dk_21 5 (dk_at dksX5_looksInto_2 16 rfl rfl)
theorem dX5_looksInto_65 : decode cX5_looksInto 65 = .ok (.aload_n 0, 1) := dk_42 (dk_at dksX5_looksInto_2 18 rfl rfl)
theorem dX5_looksInto_66 : decode cX5_looksInto 66 = .ok (.getfield 23, 3) := dk_180 0 23 (dk_at dksX5_looksInto_2 19 rfl rfl)
theorem dX5_looksInto_69 : decode cX5_looksInto 69 = .ok (.aload_n 2, 1) := dk_44 (dk_at dksX5_looksInto_2 22 rfl rfl)
theorem dX5_looksInto_70 : decode cX5_looksInto 70 = .ok (.getfield 167, 3) := dk_180 0 167 (dk_at dksX5_looksInto_3 0 rfl rfl)
theorem dX5_looksInto_73 : decode cX5_looksInto 73 = .ok (.invokevirtual 58, 3) := dk_182 0 58 (dk_at dksX5_looksInto_3 3 rfl rfl)
theorem dX5_looksInto_76 : decode cX5_looksInto 76 = .ok (.checkcast 49, 3) := dk_192 0 49 (dk_at dksX5_looksInto_3 6 rfl rfl)
theorem dX5_looksInto_79 : decode cX5_looksInto 79 = .ok (.getfield 96, 3) := dk_180 0 96 (dk_at dksX5_looksInto_3 9 rfl rfl)
theorem dX5_looksInto_82 : decode cX5_looksInto 82 = .ok (.aload_n 3, 1) := dk_45 (dk_at dksX5_looksInto_3 12 rfl rfl)
theorem dX5_looksInto_83 : decode cX5_looksInto 83 = .ok (.getfield 273, 3) := dk_180 1 17 (dk_at dksX5_looksInto_3 13 rfl rfl)
theorem dX5_looksInto_86 : decode cX5_looksInto 86 = .ok (.bipush 10, 2) := dk_16 10 (dk_at dksX5_looksInto_3 16 rfl rfl)
theorem dX5_looksInto_88 : decode cX5_looksInto 88 = .ok (.idiv, 1) := dk_108 (dk_at dksX5_looksInto_3 18 rfl rfl)
theorem dX5_looksInto_89 : decode cX5_looksInto 89 = .ok (.iaload, 1) := dk_46 (dk_at dksX5_looksInto_3 19 rfl rfl)
theorem dX5_looksInto_90 : decode cX5_looksInto 90 = .ok (.if_icmp .ge 7, 3) := dk_162 0 7 (dk_at dksX5_looksInto_3 20 rfl rfl)
theorem dX5_looksInto_93 : decode cX5_looksInto 93 = .ok (.iconst 1, 1) := dk_4 (dk_at dksX5_looksInto_3 23 rfl rfl)
theorem dX5_looksInto_94 : decode cX5_looksInto 94 = .ok (.goto 4, 3) := dk_167 0 4 (dk_at dksX5_looksInto_4 0 rfl rfl)
theorem dX5_looksInto_97 : decode cX5_looksInto 97 = .ok (.iconst 0, 1) := dk_3 (dk_at dksX5_looksInto_4 3 rfl rfl)
theorem dX5_looksInto_98 : decode cX5_looksInto 98 = .ok (.istore 6, 2) := dk_54 6 (dk_at dksX5_looksInto_4 4 rfl rfl)
theorem dX5_looksInto_100 : decode cX5_looksInto 100 = .ok (.iload 6, 2) := dk_21 6 (dk_at dksX5_looksInto_4 6 rfl rfl)
theorem dX5_looksInto_102 : decode cX5_looksInto 102 = .ok (.ifCond .ne 10, 3) := dk_154 0 10 (dk_at dksX5_looksInto_4 8 rfl rfl)
theorem dX5_looksInto_105 : decode cX5_looksInto 105 = .ok (.aload_n 1, 1) := dk_43 (dk_at dksX5_looksInto_4 11 rfl rfl)
theorem dX5_looksInto_106 : decode cX5_looksInto 106 = .ok (.bipush 102, 2) := dk_16 102 (dk_at dksX5_looksInto_4 12 rfl rfl)
theorem dX5_looksInto_108 : decode cX5_looksInto 108 = .ok (.invokevirtual 255, 3) := dk_182 0 255 (dk_at dksX5_looksInto_4 14 rfl rfl)
theorem dX5_looksInto_111 : decode cX5_looksInto 111 = .ok (.return_, 1) := dk_177 (dk_at dksX5_looksInto_4 17 rfl rfl)
theorem dX5_looksInto_112 : decode cX5_looksInto 112 = .ok (.aload_n 0, 1) := dk_42 (dk_at dksX5_looksInto_4 18 rfl rfl)
theorem dX5_looksInto_113 : decode cX5_looksInto 113 = .ok (.getfield 30, 3) := dk_180 0 30 (dk_at dksX5_looksInto_4 19 rfl rfl)
theorem dX5_looksInto_116 : decode cX5_looksInto 116 = .ok (.iload 4, 2) := dk_21 4 (dk_at dksX5_looksInto_4 22 rfl rfl)
theorem dX5_looksInto_118 : decode cX5_looksInto 118 = .ok (.invokevirtual 58, 3) := dk_182 0 58 (dk_at dksX5_looksInto_5 0 rfl rfl)
theorem dX5_looksInto_121 : decode cX5_looksInto 121 = .ok (.checkcast 138, 3) := dk_192 0 138 (dk_at dksX5_looksInto_5 3 rfl rfl)
theorem dX5_looksInto_124 : decode cX5_looksInto 124 = .ok (.astore 7, 2) := dk_58 7 (dk_at dksX5_looksInto_5 6 rfl rfl)
theorem dX5_looksInto_126 : decode cX5_looksInto 126 = .ok (.aload_n 0, 1) := dk_42 (dk_at dksX5_looksInto_5 8 rfl rfl)
theorem dX5_looksInto_127 : decode cX5_looksInto 127 = .ok (.aload 7, 2) := dk_25 7 (dk_at dksX5_looksInto_5 9 rfl rfl)
theorem dX5_looksInto_129 : decode cX5_looksInto 129 = .ok (.aload_n 2, 1) := dk_44 (dk_at dksX5_looksInto_5 11 rfl rfl)
theorem dX5_looksInto_130 : decode cX5_looksInto 130 = .ok (.getfield 167, 3) := dk_180 0 167 (dk_at dksX5_looksInto_5 12 rfl rfl)
theorem dX5_looksInto_133 : decode cX5_looksInto 133 = .ok (.invokevirtual 214, 3) := dk_182 0 214 (dk_at dksX5_looksInto_5 15 rfl rfl)
theorem dX5_looksInto_136 : decode cX5_looksInto 136 = .ok (.aload_n 3, 1) := dk_45 (dk_at dksX5_looksInto_5 18 rfl rfl)
theorem dX5_looksInto_137 : decode cX5_looksInto 137 = .ok (.getfield 285, 3) := dk_180 1 29 (dk_at dksX5_looksInto_5 19 rfl rfl)
theorem dX5_looksInto_140 : decode cX5_looksInto 140 = .ok (.bipush 103, 2) := dk_16 103 (dk_at dksX5_looksInto_5 22 rfl rfl)
theorem dX5_looksInto_142 : decode cX5_looksInto 142 = .ok (.if_icmp .ne 23, 3) := dk_160 0 23 (dk_at dksX5_looksInto_6 0 rfl rfl)
theorem dX5_looksInto_145 : decode cX5_looksInto 145 = .ok (.aload_n 2, 1) := dk_44 (dk_at dksX5_looksInto_6 3 rfl rfl)
theorem dX5_looksInto_146 : decode cX5_looksInto 146 = .ok (.getfield 267, 3) := dk_180 1 11 (dk_at dksX5_looksInto_6 4 rfl rfl)
theorem dX5_looksInto_149 : decode cX5_looksInto 149 = .ok (.aload_n 3, 1) := dk_45 (dk_at dksX5_looksInto_6 7 rfl rfl)
theorem dX5_looksInto_150 : decode cX5_looksInto 150 = .ok (.getfield 279, 3) := dk_180 1 23 (dk_at dksX5_looksInto_6 8 rfl rfl)
theorem dX5_looksInto_153 : decode cX5_looksInto 153 = .ok (.aload 7, 2) := dk_25 7 (dk_at dksX5_looksInto_6 11 rfl rfl)
theorem dX5_looksInto_155 : decode cX5_looksInto 155 = .ok (.getfield 142, 3) := dk_180 0 142 (dk_at dksX5_looksInto_6 13 rfl rfl)
theorem dX5_looksInto_158 : decode cX5_looksInto 158 = .ok (.iload 5, 2) := dk_21 5 (dk_at dksX5_looksInto_6 16 rfl rfl)
theorem dX5_looksInto_160 : decode cX5_looksInto 160 = .ok (.iaload, 1) := dk_46 (dk_at dksX5_looksInto_6 18 rfl rfl)
theorem dX5_looksInto_161 : decode cX5_looksInto 161 = .ok (.iastore, 1) := dk_79 (dk_at dksX5_looksInto_6 19 rfl rfl)
theorem dX5_looksInto_162 : decode cX5_looksInto 162 = .ok (.goto 20, 3) := dk_167 0 20 (dk_at dksX5_looksInto_6 20 rfl rfl)
theorem dX5_looksInto_165 : decode cX5_looksInto 165 = .ok (.aload 7, 2) := dk_25 7 (dk_at dksX5_looksInto_7 0 rfl rfl)
theorem dX5_looksInto_167 : decode cX5_looksInto 167 = .ok (.getfield 142, 3) := dk_180 0 142 (dk_at dksX5_looksInto_7 2 rfl rfl)
theorem dX5_looksInto_170 : decode cX5_looksInto 170 = .ok (.iload 5, 2) := dk_21 5 (dk_at dksX5_looksInto_7 5 rfl rfl)
theorem dX5_looksInto_172 : decode cX5_looksInto 172 = .ok (.aload_n 2, 1) := dk_44 (dk_at dksX5_looksInto_7 7 rfl rfl)
theorem dX5_looksInto_173 : decode cX5_looksInto 173 = .ok (.getfield 267, 3) := dk_180 1 11 (dk_at dksX5_looksInto_7 8 rfl rfl)
theorem dX5_looksInto_176 : decode cX5_looksInto 176 = .ok (.aload_n 3, 1) := dk_45 (dk_at dksX5_looksInto_7 11 rfl rfl)
theorem dX5_looksInto_177 : decode cX5_looksInto 177 = .ok (.getfield 279, 3) := dk_180 1 23 (dk_at dksX5_looksInto_7 12 rfl rfl)
theorem dX5_looksInto_180 : decode cX5_looksInto 180 = .ok (.iaload, 1) := dk_46 (dk_at dksX5_looksInto_7 15 rfl rfl)
theorem dX5_looksInto_181 : decode cX5_looksInto 181 = .ok (.iastore, 1) := dk_79 (dk_at dksX5_looksInto_7 16 rfl rfl)
theorem dX5_looksInto_182 : decode cX5_looksInto 182 = .ok (.return_, 1) := dk_177 (dk_at dksX5_looksInto_7 17 rfl rfl)
abbrev cX5_calls : ByteArray := prog_24_method_33_code
def yX5_calls : MethodName := ⟨RX5, "calls", "(LSwapWhileModel$Lane;LSwapWhileModel$Frame;ILSwapWhileModel$Code;)V"⟩
def dkwX5_calls_2 : List UInt8 := [180, 1, 20, 183, 1, 3, 182, 0, 54, 87, 177]
abbrev dktX5_calls_2 : List UInt8 := dkwX5_calls_2 ++ []
def dkwX5_calls_1 : List UInt8 := [180, 0, 200, 187, 0, 168, 89, 42, 180, 0, 150, 29, 44, 180, 1, 11, 25, 4, 180, 1, 17, 46, 25, 4]
abbrev dktX5_calls_1 : List UInt8 := dkwX5_calls_1 ++ dktX5_calls_2
def dkwX5_calls_0 : List UInt8 := [43, 180, 0, 200, 182, 0, 73, 16, 8, 160, 0, 12, 43, 16, 102, 182, 0, 255, 167, 0, 38, 43]
abbrev dktX5_calls_0 : List UInt8 := dkwX5_calls_0 ++ dktX5_calls_1
theorem dksX5_calls_0 : cX5_calls.data.toList.drop 0 = dktX5_calls_0 := by decide +kernel
theorem dksX5_calls_1 : cX5_calls.data.toList.drop 22 = dktX5_calls_1 := dk_seg dksX5_calls_0 22 rfl rfl
theorem dksX5_calls_2 : cX5_calls.data.toList.drop 46 = dktX5_calls_2 := dk_seg dksX5_calls_1 24 rfl rfl
theorem dX5_calls_0 : decode cX5_calls 0 = .ok (.aload_n 1, 1) := dk_43 (dk_at dksX5_calls_0 0 rfl rfl)
theorem dX5_calls_1 : decode cX5_calls 1 = .ok (.getfield 200, 3) := dk_180 0 200 (dk_at dksX5_calls_0 1 rfl rfl)
theorem dX5_calls_4 : decode cX5_calls 4 = .ok (.invokevirtual 73, 3) := dk_182 0 73 (dk_at dksX5_calls_0 4 rfl rfl)
theorem dX5_calls_7 : decode cX5_calls 7 = .ok (.bipush 8, 2) := dk_16 8 (dk_at dksX5_calls_0 7 rfl rfl)
theorem dX5_calls_9 : decode cX5_calls 9 = .ok (.if_icmp .ne 12, 3) := dk_160 0 12 (dk_at dksX5_calls_0 9 rfl rfl)
theorem dX5_calls_12 : decode cX5_calls 12 = .ok (.aload_n 1, 1) := dk_43 (dk_at dksX5_calls_0 12 rfl rfl)
theorem dX5_calls_13 : decode cX5_calls 13 = .ok (.bipush 102, 2) := dk_16 102 (dk_at dksX5_calls_0 13 rfl rfl)
theorem dX5_calls_15 : decode cX5_calls 15 = .ok (.invokevirtual 255, 3) := dk_182 0 255 (dk_at dksX5_calls_0 15 rfl rfl)
theorem dX5_calls_18 : decode cX5_calls 18 = .ok (.goto 38, 3) := dk_167 0 38 (dk_at dksX5_calls_0 18 rfl rfl)
theorem dX5_calls_21 : decode cX5_calls 21 = .ok (.aload_n 1, 1) := dk_43 (dk_at dksX5_calls_0 21 rfl rfl)
theorem dX5_calls_22 : decode cX5_calls 22 = .ok (.getfield 200, 3) := dk_180 0 200 (dk_at dksX5_calls_1 0 rfl rfl)
theorem dX5_calls_25 : decode cX5_calls 25 = .ok (.new 168, 3) := dk_187 0 168 (dk_at dksX5_calls_1 3 rfl rfl)
theorem dX5_calls_28 : decode cX5_calls 28 = .ok (.dup, 1) := dk_89 (dk_at dksX5_calls_1 6 rfl rfl)
theorem dX5_calls_29 : decode cX5_calls 29 = .ok (.aload_n 0, 1) := dk_42 (dk_at dksX5_calls_1 7 rfl rfl)
theorem dX5_calls_30 : decode cX5_calls 30 = .ok (.getfield 150, 3) := dk_180 0 150 (dk_at dksX5_calls_1 8 rfl rfl)
theorem dX5_calls_33 : decode cX5_calls 33 = .ok (.iload_n 3, 1) := dk_29 (dk_at dksX5_calls_1 11 rfl rfl)
theorem dX5_calls_34 : decode cX5_calls 34 = .ok (.aload_n 2, 1) := dk_44 (dk_at dksX5_calls_1 12 rfl rfl)
theorem dX5_calls_35 : decode cX5_calls 35 = .ok (.getfield 267, 3) := dk_180 1 11 (dk_at dksX5_calls_1 13 rfl rfl)
theorem dX5_calls_38 : decode cX5_calls 38 = .ok (.aload 4, 2) := dk_25 4 (dk_at dksX5_calls_1 16 rfl rfl)
theorem dX5_calls_40 : decode cX5_calls 40 = .ok (.getfield 273, 3) := dk_180 1 17 (dk_at dksX5_calls_1 18 rfl rfl)
theorem dX5_calls_43 : decode cX5_calls 43 = .ok (.iaload, 1) := dk_46 (dk_at dksX5_calls_1 21 rfl rfl)
theorem dX5_calls_44 : decode cX5_calls 44 = .ok (.aload 4, 2) := dk_25 4 (dk_at dksX5_calls_1 22 rfl rfl)
theorem dX5_calls_46 : decode cX5_calls 46 = .ok (.getfield 276, 3) := dk_180 1 20 (dk_at dksX5_calls_2 0 rfl rfl)
theorem dX5_calls_49 : decode cX5_calls 49 = .ok (.invokespecial 259, 3) := dk_183 1 3 (dk_at dksX5_calls_2 3 rfl rfl)
theorem dX5_calls_52 : decode cX5_calls 52 = .ok (.invokevirtual 54, 3) := dk_182 0 54 (dk_at dksX5_calls_2 6 rfl rfl)
theorem dX5_calls_55 : decode cX5_calls 55 = .ok (.pop, 1) := dk_87 (dk_at dksX5_calls_2 9 rfl rfl)
theorem dX5_calls_56 : decode cX5_calls 56 = .ok (.return_, 1) := dk_177 (dk_at dksX5_calls_2 10 rfl rfl)
abbrev cX5_returns : ByteArray := prog_24_method_32_code
def yX5_returns : MethodName := ⟨RX5, "returns", "(LSwapWhileModel$Lane;I)V"⟩
def dkwX5_returns_2 : List UInt8 := [182, 0, 73, 4, 100, 182, 0, 58, 192, 0, 168, 180, 1, 11, 45, 180, 1, 14, 28, 79, 177]
abbrev dktX5_returns_2 : List UInt8 := dkwX5_returns_2 ++ []
def dkwX5_returns_1 : List UInt8 := [182, 0, 223, 153, 0, 12, 43, 16, 100, 182, 0, 255, 167, 0, 31, 43, 180, 0, 200, 43, 180, 0, 200]
abbrev dktX5_returns_1 : List UInt8 := dkwX5_returns_1 ++ dktX5_returns_2
def dkwX5_returns_0 : List UInt8 := [43, 180, 0, 200, 43, 180, 0, 200, 182, 0, 73, 4, 100, 182, 1, 9, 192, 0, 168, 78, 43, 180, 0, 200]
abbrev dktX5_returns_0 : List UInt8 := dkwX5_returns_0 ++ dktX5_returns_1
theorem dksX5_returns_0 : cX5_returns.data.toList.drop 0 = dktX5_returns_0 := by decide +kernel
theorem dksX5_returns_1 : cX5_returns.data.toList.drop 24 = dktX5_returns_1 := dk_seg dksX5_returns_0 24 rfl rfl
theorem dksX5_returns_2 : cX5_returns.data.toList.drop 47 = dktX5_returns_2 := dk_seg dksX5_returns_1 23 rfl rfl
theorem dX5_returns_0 : decode cX5_returns 0 = .ok (.aload_n 1, 1) := dk_43 (dk_at dksX5_returns_0 0 rfl rfl)
theorem dX5_returns_1 : decode cX5_returns 1 = .ok (.getfield 200, 3) := dk_180 0 200 (dk_at dksX5_returns_0 1 rfl rfl)
theorem dX5_returns_4 : decode cX5_returns 4 = .ok (.aload_n 1, 1) := dk_43 (dk_at dksX5_returns_0 4 rfl rfl)
theorem dX5_returns_5 : decode cX5_returns 5 = .ok (.getfield 200, 3) := dk_180 0 200 (dk_at dksX5_returns_0 5 rfl rfl)
theorem dX5_returns_8 : decode cX5_returns 8 = .ok (.invokevirtual 73, 3) := dk_182 0 73 (dk_at dksX5_returns_0 8 rfl rfl)
theorem dX5_returns_11 : decode cX5_returns 11 = .ok (.iconst 1, 1) := dk_4 (dk_at dksX5_returns_0 11 rfl rfl)
theorem dX5_returns_12 : decode cX5_returns 12 = .ok (.isub, 1) := dk_100 (dk_at dksX5_returns_0 12 rfl rfl)
theorem dX5_returns_13 : decode cX5_returns 13 = .ok (.invokevirtual 265, 3) := dk_182 1 9 (dk_at dksX5_returns_0 13 rfl rfl)
theorem dX5_returns_16 : decode cX5_returns 16 = .ok (.checkcast 168, 3) := dk_192 0 168 (dk_at dksX5_returns_0 16 rfl rfl)
theorem dX5_returns_19 : decode cX5_returns 19 = .ok (.astore_n 3, 1) := dk_78 (dk_at dksX5_returns_0 19 rfl rfl)
theorem dX5_returns_20 : decode cX5_returns 20 = .ok (.aload_n 1, 1) := dk_43 (dk_at dksX5_returns_0 20 rfl rfl)
theorem dX5_returns_21 : decode cX5_returns 21 = .ok (.getfield 200, 3) := dk_180 0 200 (dk_at dksX5_returns_0 21 rfl rfl)
theorem dX5_returns_24 : decode cX5_returns 24 = .ok (.invokevirtual 223, 3) := dk_182 0 223 (dk_at dksX5_returns_1 0 rfl rfl)
theorem dX5_returns_27 : decode cX5_returns 27 = .ok (.ifCond .eq 12, 3) := dk_153 0 12 (dk_at dksX5_returns_1 3 rfl rfl)
theorem dX5_returns_30 : decode cX5_returns 30 = .ok (.aload_n 1, 1) := dk_43 (dk_at dksX5_returns_1 6 rfl rfl)
theorem dX5_returns_31 : decode cX5_returns 31 = .ok (.bipush 100, 2) := dk_16 100 (dk_at dksX5_returns_1 7 rfl rfl)
theorem dX5_returns_33 : decode cX5_returns 33 = .ok (.invokevirtual 255, 3) := dk_182 0 255 (dk_at dksX5_returns_1 9 rfl rfl)
theorem dX5_returns_36 : decode cX5_returns 36 = .ok (.goto 31, 3) := dk_167 0 31 (dk_at dksX5_returns_1 12 rfl rfl)
theorem dX5_returns_39 : decode cX5_returns 39 = .ok (.aload_n 1, 1) := dk_43 (dk_at dksX5_returns_1 15 rfl rfl)
theorem dX5_returns_40 : decode cX5_returns 40 = .ok (.getfield 200, 3) := dk_180 0 200 (dk_at dksX5_returns_1 16 rfl rfl)
theorem dX5_returns_43 : decode cX5_returns 43 = .ok (.aload_n 1, 1) := dk_43 (dk_at dksX5_returns_1 19 rfl rfl)
theorem dX5_returns_44 : decode cX5_returns 44 = .ok (.getfield 200, 3) := dk_180 0 200 (dk_at dksX5_returns_1 20 rfl rfl)
theorem dX5_returns_47 : decode cX5_returns 47 = .ok (.invokevirtual 73, 3) := dk_182 0 73 (dk_at dksX5_returns_2 0 rfl rfl)
theorem dX5_returns_50 : decode cX5_returns 50 = .ok (.iconst 1, 1) := dk_4 (dk_at dksX5_returns_2 3 rfl rfl)
theorem dX5_returns_51 : decode cX5_returns 51 = .ok (.isub, 1) := dk_100 (dk_at dksX5_returns_2 4 rfl rfl)
theorem dX5_returns_52 : decode cX5_returns 52 = .ok (.invokevirtual 58, 3) := dk_182 0 58 (dk_at dksX5_returns_2 5 rfl rfl)
theorem dX5_returns_55 : decode cX5_returns 55 = .ok (.checkcast 168, 3) := dk_192 0 168 (dk_at dksX5_returns_2 8 rfl rfl)
theorem dX5_returns_58 : decode cX5_returns 58 = .ok (.getfield 267, 3) := dk_180 1 11 (dk_at dksX5_returns_2 11 rfl rfl)
theorem dX5_returns_61 : decode cX5_returns 61 = .ok (.aload_n 3, 1) := dk_45 (dk_at dksX5_returns_2 14 rfl rfl)
theorem dX5_returns_62 : decode cX5_returns 62 = .ok (.getfield 270, 3) := dk_180 1 14 (dk_at dksX5_returns_2 15 rfl rfl)
theorem dX5_returns_65 : decode cX5_returns 65 = .ok (.iload_n 2, 1) := dk_28 (dk_at dksX5_returns_2 18 rfl rfl)
theorem dX5_returns_66 : decode cX5_returns 66 = .ok (.iastore, 1) := dk_79 (dk_at dksX5_returns_2 19 rfl rfl)
theorem dX5_returns_67 : decode cX5_returns 67 = .ok (.return_, 1) := dk_177 (dk_at dksX5_returns_2 20 rfl rfl)
abbrev cX5_puts : ByteArray := prog_24_method_36_code
def yX5_puts : MethodName := ⟨RX5, "puts", "(LSwapWhileModel$Frame;I)V"⟩
def dkwX5_puts_3 : List UInt8 := [182, 1, 47, 177]
abbrev dktX5_puts_3 : List UInt8 := dkwX5_puts_3 ++ []
def dkwX5_puts_2 : List UInt8 := [42, 180, 0, 150, 158, 0, 21, 42, 180, 0, 40, 3, 42, 16, 111, 4, 3, 16, 50, 182, 1, 43]
abbrev dktX5_puts_2 : List UInt8 := dkwX5_puts_2 ++ dktX5_puts_3
def dkwX5_puts_1 : List UInt8 := [182, 0, 54, 87, 42, 180, 1, 37, 153, 0, 41, 28, 42, 180, 1, 40, 164, 0, 33, 42, 3, 181, 1, 37]
abbrev dktX5_puts_1 : List UInt8 := dkwX5_puts_1 ++ dktX5_puts_2
def dkwX5_puts_0 : List UInt8 := [42, 180, 0, 43, 28, 184, 1, 31, 182, 0, 54, 87, 42, 180, 0, 46, 43, 180, 0, 167, 184, 1, 31]
abbrev dktX5_puts_0 : List UInt8 := dkwX5_puts_0 ++ dktX5_puts_1
theorem dksX5_puts_0 : cX5_puts.data.toList.drop 0 = dktX5_puts_0 := by decide +kernel
theorem dksX5_puts_1 : cX5_puts.data.toList.drop 23 = dktX5_puts_1 := dk_seg dksX5_puts_0 23 rfl rfl
theorem dksX5_puts_2 : cX5_puts.data.toList.drop 47 = dktX5_puts_2 := dk_seg dksX5_puts_1 24 rfl rfl
theorem dksX5_puts_3 : cX5_puts.data.toList.drop 69 = dktX5_puts_3 := dk_seg dksX5_puts_2 22 rfl rfl
theorem dX5_puts_0 : decode cX5_puts 0 = .ok (.aload_n 0, 1) := dk_42 (dk_at dksX5_puts_0 0 rfl rfl)
theorem dX5_puts_1 : decode cX5_puts 1 = .ok (.getfield 43, 3) := dk_180 0 43 (dk_at dksX5_puts_0 1 rfl rfl)
theorem dX5_puts_4 : decode cX5_puts 4 = .ok (.iload_n 2, 1) := dk_28 (dk_at dksX5_puts_0 4 rfl rfl)
theorem dX5_puts_5 : decode cX5_puts 5 = .ok (.invokestatic 287, 3) := dk_184 1 31 (dk_at dksX5_puts_0 5 rfl rfl)
theorem dX5_puts_8 : decode cX5_puts 8 = .ok (.invokevirtual 54, 3) := dk_182 0 54 (dk_at dksX5_puts_0 8 rfl rfl)
theorem dX5_puts_11 : decode cX5_puts 11 = .ok (.pop, 1) := dk_87 (dk_at dksX5_puts_0 11 rfl rfl)
theorem dX5_puts_12 : decode cX5_puts 12 = .ok (.aload_n 0, 1) := dk_42 (dk_at dksX5_puts_0 12 rfl rfl)
theorem dX5_puts_13 : decode cX5_puts 13 = .ok (.getfield 46, 3) := dk_180 0 46 (dk_at dksX5_puts_0 13 rfl rfl)
theorem dX5_puts_16 : decode cX5_puts 16 = .ok (.aload_n 1, 1) := dk_43 (dk_at dksX5_puts_0 16 rfl rfl)
theorem dX5_puts_17 : decode cX5_puts 17 = .ok (.getfield 167, 3) := dk_180 0 167 (dk_at dksX5_puts_0 17 rfl rfl)
theorem dX5_puts_20 : decode cX5_puts 20 = .ok (.invokestatic 287, 3) := dk_184 1 31 (dk_at dksX5_puts_0 20 rfl rfl)
theorem dX5_puts_23 : decode cX5_puts 23 = .ok (.invokevirtual 54, 3) := dk_182 0 54 (dk_at dksX5_puts_1 0 rfl rfl)
theorem dX5_puts_26 : decode cX5_puts 26 = .ok (.pop, 1) := dk_87 (dk_at dksX5_puts_1 3 rfl rfl)
theorem dX5_puts_27 : decode cX5_puts 27 = .ok (.aload_n 0, 1) := dk_42 (dk_at dksX5_puts_1 4 rfl rfl)
theorem dX5_puts_28 : decode cX5_puts 28 = .ok (.getfield 293, 3) := dk_180 1 37 (dk_at dksX5_puts_1 5 rfl rfl)
theorem dX5_puts_31 : decode cX5_puts 31 = .ok (.ifCond .eq 41, 3) := dk_153 0 41 (dk_at dksX5_puts_1 8 rfl rfl)
theorem dX5_puts_34 : decode cX5_puts 34 = .ok (.iload_n 2, 1) := dk_28 (dk_at dksX5_puts_1 11 rfl rfl)
theorem dX5_puts_35 : decode cX5_puts 35 = .ok (.aload_n 0, 1) := dk_42 (dk_at dksX5_puts_1 12 rfl rfl)
theorem dX5_puts_36 : decode cX5_puts 36 = .ok (.getfield 296, 3) := dk_180 1 40 (dk_at dksX5_puts_1 13 rfl rfl)
theorem dX5_puts_39 : decode cX5_puts 39 = .ok (.if_icmp .le 33, 3) := dk_164 0 33 (dk_at dksX5_puts_1 16 rfl rfl)
theorem dX5_puts_42 : decode cX5_puts 42 = .ok (.aload_n 0, 1) := dk_42 (dk_at dksX5_puts_1 19 rfl rfl)
theorem dX5_puts_43 : decode cX5_puts 43 = .ok (.iconst 0, 1) := dk_3 (dk_at dksX5_puts_1 20 rfl rfl)
theorem dX5_puts_44 : decode cX5_puts 44 = .ok (.putfield 293, 3) := dk_181 1 37 (dk_at dksX5_puts_1 21 rfl rfl)
theorem dX5_puts_47 : decode cX5_puts 47 = .ok (.aload_n 0, 1) := dk_42 (dk_at dksX5_puts_2 0 rfl rfl)
theorem dX5_puts_48 : decode cX5_puts 48 = .ok (.getfield 150, 3) := dk_180 0 150 (dk_at dksX5_puts_2 1 rfl rfl)
theorem dX5_puts_51 : decode cX5_puts 51 = .ok (.ifCond .le 21, 3) := dk_158 0 21 (dk_at dksX5_puts_2 4 rfl rfl)
theorem dX5_puts_54 : decode cX5_puts 54 = .ok (.aload_n 0, 1) := dk_42 (dk_at dksX5_puts_2 7 rfl rfl)
theorem dX5_puts_55 : decode cX5_puts 55 = .ok (.getfield 40, 3) := dk_180 0 40 (dk_at dksX5_puts_2 8 rfl rfl)
theorem dX5_puts_58 : decode cX5_puts 58 = .ok (.iconst 0, 1) := dk_3 (dk_at dksX5_puts_2 11 rfl rfl)
theorem dX5_puts_59 : decode cX5_puts 59 = .ok (.aload_n 0, 1) := dk_42 (dk_at dksX5_puts_2 12 rfl rfl)
theorem dX5_puts_60 : decode cX5_puts 60 = .ok (.bipush 111, 2) := dk_16 111 (dk_at dksX5_puts_2 13 rfl rfl)
theorem dX5_puts_62 : decode cX5_puts 62 = .ok (.iconst 1, 1) := dk_4 (dk_at dksX5_puts_2 15 rfl rfl)
theorem dX5_puts_63 : decode cX5_puts 63 = .ok (.iconst 0, 1) := dk_3 (dk_at dksX5_puts_2 16 rfl rfl)
theorem dX5_puts_64 : decode cX5_puts 64 = .ok (.bipush 50, 2) := dk_16 50 (dk_at dksX5_puts_2 17 rfl rfl)
theorem dX5_puts_66 : decode cX5_puts 66 = .ok (.invokevirtual 299, 3) := dk_182 1 43 (dk_at dksX5_puts_2 19 rfl rfl)
theorem dX5_puts_69 : decode cX5_puts 69 = .ok (.invokevirtual 303, 3) := dk_182 1 47 (dk_at dksX5_puts_3 0 rfl rfl)
theorem dX5_puts_72 : decode cX5_puts 72 = .ok (.return_, 1) := dk_177 (dk_at dksX5_puts_3 3 rfl rfl)
abbrev cX5_asks : ByteArray := prog_24_method_29_code
def yX5_asks : MethodName := ⟨RX5, "asks", "(CZZI)LSwapWhileModel$Change;"⟩
def dkwX5_asks_1 : List UInt8 := [183, 0, 243, 58, 5, 42, 180, 0, 37, 25, 5, 182, 0, 54, 87, 25, 5, 176]
abbrev dktX5_asks_1 : List UInt8 := dkwX5_asks_1 ++ []
def dkwX5_asks_0 : List UInt8 := [187, 0, 154, 89, 42, 180, 0, 37, 182, 0, 73, 27, 28, 29, 42, 180, 0, 236, 21, 4, 133, 97]
abbrev dktX5_asks_0 : List UInt8 := dkwX5_asks_0 ++ dktX5_asks_1
theorem dksX5_asks_0 : cX5_asks.data.toList.drop 0 = dktX5_asks_0 := by decide +kernel
theorem dksX5_asks_1 : cX5_asks.data.toList.drop 22 = dktX5_asks_1 := dk_seg dksX5_asks_0 22 rfl rfl
theorem dX5_asks_0 : decode cX5_asks 0 = .ok (.new 154, 3) := dk_187 0 154 (dk_at dksX5_asks_0 0 rfl rfl)
theorem dX5_asks_3 : decode cX5_asks 3 = .ok (.dup, 1) := dk_89 (dk_at dksX5_asks_0 3 rfl rfl)
theorem dX5_asks_4 : decode cX5_asks 4 = .ok (.aload_n 0, 1) := dk_42 (dk_at dksX5_asks_0 4 rfl rfl)
theorem dX5_asks_5 : decode cX5_asks 5 = .ok (.getfield 37, 3) := dk_180 0 37 (dk_at dksX5_asks_0 5 rfl rfl)
theorem dX5_asks_8 : decode cX5_asks 8 = .ok (.invokevirtual 73, 3) := dk_182 0 73 (dk_at dksX5_asks_0 8 rfl rfl)
theorem dX5_asks_11 : decode cX5_asks 11 = .ok (.iload_n 1, 1) := dk_27 (dk_at dksX5_asks_0 11 rfl rfl)
theorem dX5_asks_12 : decode cX5_asks 12 = .ok (.iload_n 2, 1) := dk_28 (dk_at dksX5_asks_0 12 rfl rfl)
theorem dX5_asks_13 : decode cX5_asks 13 = .ok (.iload_n 3, 1) := dk_29 (dk_at dksX5_asks_0 13 rfl rfl)
theorem dX5_asks_14 : decode cX5_asks 14 = .ok (.aload_n 0, 1) := dk_42 (dk_at dksX5_asks_0 14 rfl rfl)
theorem dX5_asks_15 : decode cX5_asks 15 = .ok (.getfield 236, 3) := dk_180 0 236 (dk_at dksX5_asks_0 15 rfl rfl)
theorem dX5_asks_18 : decode cX5_asks 18 = .ok (.iload 4, 2) := dk_21 4 (dk_at dksX5_asks_0 18 rfl rfl)
theorem dX5_asks_20 : decode cX5_asks 20 = .ok (.i2l, 1) := dk_133 (dk_at dksX5_asks_0 20 rfl rfl)
theorem dX5_asks_21 : decode cX5_asks 21 = .ok (.ladd, 1) := dk_97 (dk_at dksX5_asks_0 21 rfl rfl)
theorem dX5_asks_22 : decode cX5_asks 22 = .ok (.invokespecial 243, 3) := dk_183 0 243 (dk_at dksX5_asks_1 0 rfl rfl)
theorem dX5_asks_25 : decode cX5_asks 25 = .ok (.astore 5, 2) := dk_58 5 (dk_at dksX5_asks_1 3 rfl rfl)
theorem dX5_asks_27 : decode cX5_asks 27 = .ok (.aload_n 0, 1) := dk_42 (dk_at dksX5_asks_1 5 rfl rfl)
theorem dX5_asks_28 : decode cX5_asks 28 = .ok (.getfield 37, 3) := dk_180 0 37 (dk_at dksX5_asks_1 6 rfl rfl)
theorem dX5_asks_31 : decode cX5_asks 31 = .ok (.aload 5, 2) := dk_25 5 (dk_at dksX5_asks_1 9 rfl rfl)
theorem dX5_asks_33 : decode cX5_asks 33 = .ok (.invokevirtual 54, 3) := dk_182 0 54 (dk_at dksX5_asks_1 11 rfl rfl)
theorem dX5_asks_36 : decode cX5_asks 36 = .ok (.pop, 1) := dk_87 (dk_at dksX5_asks_1 14 rfl rfl)
theorem dX5_asks_37 : decode cX5_asks 37 = .ok (.aload 5, 2) := dk_25 5 (dk_at dksX5_asks_1 15 rfl rfl)
theorem dX5_asks_39 : decode cX5_asks 39 = .ok (.areturn, 1) := dk_176 (dk_at dksX5_asks_1 17 rfl rfl)
abbrev cX5_givesUp : ByteArray := prog_24_method_28_code
def yX5_givesUp : MethodName := ⟨RX5, "givesUp", "()V"⟩
def dkwX5_givesUp_3 : List UInt8 := [153, 0, 21, 44, 185, 0, 196, 1, 0, 192, 0, 154, 78, 42, 45, 182, 0, 226, 167, 255, 232, 177]
abbrev dktX5_givesUp_3 : List UInt8 := dkwX5_givesUp_3 ++ []
def dkwX5_givesUp_2 : List UInt8 := [155, 0, 9, 43, 45, 182, 0, 54, 87, 167, 255, 219, 43, 182, 0, 186, 77, 44, 185, 0, 190, 1, 0]
abbrev dktX5_givesUp_2 : List UInt8 := dkwX5_givesUp_2 ++ dktX5_givesUp_3
def dkwX5_givesUp_1 : List UInt8 := [153, 0, 34, 44, 185, 0, 196, 1, 0, 192, 0, 154, 78, 42, 180, 0, 236, 45, 180, 0, 240, 148]
abbrev dktX5_givesUp_1 : List UInt8 := dkwX5_givesUp_1 ++ dktX5_givesUp_2
def dkwX5_givesUp_0 : List UInt8 := [187, 0, 20, 89, 183, 0, 22, 76, 42, 180, 0, 40, 182, 0, 186, 77, 44, 185, 0, 190, 1, 0]
abbrev dktX5_givesUp_0 : List UInt8 := dkwX5_givesUp_0 ++ dktX5_givesUp_1
theorem dksX5_givesUp_0 : cX5_givesUp.data.toList.drop 0 = dktX5_givesUp_0 := by decide +kernel
theorem dksX5_givesUp_1 : cX5_givesUp.data.toList.drop 22 = dktX5_givesUp_1 := dk_seg dksX5_givesUp_0 22 rfl rfl
theorem dksX5_givesUp_2 : cX5_givesUp.data.toList.drop 44 = dktX5_givesUp_2 := dk_seg dksX5_givesUp_1 22 rfl rfl
theorem dksX5_givesUp_3 : cX5_givesUp.data.toList.drop 67 = dktX5_givesUp_3 := dk_seg dksX5_givesUp_2 23 rfl rfl
theorem dX5_givesUp_0 : decode cX5_givesUp 0 = .ok (.new 20, 3) := dk_187 0 20 (dk_at dksX5_givesUp_0 0 rfl rfl)
theorem dX5_givesUp_3 : decode cX5_givesUp 3 = .ok (.dup, 1) := dk_89 (dk_at dksX5_givesUp_0 3 rfl rfl)
theorem dX5_givesUp_4 : decode cX5_givesUp 4 = .ok (.invokespecial 22, 3) := dk_183 0 22 (dk_at dksX5_givesUp_0 4 rfl rfl)
theorem dX5_givesUp_7 : decode cX5_givesUp 7 = .ok (.astore_n 1, 1) := dk_76 (dk_at dksX5_givesUp_0 7 rfl rfl)
theorem dX5_givesUp_8 : decode cX5_givesUp 8 = .ok (.aload_n 0, 1) := dk_42 (dk_at dksX5_givesUp_0 8 rfl rfl)
theorem dX5_givesUp_9 : decode cX5_givesUp 9 = .ok (.getfield 40, 3) := dk_180 0 40 (dk_at dksX5_givesUp_0 9 rfl rfl)
theorem dX5_givesUp_12 : decode cX5_givesUp 12 = .ok (.invokevirtual 186, 3) := dk_182 0 186 (dk_at dksX5_givesUp_0 12 rfl rfl)
theorem dX5_givesUp_15 : decode cX5_givesUp 15 = .ok (.astore_n 2, 1) := dk_77 (dk_at dksX5_givesUp_0 15 rfl rfl)
theorem dX5_givesUp_16 : decode cX5_givesUp 16 = .ok (.aload_n 2, 1) := dk_44 (dk_at dksX5_givesUp_0 16 rfl rfl)
theorem dX5_givesUp_17 : decode cX5_givesUp 17 = .ok (.invokeinterface 190 1, 5) := by decide +kernel
theorem dX5_givesUp_22 : decode cX5_givesUp 22 = .ok (.ifCond .eq 34, 3) := dk_153 0 34 (dk_at dksX5_givesUp_1 0 rfl rfl)
theorem dX5_givesUp_25 : decode cX5_givesUp 25 = .ok (.aload_n 2, 1) := dk_44 (dk_at dksX5_givesUp_1 3 rfl rfl)
theorem dX5_givesUp_26 : decode cX5_givesUp 26 = .ok (.invokeinterface 196 1, 5) := by decide +kernel
theorem dX5_givesUp_31 : decode cX5_givesUp 31 = .ok (.checkcast 154, 3) := dk_192 0 154 (dk_at dksX5_givesUp_1 9 rfl rfl)
theorem dX5_givesUp_34 : decode cX5_givesUp 34 = .ok (.astore_n 3, 1) := dk_78 (dk_at dksX5_givesUp_1 12 rfl rfl)
theorem dX5_givesUp_35 : decode cX5_givesUp 35 = .ok (.aload_n 0, 1) := dk_42 (dk_at dksX5_givesUp_1 13 rfl rfl)
theorem dX5_givesUp_36 : decode cX5_givesUp 36 = .ok (.getfield 236, 3) := dk_180 0 236 (dk_at dksX5_givesUp_1 14 rfl rfl)
theorem dX5_givesUp_39 : decode cX5_givesUp 39 = .ok (.aload_n 3, 1) := dk_45 (dk_at dksX5_givesUp_1 17 rfl rfl)
theorem dX5_givesUp_40 : decode cX5_givesUp 40 = .ok (.getfield 240, 3) := dk_180 0 240 (dk_at dksX5_givesUp_1 18 rfl rfl)
theorem dX5_givesUp_43 : decode cX5_givesUp 43 = .ok (.lcmp, 1) := dk_148 (dk_at dksX5_givesUp_1 21 rfl rfl)
theorem dX5_givesUp_44 : decode cX5_givesUp 44 = .ok (.ifCond .lt 9, 3) := dk_155 0 9 (dk_at dksX5_givesUp_2 0 rfl rfl)
theorem dX5_givesUp_47 : decode cX5_givesUp 47 = .ok (.aload_n 1, 1) := dk_43 (dk_at dksX5_givesUp_2 3 rfl rfl)
theorem dX5_givesUp_48 : decode cX5_givesUp 48 = .ok (.aload_n 3, 1) := dk_45 (dk_at dksX5_givesUp_2 4 rfl rfl)
theorem dX5_givesUp_49 : decode cX5_givesUp 49 = .ok (.invokevirtual 54, 3) := dk_182 0 54 (dk_at dksX5_givesUp_2 5 rfl rfl)
theorem dX5_givesUp_52 : decode cX5_givesUp 52 = .ok (.pop, 1) := dk_87 (dk_at dksX5_givesUp_2 8 rfl rfl)
theorem dX5_givesUp_53 : decode cX5_givesUp 53 = .ok (.goto (-37), 3) := dk_167 255 219 (dk_at dksX5_givesUp_2 9 rfl rfl)
theorem dX5_givesUp_56 : decode cX5_givesUp 56 = .ok (.aload_n 1, 1) := dk_43 (dk_at dksX5_givesUp_2 12 rfl rfl)
theorem dX5_givesUp_57 : decode cX5_givesUp 57 = .ok (.invokevirtual 186, 3) := dk_182 0 186 (dk_at dksX5_givesUp_2 13 rfl rfl)
theorem dX5_givesUp_60 : decode cX5_givesUp 60 = .ok (.astore_n 2, 1) := dk_77 (dk_at dksX5_givesUp_2 16 rfl rfl)
theorem dX5_givesUp_61 : decode cX5_givesUp 61 = .ok (.aload_n 2, 1) := dk_44 (dk_at dksX5_givesUp_2 17 rfl rfl)
theorem dX5_givesUp_62 : decode cX5_givesUp 62 = .ok (.invokeinterface 190 1, 5) := by decide +kernel
theorem dX5_givesUp_67 : decode cX5_givesUp 67 = .ok (.ifCond .eq 21, 3) := dk_153 0 21 (dk_at dksX5_givesUp_3 0 rfl rfl)
theorem dX5_givesUp_70 : decode cX5_givesUp 70 = .ok (.aload_n 2, 1) := dk_44 (dk_at dksX5_givesUp_3 3 rfl rfl)
theorem dX5_givesUp_71 : decode cX5_givesUp 71 = .ok (.invokeinterface 196 1, 5) := by decide +kernel
theorem dX5_givesUp_76 : decode cX5_givesUp 76 = .ok (.checkcast 154, 3) := dk_192 0 154 (dk_at dksX5_givesUp_3 9 rfl rfl)
theorem dX5_givesUp_79 : decode cX5_givesUp 79 = .ok (.astore_n 3, 1) := dk_78 (dk_at dksX5_givesUp_3 12 rfl rfl)
theorem dX5_givesUp_80 : decode cX5_givesUp 80 = .ok (.aload_n 0, 1) := dk_42 (dk_at dksX5_givesUp_3 13 rfl rfl)
theorem dX5_givesUp_81 : decode cX5_givesUp 81 = .ok (.aload_n 3, 1) := dk_45 (dk_at dksX5_givesUp_3 14 rfl rfl)
theorem dX5_givesUp_82 : decode cX5_givesUp 82 = .ok (.invokevirtual 226, 3) := dk_182 0 226 (dk_at dksX5_givesUp_3 15 rfl rfl)
theorem dX5_givesUp_85 : decode cX5_givesUp 85 = .ok (.goto (-24), 3) := dk_167 255 232 (dk_at dksX5_givesUp_3 18 rfl rfl)
theorem dX5_givesUp_88 : decode cX5_givesUp 88 = .ok (.return_, 1) := dk_177 (dk_at dksX5_givesUp_3 21 rfl rfl)
abbrev cX5_release : ByteArray := prog_24_method_40_code
def yX5_release : MethodName := ⟨RX5, "release", "(I)I"⟩
def dkwX5_release_2 : List UInt8 := [172, 44, 16, 114, 181, 1, 68, 42, 182, 1, 6, 44, 180, 0, 200, 182, 0, 73, 172]
abbrev dktX5_release_2 : List UInt8 := dkwX5_release_2 ++ []
def dkwX5_release_1 : List UInt8 := [180, 1, 68, 16, 119, 160, 0, 7, 3, 167, 0, 4, 5, 181, 0, 69, 42, 180, 0, 69, 158, 0, 5, 3]
abbrev dktX5_release_1 : List UInt8 := dkwX5_release_1 ++ dktX5_release_2
def dkwX5_release_0 : List UInt8 := [42, 27, 182, 0, 246, 153, 0, 5, 3, 172, 42, 180, 0, 27, 27, 182, 0, 58, 192, 0, 66, 77, 42, 44]
abbrev dktX5_release_0 : List UInt8 := dkwX5_release_0 ++ dktX5_release_1
theorem dksX5_release_0 : cX5_release.data.toList.drop 0 = dktX5_release_0 := by decide +kernel
theorem dksX5_release_1 : cX5_release.data.toList.drop 24 = dktX5_release_1 := dk_seg dksX5_release_0 24 rfl rfl
theorem dksX5_release_2 : cX5_release.data.toList.drop 48 = dktX5_release_2 := dk_seg dksX5_release_1 24 rfl rfl
theorem dX5_release_0 : decode cX5_release 0 = .ok (.aload_n 0, 1) := dk_42 (dk_at dksX5_release_0 0 rfl rfl)
theorem dX5_release_1 : decode cX5_release 1 = .ok (.iload_n 1, 1) := dk_27 (dk_at dksX5_release_0 1 rfl rfl)
theorem dX5_release_2 : decode cX5_release 2 = .ok (.invokevirtual 246, 3) := dk_182 0 246 (dk_at dksX5_release_0 2 rfl rfl)
theorem dX5_release_5 : decode cX5_release 5 = .ok (.ifCond .eq 5, 3) := dk_153 0 5 (dk_at dksX5_release_0 5 rfl rfl)
theorem dX5_release_8 : decode cX5_release 8 = .ok (.iconst 0, 1) := dk_3 (dk_at dksX5_release_0 8 rfl rfl)
theorem dX5_release_9 : decode cX5_release 9 = .ok (.ireturn, 1) := dk_172 (dk_at dksX5_release_0 9 rfl rfl)
theorem dX5_release_10 : decode cX5_release 10 = .ok (.aload_n 0, 1) := dk_42 (dk_at dksX5_release_0 10 rfl rfl)
theorem dX5_release_11 : decode cX5_release 11 = .ok (.getfield 27, 3) := dk_180 0 27 (dk_at dksX5_release_0 11 rfl rfl)
theorem dX5_release_14 : decode cX5_release 14 = .ok (.iload_n 1, 1) := dk_27 (dk_at dksX5_release_0 14 rfl rfl)
theorem dX5_release_15 : decode cX5_release 15 = .ok (.invokevirtual 58, 3) := dk_182 0 58 (dk_at dksX5_release_0 15 rfl rfl)
theorem dX5_release_18 : decode cX5_release 18 = .ok (.checkcast 66, 3) := dk_192 0 66 (dk_at dksX5_release_0 18 rfl rfl)
theorem dX5_release_21 : decode cX5_release 21 = .ok (.astore_n 2, 1) := dk_77 (dk_at dksX5_release_0 21 rfl rfl)
theorem dX5_release_22 : decode cX5_release 22 = .ok (.aload_n 0, 1) := dk_42 (dk_at dksX5_release_0 22 rfl rfl)
theorem dX5_release_23 : decode cX5_release 23 = .ok (.aload_n 2, 1) := dk_44 (dk_at dksX5_release_0 23 rfl rfl)
theorem dX5_release_24 : decode cX5_release 24 = .ok (.getfield 324, 3) := dk_180 1 68 (dk_at dksX5_release_1 0 rfl rfl)
theorem dX5_release_27 : decode cX5_release 27 = .ok (.bipush 119, 2) := dk_16 119 (dk_at dksX5_release_1 3 rfl rfl)
theorem dX5_release_29 : decode cX5_release 29 = .ok (.if_icmp .ne 7, 3) := dk_160 0 7 (dk_at dksX5_release_1 5 rfl rfl)
theorem dX5_release_32 : decode cX5_release 32 = .ok (.iconst 0, 1) := dk_3 (dk_at dksX5_release_1 8 rfl rfl)
theorem dX5_release_33 : decode cX5_release 33 = .ok (.goto 4, 3) := dk_167 0 4 (dk_at dksX5_release_1 9 rfl rfl)
theorem dX5_release_36 : decode cX5_release 36 = .ok (.iconst 2, 1) := dk_5 (dk_at dksX5_release_1 12 rfl rfl)
theorem dX5_release_37 : decode cX5_release 37 = .ok (.putfield 69, 3) := dk_181 0 69 (dk_at dksX5_release_1 13 rfl rfl)
theorem dX5_release_40 : decode cX5_release 40 = .ok (.aload_n 0, 1) := dk_42 (dk_at dksX5_release_1 16 rfl rfl)
theorem dX5_release_41 : decode cX5_release 41 = .ok (.getfield 69, 3) := dk_180 0 69 (dk_at dksX5_release_1 17 rfl rfl)
theorem dX5_release_44 : decode cX5_release 44 = .ok (.ifCond .le 5, 3) := dk_158 0 5 (dk_at dksX5_release_1 20 rfl rfl)
theorem dX5_release_47 : decode cX5_release 47 = .ok (.iconst 0, 1) := dk_3 (dk_at dksX5_release_1 23 rfl rfl)
theorem dX5_release_48 : decode cX5_release 48 = .ok (.ireturn, 1) := dk_172 (dk_at dksX5_release_2 0 rfl rfl)
theorem dX5_release_49 : decode cX5_release 49 = .ok (.aload_n 2, 1) := dk_44 (dk_at dksX5_release_2 1 rfl rfl)
theorem dX5_release_50 : decode cX5_release 50 = .ok (.bipush 114, 2) := dk_16 114 (dk_at dksX5_release_2 2 rfl rfl)
theorem dX5_release_52 : decode cX5_release 52 = .ok (.putfield 324, 3) := dk_181 1 68 (dk_at dksX5_release_2 4 rfl rfl)
theorem dX5_release_55 : decode cX5_release 55 = .ok (.aload_n 0, 1) := dk_42 (dk_at dksX5_release_2 7 rfl rfl)
theorem dX5_release_56 : decode cX5_release 56 = .ok (.invokevirtual 262, 3) := dk_182 1 6 (dk_at dksX5_release_2 8 rfl rfl)
theorem dX5_release_59 : decode cX5_release 59 = .ok (.aload_n 2, 1) := dk_44 (dk_at dksX5_release_2 11 rfl rfl)
theorem dX5_release_60 : decode cX5_release 60 = .ok (.getfield 200, 3) := dk_180 0 200 (dk_at dksX5_release_2 12 rfl rfl)
theorem dX5_release_63 : decode cX5_release 63 = .ok (.invokevirtual 73, 3) := dk_182 0 73 (dk_at dksX5_release_2 15 rfl rfl)
theorem dX5_release_66 : decode cX5_release 66 = .ok (.ireturn, 1) := dk_172 (dk_at dksX5_release_2 18 rfl rfl)
abbrev cX5_state : ByteArray := prog_24_method_41_code
def yX5_state : MethodName := ⟨RX5, "state", "(I)C"⟩
def dkwX5_state_1 : List UInt8 := [180, 1, 68, 172]
abbrev dktX5_state_1 : List UInt8 := dkwX5_state_1 ++ []
def dkwX5_state_0 : List UInt8 := [42, 27, 182, 0, 246, 153, 0, 8, 16, 32, 167, 0, 17, 42, 180, 0, 27, 27, 182, 0, 58, 192, 0, 66]
abbrev dktX5_state_0 : List UInt8 := dkwX5_state_0 ++ dktX5_state_1
theorem dksX5_state_0 : cX5_state.data.toList.drop 0 = dktX5_state_0 := by decide +kernel
theorem dksX5_state_1 : cX5_state.data.toList.drop 24 = dktX5_state_1 := dk_seg dksX5_state_0 24 rfl rfl
theorem dX5_state_0 : decode cX5_state 0 = .ok (.aload_n 0, 1) := dk_42 (dk_at dksX5_state_0 0 rfl rfl)
theorem dX5_state_1 : decode cX5_state 1 = .ok (.iload_n 1, 1) := dk_27 (dk_at dksX5_state_0 1 rfl rfl)
theorem dX5_state_2 : decode cX5_state 2 = .ok (.invokevirtual 246, 3) := dk_182 0 246 (dk_at dksX5_state_0 2 rfl rfl)
theorem dX5_state_5 : decode cX5_state 5 = .ok (.ifCond .eq 8, 3) := dk_153 0 8 (dk_at dksX5_state_0 5 rfl rfl)
theorem dX5_state_8 : decode cX5_state 8 = .ok (.bipush 32, 2) := dk_16 32 (dk_at dksX5_state_0 8 rfl rfl)
theorem dX5_state_10 : decode cX5_state 10 = .ok (.goto 17, 3) := dk_167 0 17 (dk_at dksX5_state_0 10 rfl rfl)
theorem dX5_state_13 : decode cX5_state 13 = .ok (.aload_n 0, 1) := dk_42 (dk_at dksX5_state_0 13 rfl rfl)
theorem dX5_state_14 : decode cX5_state 14 = .ok (.getfield 27, 3) := dk_180 0 27 (dk_at dksX5_state_0 14 rfl rfl)
theorem dX5_state_17 : decode cX5_state 17 = .ok (.iload_n 1, 1) := dk_27 (dk_at dksX5_state_0 17 rfl rfl)
theorem dX5_state_18 : decode cX5_state 18 = .ok (.invokevirtual 58, 3) := dk_182 0 58 (dk_at dksX5_state_0 18 rfl rfl)
theorem dX5_state_21 : decode cX5_state 21 = .ok (.checkcast 66, 3) := dk_192 0 66 (dk_at dksX5_state_0 21 rfl rfl)
theorem dX5_state_24 : decode cX5_state 24 = .ok (.getfield 324, 3) := dk_180 1 68 (dk_at dksX5_state_1 0 rfl rfl)
theorem dX5_state_27 : decode cX5_state 27 = .ok (.ireturn, 1) := dk_172 (dk_at dksX5_state_1 3 rfl rfl)
abbrev cX5_frames : ByteArray := prog_24_method_42_code
def yX5_frames : MethodName := ⟨RX5, "frames", "(I)I"⟩
def dkwX5_frames_1 : List UInt8 := [180, 0, 200, 182, 0, 73, 172]
abbrev dktX5_frames_1 : List UInt8 := dkwX5_frames_1 ++ []
def dkwX5_frames_0 : List UInt8 := [42, 27, 182, 0, 246, 153, 0, 7, 3, 167, 0, 20, 42, 180, 0, 27, 27, 182, 0, 58, 192, 0, 66]
abbrev dktX5_frames_0 : List UInt8 := dkwX5_frames_0 ++ dktX5_frames_1
theorem dksX5_frames_0 : cX5_frames.data.toList.drop 0 = dktX5_frames_0 := by decide +kernel
theorem dksX5_frames_1 : cX5_frames.data.toList.drop 23 = dktX5_frames_1 := dk_seg dksX5_frames_0 23 rfl rfl
theorem dX5_frames_0 : decode cX5_frames 0 = .ok (.aload_n 0, 1) := dk_42 (dk_at dksX5_frames_0 0 rfl rfl)
theorem dX5_frames_1 : decode cX5_frames 1 = .ok (.iload_n 1, 1) := dk_27 (dk_at dksX5_frames_0 1 rfl rfl)
theorem dX5_frames_2 : decode cX5_frames 2 = .ok (.invokevirtual 246, 3) := dk_182 0 246 (dk_at dksX5_frames_0 2 rfl rfl)
theorem dX5_frames_5 : decode cX5_frames 5 = .ok (.ifCond .eq 7, 3) := dk_153 0 7 (dk_at dksX5_frames_0 5 rfl rfl)
theorem dX5_frames_8 : decode cX5_frames 8 = .ok (.iconst 0, 1) := dk_3 (dk_at dksX5_frames_0 8 rfl rfl)
theorem dX5_frames_9 : decode cX5_frames 9 = .ok (.goto 20, 3) := dk_167 0 20 (dk_at dksX5_frames_0 9 rfl rfl)
theorem dX5_frames_12 : decode cX5_frames 12 = .ok (.aload_n 0, 1) := dk_42 (dk_at dksX5_frames_0 12 rfl rfl)
theorem dX5_frames_13 : decode cX5_frames 13 = .ok (.getfield 27, 3) := dk_180 0 27 (dk_at dksX5_frames_0 13 rfl rfl)
theorem dX5_frames_16 : decode cX5_frames 16 = .ok (.iload_n 1, 1) := dk_27 (dk_at dksX5_frames_0 16 rfl rfl)
theorem dX5_frames_17 : decode cX5_frames 17 = .ok (.invokevirtual 58, 3) := dk_182 0 58 (dk_at dksX5_frames_0 17 rfl rfl)
theorem dX5_frames_20 : decode cX5_frames 20 = .ok (.checkcast 66, 3) := dk_192 0 66 (dk_at dksX5_frames_0 20 rfl rfl)
theorem dX5_frames_23 : decode cX5_frames 23 = .ok (.getfield 200, 3) := dk_180 0 200 (dk_at dksX5_frames_1 0 rfl rfl)
theorem dX5_frames_26 : decode cX5_frames 26 = .ok (.invokevirtual 73, 3) := dk_182 0 73 (dk_at dksX5_frames_1 3 rfl rfl)
theorem dX5_frames_29 : decode cX5_frames 29 = .ok (.ireturn, 1) := dk_172 (dk_at dksX5_frames_1 6 rfl rfl)
abbrev cX5_at : ByteArray := prog_24_method_44_code
def yX5_at : MethodName := ⟨RX5, "at", "(II)I"⟩
def dkwX5_at_2 : List UInt8 := [104, 16, 100, 45, 180, 0, 176, 104, 96, 45, 180, 0, 179, 96, 172]
abbrev dktX5_at_2 : List UInt8 := dkwX5_at_2 ++ []
def dkwX5_at_1 : List UInt8 := [182, 0, 58, 192, 0, 66, 180, 0, 200, 28, 182, 0, 58, 192, 0, 168, 78, 17, 3, 232, 45, 180, 0, 167]
abbrev dktX5_at_1 : List UInt8 := dkwX5_at_1 ++ dktX5_at_2
def dkwX5_at_0 : List UInt8 := [42, 27, 182, 0, 246, 154, 0, 12, 42, 27, 28, 182, 1, 79, 153, 0, 5, 3, 172, 42, 180, 0, 27, 27]
abbrev dktX5_at_0 : List UInt8 := dkwX5_at_0 ++ dktX5_at_1
theorem dksX5_at_0 : cX5_at.data.toList.drop 0 = dktX5_at_0 := by decide +kernel
theorem dksX5_at_1 : cX5_at.data.toList.drop 24 = dktX5_at_1 := dk_seg dksX5_at_0 24 rfl rfl
theorem dksX5_at_2 : cX5_at.data.toList.drop 48 = dktX5_at_2 := dk_seg dksX5_at_1 24 rfl rfl
theorem dX5_at_0 : decode cX5_at 0 = .ok (.aload_n 0, 1) := dk_42 (dk_at dksX5_at_0 0 rfl rfl)
theorem dX5_at_1 : decode cX5_at 1 = .ok (.iload_n 1, 1) := dk_27 (dk_at dksX5_at_0 1 rfl rfl)
theorem dX5_at_2 : decode cX5_at 2 = .ok (.invokevirtual 246, 3) := dk_182 0 246 (dk_at dksX5_at_0 2 rfl rfl)
theorem dX5_at_5 : decode cX5_at 5 = .ok (.ifCond .ne 12, 3) := dk_154 0 12 (dk_at dksX5_at_0 5 rfl rfl)
theorem dX5_at_8 : decode cX5_at 8 = .ok (.aload_n 0, 1) := dk_42 (dk_at dksX5_at_0 8 rfl rfl)
theorem dX5_at_9 : decode cX5_at 9 = .ok (.iload_n 1, 1) := dk_27 (dk_at dksX5_at_0 9 rfl rfl)
theorem dX5_at_10 : decode cX5_at 10 = .ok (.iload_n 2, 1) := dk_28 (dk_at dksX5_at_0 10 rfl rfl)
theorem dX5_at_11 : decode cX5_at 11 = .ok (.invokevirtual 335, 3) := dk_182 1 79 (dk_at dksX5_at_0 11 rfl rfl)
theorem dX5_at_14 : decode cX5_at 14 = .ok (.ifCond .eq 5, 3) := dk_153 0 5 (dk_at dksX5_at_0 14 rfl rfl)
theorem dX5_at_17 : decode cX5_at 17 = .ok (.iconst 0, 1) := dk_3 (dk_at dksX5_at_0 17 rfl rfl)
theorem dX5_at_18 : decode cX5_at 18 = .ok (.ireturn, 1) := dk_172 (dk_at dksX5_at_0 18 rfl rfl)
theorem dX5_at_19 : decode cX5_at 19 = .ok (.aload_n 0, 1) := dk_42 (dk_at dksX5_at_0 19 rfl rfl)
theorem dX5_at_20 : decode cX5_at 20 = .ok (.getfield 27, 3) := dk_180 0 27 (dk_at dksX5_at_0 20 rfl rfl)
theorem dX5_at_23 : decode cX5_at 23 = .ok (.iload_n 1, 1) := dk_27 (dk_at dksX5_at_0 23 rfl rfl)
theorem dX5_at_24 : decode cX5_at 24 = .ok (.invokevirtual 58, 3) := dk_182 0 58 (dk_at dksX5_at_1 0 rfl rfl)
theorem dX5_at_27 : decode cX5_at 27 = .ok (.checkcast 66, 3) := dk_192 0 66 (dk_at dksX5_at_1 3 rfl rfl)
theorem dX5_at_30 : decode cX5_at 30 = .ok (.getfield 200, 3) := dk_180 0 200 (dk_at dksX5_at_1 6 rfl rfl)
theorem dX5_at_33 : decode cX5_at 33 = .ok (.iload_n 2, 1) := dk_28 (dk_at dksX5_at_1 9 rfl rfl)
theorem dX5_at_34 : decode cX5_at 34 = .ok (.invokevirtual 58, 3) := dk_182 0 58 (dk_at dksX5_at_1 10 rfl rfl)
theorem dX5_at_37 : decode cX5_at 37 = .ok (.checkcast 168, 3) := dk_192 0 168 (dk_at dksX5_at_1 13 rfl rfl)
theorem dX5_at_40 : decode cX5_at 40 = .ok (.astore_n 3, 1) := dk_78 (dk_at dksX5_at_1 16 rfl rfl)
theorem dX5_at_41 : decode cX5_at 41 = .ok (.sipush 1000, 3) := dk_17 3 232 (dk_at dksX5_at_1 17 rfl rfl)
theorem dX5_at_44 : decode cX5_at 44 = .ok (.aload_n 3, 1) := dk_45 (dk_at dksX5_at_1 20 rfl rfl)
theorem dX5_at_45 : decode cX5_at 45 = .ok (.getfield 167, 3) := dk_180 0 167 (dk_at dksX5_at_1 21 rfl rfl)
theorem dX5_at_48 : decode cX5_at 48 = .ok (.imul, 1) := dk_104 (dk_at dksX5_at_2 0 rfl rfl)
theorem dX5_at_49 : decode cX5_at 49 = .ok (.bipush 100, 2) := dk_16 100 (dk_at dksX5_at_2 1 rfl rfl)
theorem dX5_at_51 : decode cX5_at 51 = .ok (.aload_n 3, 1) := dk_45 (dk_at dksX5_at_2 3 rfl rfl)
theorem dX5_at_52 : decode cX5_at 52 = .ok (.getfield 176, 3) := dk_180 0 176 (dk_at dksX5_at_2 4 rfl rfl)
theorem dX5_at_55 : decode cX5_at 55 = .ok (.imul, 1) := dk_104 (dk_at dksX5_at_2 7 rfl rfl)
theorem dX5_at_56 : decode cX5_at 56 = .ok (.iadd, 1) := dk_96 (dk_at dksX5_at_2 8 rfl rfl)
theorem dX5_at_57 : decode cX5_at 57 = .ok (.aload_n 3, 1) := dk_45 (dk_at dksX5_at_2 9 rfl rfl)
theorem dX5_at_58 : decode cX5_at 58 = .ok (.getfield 179, 3) := dk_180 0 179 (dk_at dksX5_at_2 10 rfl rfl)
theorem dX5_at_61 : decode cX5_at 61 = .ok (.iadd, 1) := dk_96 (dk_at dksX5_at_2 13 rfl rfl)
theorem dX5_at_62 : decode cX5_at 62 = .ok (.ireturn, 1) := dk_172 (dk_at dksX5_at_2 14 rfl rfl)
abbrev cX5_noFrame : ByteArray := prog_24_method_43_code
def yX5_noFrame : MethodName := ⟨RX5, "noFrame", "(II)Z"⟩
def dkwX5_noFrame_2 : List UInt8 := [167, 0, 4, 3, 172]
abbrev dktX5_noFrame_2 : List UInt8 := dkwX5_noFrame_2 ++ []
def dkwX5_noFrame_1 : List UInt8 := [184, 0, 3, 153, 0, 7, 3, 167, 0, 4, 5, 181, 0, 69, 42, 180, 0, 69, 158, 0, 7, 4]
abbrev dktX5_noFrame_1 : List UInt8 := dkwX5_noFrame_1 ++ dktX5_noFrame_2
def dkwX5_noFrame_0 : List UInt8 := [42, 28, 3, 42, 180, 0, 27, 27, 182, 0, 58, 192, 0, 66, 180, 0, 200, 182, 0, 73, 4, 100]
abbrev dktX5_noFrame_0 : List UInt8 := dkwX5_noFrame_0 ++ dktX5_noFrame_1
theorem dksX5_noFrame_0 : cX5_noFrame.data.toList.drop 0 = dktX5_noFrame_0 := by decide +kernel
theorem dksX5_noFrame_1 : cX5_noFrame.data.toList.drop 22 = dktX5_noFrame_1 := dk_seg dksX5_noFrame_0 22 rfl rfl
theorem dksX5_noFrame_2 : cX5_noFrame.data.toList.drop 44 = dktX5_noFrame_2 := dk_seg dksX5_noFrame_1 22 rfl rfl
theorem dX5_noFrame_0 : decode cX5_noFrame 0 = .ok (.aload_n 0, 1) := dk_42 (dk_at dksX5_noFrame_0 0 rfl rfl)
theorem dX5_noFrame_1 : decode cX5_noFrame 1 = .ok (.iload_n 2, 1) := dk_28 (dk_at dksX5_noFrame_0 1 rfl rfl)
theorem dX5_noFrame_2 : decode cX5_noFrame 2 = .ok (.iconst 0, 1) := dk_3 (dk_at dksX5_noFrame_0 2 rfl rfl)
theorem dX5_noFrame_3 : decode cX5_noFrame 3 = .ok (.aload_n 0, 1) := dk_42 (dk_at dksX5_noFrame_0 3 rfl rfl)
theorem dX5_noFrame_4 : decode cX5_noFrame 4 = .ok (.getfield 27, 3) := dk_180 0 27 (dk_at dksX5_noFrame_0 4 rfl rfl)
theorem dX5_noFrame_7 : decode cX5_noFrame 7 = .ok (.iload_n 1, 1) := dk_27 (dk_at dksX5_noFrame_0 7 rfl rfl)
theorem dX5_noFrame_8 : decode cX5_noFrame 8 = .ok (.invokevirtual 58, 3) := dk_182 0 58 (dk_at dksX5_noFrame_0 8 rfl rfl)
theorem dX5_noFrame_11 : decode cX5_noFrame 11 = .ok (.checkcast 66, 3) := dk_192 0 66 (dk_at dksX5_noFrame_0 11 rfl rfl)
theorem dX5_noFrame_14 : decode cX5_noFrame 14 = .ok (.getfield 200, 3) := dk_180 0 200 (dk_at dksX5_noFrame_0 14 rfl rfl)
theorem dX5_noFrame_17 : decode cX5_noFrame 17 = .ok (.invokevirtual 73, 3) := dk_182 0 73 (dk_at dksX5_noFrame_0 17 rfl rfl)
theorem dX5_noFrame_20 : decode cX5_noFrame 20 = .ok (.iconst 1, 1) := dk_4 (dk_at dksX5_noFrame_0 20 rfl rfl)
theorem dX5_noFrame_21 : decode cX5_noFrame 21 = .ok (.isub, 1) := dk_100 (dk_at dksX5_noFrame_0 21 rfl rfl)
theorem dX5_noFrame_22 : decode cX5_noFrame 22 = .ok (.invokestatic 3, 3) := dk_184 0 3 (dk_at dksX5_noFrame_1 0 rfl rfl)
theorem dX5_noFrame_25 : decode cX5_noFrame 25 = .ok (.ifCond .eq 7, 3) := dk_153 0 7 (dk_at dksX5_noFrame_1 3 rfl rfl)
theorem dX5_noFrame_28 : decode cX5_noFrame 28 = .ok (.iconst 0, 1) := dk_3 (dk_at dksX5_noFrame_1 6 rfl rfl)
theorem dX5_noFrame_29 : decode cX5_noFrame 29 = .ok (.goto 4, 3) := dk_167 0 4 (dk_at dksX5_noFrame_1 7 rfl rfl)
theorem dX5_noFrame_32 : decode cX5_noFrame 32 = .ok (.iconst 2, 1) := dk_5 (dk_at dksX5_noFrame_1 10 rfl rfl)
theorem dX5_noFrame_33 : decode cX5_noFrame 33 = .ok (.putfield 69, 3) := dk_181 0 69 (dk_at dksX5_noFrame_1 11 rfl rfl)
theorem dX5_noFrame_36 : decode cX5_noFrame 36 = .ok (.aload_n 0, 1) := dk_42 (dk_at dksX5_noFrame_1 14 rfl rfl)
theorem dX5_noFrame_37 : decode cX5_noFrame 37 = .ok (.getfield 69, 3) := dk_180 0 69 (dk_at dksX5_noFrame_1 15 rfl rfl)
theorem dX5_noFrame_40 : decode cX5_noFrame 40 = .ok (.ifCond .le 7, 3) := dk_158 0 7 (dk_at dksX5_noFrame_1 18 rfl rfl)
theorem dX5_noFrame_43 : decode cX5_noFrame 43 = .ok (.iconst 1, 1) := dk_4 (dk_at dksX5_noFrame_1 21 rfl rfl)
theorem dX5_noFrame_44 : decode cX5_noFrame 44 = .ok (.goto 4, 3) := dk_167 0 4 (dk_at dksX5_noFrame_2 0 rfl rfl)
theorem dX5_noFrame_47 : decode cX5_noFrame 47 = .ok (.iconst 0, 1) := dk_3 (dk_at dksX5_noFrame_2 3 rfl rfl)
theorem dX5_noFrame_48 : decode cX5_noFrame 48 = .ok (.ireturn, 1) := dk_172 (dk_at dksX5_noFrame_2 4 rfl rfl)
abbrev cX5_local : ByteArray := prog_24_method_45_code
def yX5_local : MethodName := ⟨RX5, "local", "(III)I"⟩
def dkwX5_local_2 : List UInt8 := [28, 182, 0, 58, 192, 0, 168, 180, 1, 11, 29, 46, 172]
abbrev dktX5_local_2 : List UInt8 := dkwX5_local_2 ++ []
def dkwX5_local_1 : List UInt8 := [182, 1, 79, 153, 0, 7, 3, 167, 0, 29, 42, 180, 0, 27, 27, 182, 0, 58, 192, 0, 66, 180, 0, 200]
abbrev dktX5_local_1 : List UInt8 := dkwX5_local_1 ++ dktX5_local_2
def dkwX5_local_0 : List UInt8 := [42, 27, 182, 0, 246, 154, 0, 10, 29, 184, 0, 7, 154, 0, 9, 42, 4, 182, 0, 249, 172, 42, 27, 28]
abbrev dktX5_local_0 : List UInt8 := dkwX5_local_0 ++ dktX5_local_1
theorem dksX5_local_0 : cX5_local.data.toList.drop 0 = dktX5_local_0 := by decide +kernel
theorem dksX5_local_1 : cX5_local.data.toList.drop 24 = dktX5_local_1 := dk_seg dksX5_local_0 24 rfl rfl
theorem dksX5_local_2 : cX5_local.data.toList.drop 48 = dktX5_local_2 := dk_seg dksX5_local_1 24 rfl rfl
theorem dX5_local_0 : decode cX5_local 0 = .ok (.aload_n 0, 1) := dk_42 (dk_at dksX5_local_0 0 rfl rfl)
theorem dX5_local_1 : decode cX5_local 1 = .ok (.iload_n 1, 1) := dk_27 (dk_at dksX5_local_0 1 rfl rfl)
theorem dX5_local_2 : decode cX5_local 2 = .ok (.invokevirtual 246, 3) := dk_182 0 246 (dk_at dksX5_local_0 2 rfl rfl)
theorem dX5_local_5 : decode cX5_local 5 = .ok (.ifCond .ne 10, 3) := dk_154 0 10 (dk_at dksX5_local_0 5 rfl rfl)
theorem dX5_local_8 : decode cX5_local 8 = .ok (.iload_n 3, 1) := dk_29 (dk_at dksX5_local_0 8 rfl rfl)
theorem dX5_local_9 : decode cX5_local 9 = .ok (.invokestatic 7, 3) := dk_184 0 7 (dk_at dksX5_local_0 9 rfl rfl)
theorem dX5_local_12 : decode cX5_local 12 = .ok (.ifCond .ne 9, 3) := dk_154 0 9 (dk_at dksX5_local_0 12 rfl rfl)
theorem dX5_local_15 : decode cX5_local 15 = .ok (.aload_n 0, 1) := dk_42 (dk_at dksX5_local_0 15 rfl rfl)
theorem dX5_local_16 : decode cX5_local 16 = .ok (.iconst 1, 1) := dk_4 (dk_at dksX5_local_0 16 rfl rfl)
theorem dX5_local_17 : decode cX5_local 17 = .ok (.invokevirtual 249, 3) := dk_182 0 249 (dk_at dksX5_local_0 17 rfl rfl)
theorem dX5_local_20 : decode cX5_local 20 = .ok (.ireturn, 1) := dk_172 (dk_at dksX5_local_0 20 rfl rfl)
theorem dX5_local_21 : decode cX5_local 21 = .ok (.aload_n 0, 1) := dk_42 (dk_at dksX5_local_0 21 rfl rfl)
theorem dX5_local_22 : decode cX5_local 22 = .ok (.iload_n 1, 1) := dk_27 (dk_at dksX5_local_0 22 rfl rfl)
theorem dX5_local_23 : decode cX5_local 23 = .ok (.iload_n 2, 1) := dk_28 (dk_at dksX5_local_0 23 rfl rfl)
theorem dX5_local_24 : decode cX5_local 24 = .ok (.invokevirtual 335, 3) := dk_182 1 79 (dk_at dksX5_local_1 0 rfl rfl)
theorem dX5_local_27 : decode cX5_local 27 = .ok (.ifCond .eq 7, 3) := dk_153 0 7 (dk_at dksX5_local_1 3 rfl rfl)
theorem dX5_local_30 : decode cX5_local 30 = .ok (.iconst 0, 1) := dk_3 (dk_at dksX5_local_1 6 rfl rfl)
theorem dX5_local_31 : decode cX5_local 31 = .ok (.goto 29, 3) := dk_167 0 29 (dk_at dksX5_local_1 7 rfl rfl)
theorem dX5_local_34 : decode cX5_local 34 = .ok (.aload_n 0, 1) := dk_42 (dk_at dksX5_local_1 10 rfl rfl)
theorem dX5_local_35 : decode cX5_local 35 = .ok (.getfield 27, 3) := dk_180 0 27 (dk_at dksX5_local_1 11 rfl rfl)
theorem dX5_local_38 : decode cX5_local 38 = .ok (.iload_n 1, 1) := dk_27 (dk_at dksX5_local_1 14 rfl rfl)
theorem dX5_local_39 : decode cX5_local 39 = .ok (.invokevirtual 58, 3) := dk_182 0 58 (dk_at dksX5_local_1 15 rfl rfl)
theorem dX5_local_42 : decode cX5_local 42 = .ok (.checkcast 66, 3) := dk_192 0 66 (dk_at dksX5_local_1 18 rfl rfl)
theorem dX5_local_45 : decode cX5_local 45 = .ok (.getfield 200, 3) := dk_180 0 200 (dk_at dksX5_local_1 21 rfl rfl)
theorem dX5_local_48 : decode cX5_local 48 = .ok (.iload_n 2, 1) := dk_28 (dk_at dksX5_local_2 0 rfl rfl)
theorem dX5_local_49 : decode cX5_local 49 = .ok (.invokevirtual 58, 3) := dk_182 0 58 (dk_at dksX5_local_2 1 rfl rfl)
theorem dX5_local_52 : decode cX5_local 52 = .ok (.checkcast 168, 3) := dk_192 0 168 (dk_at dksX5_local_2 4 rfl rfl)
theorem dX5_local_55 : decode cX5_local 55 = .ok (.getfield 267, 3) := dk_180 1 11 (dk_at dksX5_local_2 7 rfl rfl)
theorem dX5_local_58 : decode cX5_local 58 = .ok (.iload_n 3, 1) := dk_29 (dk_at dksX5_local_2 10 rfl rfl)
theorem dX5_local_59 : decode cX5_local 59 = .ok (.iaload, 1) := dk_46 (dk_at dksX5_local_2 11 rfl rfl)
theorem dX5_local_60 : decode cX5_local 60 = .ok (.ireturn, 1) := dk_172 (dk_at dksX5_local_2 12 rfl rfl)
abbrev cX5_change : ByteArray := prog_24_method_46_code
def yX5_change : MethodName := ⟨RX5, "change", "(CZZI)I"⟩
def dkwX5_change_4 : List UInt8 := [182, 0, 54, 87, 42, 182, 1, 6, 25, 6, 180, 1, 82, 172]
abbrev dktX5_change_4 : List UInt8 := dkwX5_change_4 ++ []
def dkwX5_change_3 : List UInt8 := [158, 0, 5, 3, 172, 42, 27, 28, 29, 21, 4, 182, 1, 43, 58, 6, 42, 180, 0, 40, 25, 6]
abbrev dktX5_change_3 : List UInt8 := dkwX5_change_3 ++ dktX5_change_4
def dkwX5_change_2 : List UInt8 := [180, 0, 37, 182, 0, 73, 16, 30, 161, 0, 7, 5, 167, 0, 4, 3, 181, 0, 69, 42, 180, 0, 69]
abbrev dktX5_change_2 : List UInt8 := dkwX5_change_2 ++ dktX5_change_3
def dkwX5_change_1 : List UInt8 := [184, 0, 3, 153, 0, 7, 4, 167, 0, 4, 3, 54, 5, 42, 21, 5, 154, 0, 7, 4, 167, 0, 20, 42]
abbrev dktX5_change_1 : List UInt8 := dkwX5_change_1 ++ dktX5_change_2
def dkwX5_change_0 : List UInt8 := [27, 16, 119, 159, 0, 15, 27, 16, 109, 159, 0, 9, 27, 16, 111, 160, 0, 19, 21, 4, 4, 17, 0, 200]
abbrev dktX5_change_0 : List UInt8 := dkwX5_change_0 ++ dktX5_change_1
theorem dksX5_change_0 : cX5_change.data.toList.drop 0 = dktX5_change_0 := by decide +kernel
theorem dksX5_change_1 : cX5_change.data.toList.drop 24 = dktX5_change_1 := dk_seg dksX5_change_0 24 rfl rfl
theorem dksX5_change_2 : cX5_change.data.toList.drop 48 = dktX5_change_2 := dk_seg dksX5_change_1 24 rfl rfl
theorem dksX5_change_3 : cX5_change.data.toList.drop 71 = dktX5_change_3 := dk_seg dksX5_change_2 23 rfl rfl
theorem dksX5_change_4 : cX5_change.data.toList.drop 93 = dktX5_change_4 := dk_seg dksX5_change_3 22 rfl rfl
theorem dX5_change_0 : decode cX5_change 0 = .ok (.iload_n 1, 1) := dk_27 (dk_at dksX5_change_0 0 rfl rfl)
theorem dX5_change_1 : decode cX5_change 1 = .ok (.bipush 119, 2) := dk_16 119 (dk_at dksX5_change_0 1 rfl rfl)
theorem dX5_change_3 : decode cX5_change 3 = .ok (.if_icmp .eq 15, 3) := dk_159 0 15 (dk_at dksX5_change_0 3 rfl rfl)
theorem dX5_change_6 : decode cX5_change 6 = .ok (.iload_n 1, 1) := dk_27 (dk_at dksX5_change_0 6 rfl rfl)
theorem dX5_change_7 : decode cX5_change 7 = .ok (.bipush 109, 2) := dk_16 109 (dk_at dksX5_change_0 7 rfl rfl)
theorem dX5_change_9 : decode cX5_change 9 = .ok (.if_icmp .eq 9, 3) := dk_159 0 9 (dk_at dksX5_change_0 9 rfl rfl)
theorem dX5_change_12 : decode cX5_change 12 = .ok (.iload_n 1, 1) := dk_27 (dk_at dksX5_change_0 12 rfl rfl)
theorem dX5_change_13 : decode cX5_change 13 = .ok (.bipush 111, 2) := dk_16 111 (dk_at dksX5_change_0 13 rfl rfl)
theorem dX5_change_15 : decode cX5_change 15 = .ok (.if_icmp .ne 19, 3) := dk_160 0 19 (dk_at dksX5_change_0 15 rfl rfl)
theorem dX5_change_18 : decode cX5_change 18 = .ok (.iload 4, 2) := dk_21 4 (dk_at dksX5_change_0 18 rfl rfl)
theorem dX5_change_20 : decode cX5_change 20 = .ok (.iconst 1, 1) := dk_4 (dk_at dksX5_change_0 20 rfl rfl)
theorem dX5_change_21 : decode cX5_change 21 = .ok (.sipush 200, 3) := dk_17 0 200 (dk_at dksX5_change_0 21 rfl rfl)
theorem dX5_change_24 : decode cX5_change 24 = .ok (.invokestatic 3, 3) := dk_184 0 3 (dk_at dksX5_change_1 0 rfl rfl)
theorem dX5_change_27 : decode cX5_change 27 = .ok (.ifCond .eq 7, 3) := dk_153 0 7 (dk_at dksX5_change_1 3 rfl rfl)
theorem dX5_change_30 : decode cX5_change 30 = .ok (.iconst 1, 1) := dk_4 (dk_at dksX5_change_1 6 rfl rfl)
theorem dX5_change_31 : decode cX5_change 31 = .ok (.goto 4, 3) := dk_167 0 4 (dk_at dksX5_change_1 7 rfl rfl)
theorem dX5_change_34 : decode cX5_change 34 = .ok (.iconst 0, 1) := dk_3 (dk_at dksX5_change_1 10 rfl rfl)
theorem dX5_change_35 : decode cX5_change 35 = .ok (.istore 5, 2) := dk_54 5 (dk_at dksX5_change_1 11 rfl rfl)
theorem dX5_change_37 : decode cX5_change 37 = .ok (.aload_n 0, 1) := dk_42 (dk_at dksX5_change_1 13 rfl rfl)
theorem dX5_change_38 : decode cX5_change 38 = .ok (.iload 5, 2) := dk_21 5 (dk_at dksX5_change_1 14 rfl rfl)
theorem dX5_change_40 : decode cX5_change 40 = .ok (.ifCond .ne 7, 3) := dk_154 0 7 (dk_at dksX5_change_1 16 rfl rfl)
theorem dX5_change_43 : decode cX5_change 43 = .ok (.iconst 1, 1) := dk_4 (dk_at dksX5_change_1 19 rfl rfl)
theorem dX5_change_44 : decode cX5_change 44 = .ok (.goto 20, 3) := dk_167 0 20 (dk_at dksX5_change_1 20 rfl rfl)
theorem dX5_change_47 : decode cX5_change 47 = .ok (.aload_n 0, 1) := dk_42 (dk_at dksX5_change_1 23 rfl rfl)
theorem dX5_change_48 : decode cX5_change 48 = .ok (.getfield 37, 3) := dk_180 0 37 (dk_at dksX5_change_2 0 rfl rfl)
theorem dX5_change_51 : decode cX5_change 51 = .ok (.invokevirtual 73, 3) := dk_182 0 73 (dk_at dksX5_change_2 3 rfl rfl)
theorem dX5_change_54 : decode cX5_change 54 = .ok (.bipush 30, 2) := dk_16 30 (dk_at dksX5_change_2 6 rfl rfl)
theorem dX5_change_56 : decode cX5_change 56 = .ok (.if_icmp .lt 7, 3) := dk_161 0 7 (dk_at dksX5_change_2 8 rfl rfl)
theorem dX5_change_59 : decode cX5_change 59 = .ok (.iconst 2, 1) := dk_5 (dk_at dksX5_change_2 11 rfl rfl)
theorem dX5_change_60 : decode cX5_change 60 = .ok (.goto 4, 3) := dk_167 0 4 (dk_at dksX5_change_2 12 rfl rfl)
theorem dX5_change_63 : decode cX5_change 63 = .ok (.iconst 0, 1) := dk_3 (dk_at dksX5_change_2 15 rfl rfl)
theorem dX5_change_64 : decode cX5_change 64 = .ok (.putfield 69, 3) := dk_181 0 69 (dk_at dksX5_change_2 16 rfl rfl)
theorem dX5_change_67 : decode cX5_change 67 = .ok (.aload_n 0, 1) := dk_42 (dk_at dksX5_change_2 19 rfl rfl)
theorem dX5_change_68 : decode cX5_change 68 = .ok (.getfield 69, 3) := dk_180 0 69 (dk_at dksX5_change_2 20 rfl rfl)
theorem dX5_change_71 : decode cX5_change 71 = .ok (.ifCond .le 5, 3) := dk_158 0 5 (dk_at dksX5_change_3 0 rfl rfl)
theorem dX5_change_74 : decode cX5_change 74 = .ok (.iconst 0, 1) := dk_3 (dk_at dksX5_change_3 3 rfl rfl)
theorem dX5_change_75 : decode cX5_change 75 = .ok (.ireturn, 1) := dk_172 (dk_at dksX5_change_3 4 rfl rfl)
theorem dX5_change_76 : decode cX5_change 76 = .ok (.aload_n 0, 1) := dk_42 (dk_at dksX5_change_3 5 rfl rfl)
theorem dX5_change_77 : decode cX5_change 77 = .ok (.iload_n 1, 1) := dk_27 (dk_at dksX5_change_3 6 rfl rfl)
theorem dX5_change_78 : decode cX5_change 78 = .ok (.iload_n 2, 1) := dk_28 (dk_at dksX5_change_3 7 rfl rfl)
theorem dX5_change_79 : decode cX5_change 79 = .ok (.iload_n 3, 1) := dk_29 (dk_at dksX5_change_3 8 rfl rfl)
theorem dX5_change_80 : decode cX5_change 80 = .ok (.iload 4, 2) := dk_21 4 (dk_at dksX5_change_3 9 rfl rfl)
theorem dX5_change_82 : decode cX5_change 82 = .ok (.invokevirtual 299, 3) := dk_182 1 43 (dk_at dksX5_change_3 11 rfl rfl)
theorem dX5_change_85 : decode cX5_change 85 = .ok (.astore 6, 2) := dk_58 6 (dk_at dksX5_change_3 14 rfl rfl)
theorem dX5_change_87 : decode cX5_change 87 = .ok (.aload_n 0, 1) := dk_42 (dk_at dksX5_change_3 16 rfl rfl)
theorem dX5_change_88 : decode cX5_change 88 = .ok (.getfield 40, 3) := dk_180 0 40 (dk_at dksX5_change_3 17 rfl rfl)
theorem dX5_change_91 : decode cX5_change 91 = .ok (.aload 6, 2) := dk_25 6 (dk_at dksX5_change_3 20 rfl rfl)
theorem dX5_change_93 : decode cX5_change 93 = .ok (.invokevirtual 54, 3) := dk_182 0 54 (dk_at dksX5_change_4 0 rfl rfl)
theorem dX5_change_96 : decode cX5_change 96 = .ok (.pop, 1) := dk_87 (dk_at dksX5_change_4 3 rfl rfl)
theorem dX5_change_97 : decode cX5_change 97 = .ok (.aload_n 0, 1) := dk_42 (dk_at dksX5_change_4 4 rfl rfl)
theorem dX5_change_98 : decode cX5_change 98 = .ok (.invokevirtual 262, 3) := dk_182 1 6 (dk_at dksX5_change_4 5 rfl rfl)
theorem dX5_change_101 : decode cX5_change 101 = .ok (.aload 6, 2) := dk_25 6 (dk_at dksX5_change_4 8 rfl rfl)
theorem dX5_change_103 : decode cX5_change 103 = .ok (.getfield 338, 3) := dk_180 1 82 (dk_at dksX5_change_4 10 rfl rfl)
theorem dX5_change_106 : decode cX5_change 106 = .ok (.ireturn, 1) := dk_172 (dk_at dksX5_change_4 13 rfl rfl)
abbrev cX5_changed : ByteArray := prog_24_method_47_code
def yX5_changed : MethodName := ⟨RX5, "changed", "(I)C"⟩
def dkwX5_changed_2 : List UInt8 := [192, 0, 154, 180, 0, 217, 172]
abbrev dktX5_changed_2 : List UInt8 := dkwX5_changed_2 ++ []
def dkwX5_changed_1 : List UInt8 := [181, 0, 69, 42, 180, 0, 69, 158, 0, 8, 16, 32, 167, 0, 17, 42, 180, 0, 37, 27, 182, 0, 58]
abbrev dktX5_changed_1 : List UInt8 := dkwX5_changed_1 ++ dktX5_changed_2
def dkwX5_changed_0 : List UInt8 := [42, 27, 3, 42, 180, 0, 37, 182, 0, 73, 4, 100, 184, 0, 3, 153, 0, 7, 3, 167, 0, 4, 4]
abbrev dktX5_changed_0 : List UInt8 := dkwX5_changed_0 ++ dktX5_changed_1
theorem dksX5_changed_0 : cX5_changed.data.toList.drop 0 = dktX5_changed_0 := by decide +kernel
theorem dksX5_changed_1 : cX5_changed.data.toList.drop 23 = dktX5_changed_1 := dk_seg dksX5_changed_0 23 rfl rfl
theorem dksX5_changed_2 : cX5_changed.data.toList.drop 46 = dktX5_changed_2 := dk_seg dksX5_changed_1 23 rfl rfl
theorem dX5_changed_0 : decode cX5_changed 0 = .ok (.aload_n 0, 1) := dk_42 (dk_at dksX5_changed_0 0 rfl rfl)
theorem dX5_changed_1 : decode cX5_changed 1 = .ok (.iload_n 1, 1) := dk_27 (dk_at dksX5_changed_0 1 rfl rfl)
theorem dX5_changed_2 : decode cX5_changed 2 = .ok (.iconst 0, 1) := dk_3 (dk_at dksX5_changed_0 2 rfl rfl)
theorem dX5_changed_3 : decode cX5_changed 3 = .ok (.aload_n 0, 1) := dk_42 (dk_at dksX5_changed_0 3 rfl rfl)
theorem dX5_changed_4 : decode cX5_changed 4 = .ok (.getfield 37, 3) := dk_180 0 37 (dk_at dksX5_changed_0 4 rfl rfl)
theorem dX5_changed_7 : decode cX5_changed 7 = .ok (.invokevirtual 73, 3) := dk_182 0 73 (dk_at dksX5_changed_0 7 rfl rfl)
theorem dX5_changed_10 : decode cX5_changed 10 = .ok (.iconst 1, 1) := dk_4 (dk_at dksX5_changed_0 10 rfl rfl)
theorem dX5_changed_11 : decode cX5_changed 11 = .ok (.isub, 1) := dk_100 (dk_at dksX5_changed_0 11 rfl rfl)
theorem dX5_changed_12 : decode cX5_changed 12 = .ok (.invokestatic 3, 3) := dk_184 0 3 (dk_at dksX5_changed_0 12 rfl rfl)
theorem dX5_changed_15 : decode cX5_changed 15 = .ok (.ifCond .eq 7, 3) := dk_153 0 7 (dk_at dksX5_changed_0 15 rfl rfl)
theorem dX5_changed_18 : decode cX5_changed 18 = .ok (.iconst 0, 1) := dk_3 (dk_at dksX5_changed_0 18 rfl rfl)
theorem dX5_changed_19 : decode cX5_changed 19 = .ok (.goto 4, 3) := dk_167 0 4 (dk_at dksX5_changed_0 19 rfl rfl)
theorem dX5_changed_22 : decode cX5_changed 22 = .ok (.iconst 1, 1) := dk_4 (dk_at dksX5_changed_0 22 rfl rfl)
theorem dX5_changed_23 : decode cX5_changed 23 = .ok (.putfield 69, 3) := dk_181 0 69 (dk_at dksX5_changed_1 0 rfl rfl)
theorem dX5_changed_26 : decode cX5_changed 26 = .ok (.aload_n 0, 1) := dk_42 (dk_at dksX5_changed_1 3 rfl rfl)
theorem dX5_changed_27 : decode cX5_changed 27 = .ok (.getfield 69, 3) := dk_180 0 69 (dk_at dksX5_changed_1 4 rfl rfl)
theorem dX5_changed_30 : decode cX5_changed 30 = .ok (.ifCond .le 8, 3) := dk_158 0 8 (dk_at dksX5_changed_1 7 rfl rfl)
theorem dX5_changed_33 : decode cX5_changed 33 = .ok (.bipush 32, 2) := dk_16 32 (dk_at dksX5_changed_1 10 rfl rfl)
theorem dX5_changed_35 : decode cX5_changed 35 = .ok (.goto 17, 3) := dk_167 0 17 (dk_at dksX5_changed_1 12 rfl rfl)
theorem dX5_changed_38 : decode cX5_changed 38 = .ok (.aload_n 0, 1) := dk_42 (dk_at dksX5_changed_1 15 rfl rfl)
theorem dX5_changed_39 : decode cX5_changed 39 = .ok (.getfield 37, 3) := dk_180 0 37 (dk_at dksX5_changed_1 16 rfl rfl)
theorem dX5_changed_42 : decode cX5_changed 42 = .ok (.iload_n 1, 1) := dk_27 (dk_at dksX5_changed_1 19 rfl rfl)
theorem dX5_changed_43 : decode cX5_changed 43 = .ok (.invokevirtual 58, 3) := dk_182 0 58 (dk_at dksX5_changed_1 20 rfl rfl)
theorem dX5_changed_46 : decode cX5_changed 46 = .ok (.checkcast 154, 3) := dk_192 0 154 (dk_at dksX5_changed_2 0 rfl rfl)
theorem dX5_changed_49 : decode cX5_changed 49 = .ok (.getfield 217, 3) := dk_180 0 217 (dk_at dksX5_changed_2 3 rfl rfl)
theorem dX5_changed_52 : decode cX5_changed 52 = .ok (.ireturn, 1) := dk_172 (dk_at dksX5_changed_2 6 rfl rfl)
abbrev cX5_queued : ByteArray := prog_24_method_48_code
def yX5_queued : MethodName := ⟨RX5, "queued", "()I"⟩
def dkwX5_queued_0 : List UInt8 := [42, 3, 181, 0, 69, 42, 180, 0, 40, 182, 0, 73, 172]
abbrev dktX5_queued_0 : List UInt8 := dkwX5_queued_0 ++ []
theorem dksX5_queued_0 : cX5_queued.data.toList.drop 0 = dktX5_queued_0 := by decide +kernel
theorem dX5_queued_0 : decode cX5_queued 0 = .ok (.aload_n 0, 1) := dk_42 (dk_at dksX5_queued_0 0 rfl rfl)
theorem dX5_queued_1 : decode cX5_queued 1 = .ok (.iconst 0, 1) := dk_3 (dk_at dksX5_queued_0 1 rfl rfl)
theorem dX5_queued_2 : decode cX5_queued 2 = .ok (.putfield 69, 3) := dk_181 0 69 (dk_at dksX5_queued_0 2 rfl rfl)
theorem dX5_queued_5 : decode cX5_queued 5 = .ok (.aload_n 0, 1) := dk_42 (dk_at dksX5_queued_0 5 rfl rfl)
theorem dX5_queued_6 : decode cX5_queued 6 = .ok (.getfield 40, 3) := dk_180 0 40 (dk_at dksX5_queued_0 6 rfl rfl)
theorem dX5_queued_9 : decode cX5_queued 9 = .ok (.invokevirtual 73, 3) := dk_182 0 73 (dk_at dksX5_queued_0 9 rfl rfl)
theorem dX5_queued_12 : decode cX5_queued 12 = .ok (.ireturn, 1) := dk_172 (dk_at dksX5_queued_0 12 rfl rfl)
abbrev cX5_present : ByteArray := prog_24_method_49_code
def yX5_present : MethodName := ⟨RX5, "present", "()I"⟩
def dkwX5_present_0 : List UInt8 := [42, 3, 181, 0, 69, 42, 180, 0, 150, 172]
abbrev dktX5_present_0 : List UInt8 := dkwX5_present_0 ++ []
theorem dksX5_present_0 : cX5_present.data.toList.drop 0 = dktX5_present_0 := by decide +kernel
theorem dX5_present_0 : decode cX5_present 0 = .ok (.aload_n 0, 1) := dk_42 (dk_at dksX5_present_0 0 rfl rfl)
theorem dX5_present_1 : decode cX5_present 1 = .ok (.iconst 0, 1) := dk_3 (dk_at dksX5_present_0 1 rfl rfl)
theorem dX5_present_2 : decode cX5_present 2 = .ok (.putfield 69, 3) := dk_181 0 69 (dk_at dksX5_present_0 2 rfl rfl)
theorem dX5_present_5 : decode cX5_present 5 = .ok (.aload_n 0, 1) := dk_42 (dk_at dksX5_present_0 5 rfl rfl)
theorem dX5_present_6 : decode cX5_present 6 = .ok (.getfield 150, 3) := dk_180 0 150 (dk_at dksX5_present_0 6 rfl rfl)
theorem dX5_present_9 : decode cX5_present 9 = .ok (.ireturn, 1) := dk_172 (dk_at dksX5_present_0 9 rfl rfl)
abbrev cX5_versions : ByteArray := prog_24_method_50_code
def yX5_versions : MethodName := ⟨RX5, "versions", "()I"⟩
def dkwX5_versions_0 : List UInt8 := [42, 3, 181, 0, 69, 42, 180, 0, 23, 182, 0, 73, 172]
abbrev dktX5_versions_0 : List UInt8 := dkwX5_versions_0 ++ []
theorem dksX5_versions_0 : cX5_versions.data.toList.drop 0 = dktX5_versions_0 := by decide +kernel
theorem dX5_versions_0 : decode cX5_versions 0 = .ok (.aload_n 0, 1) := dk_42 (dk_at dksX5_versions_0 0 rfl rfl)
theorem dX5_versions_1 : decode cX5_versions 1 = .ok (.iconst 0, 1) := dk_3 (dk_at dksX5_versions_0 1 rfl rfl)
theorem dX5_versions_2 : decode cX5_versions 2 = .ok (.putfield 69, 3) := dk_181 0 69 (dk_at dksX5_versions_0 2 rfl rfl)
theorem dX5_versions_5 : decode cX5_versions 5 = .ok (.aload_n 0, 1) := dk_42 (dk_at dksX5_versions_0 5 rfl rfl)
theorem dX5_versions_6 : decode cX5_versions 6 = .ok (.getfield 23, 3) := dk_180 0 23 (dk_at dksX5_versions_0 6 rfl rfl)
theorem dX5_versions_9 : decode cX5_versions 9 = .ok (.invokevirtual 73, 3) := dk_182 0 73 (dk_at dksX5_versions_0 9 rfl rfl)
theorem dX5_versions_12 : decode cX5_versions 12 = .ok (.ireturn, 1) := dk_172 (dk_at dksX5_versions_0 12 rfl rfl)
abbrev cX5_against_2 : ByteArray := prog_24_method_51_code
def yX5_against_2 : MethodName := ⟨RX5, "against", "()I"⟩
def dkwX5_against_2_1 : List UInt8 := [158, 0, 7, 3, 167, 0, 18, 42, 42, 180, 0, 40, 3, 182, 0, 58, 192, 0, 154, 182, 0, 230, 172]
abbrev dktX5_against_2_1 : List UInt8 := dkwX5_against_2_1 ++ []
def dkwX5_against_2_0 : List UInt8 := [42, 42, 180, 0, 40, 182, 0, 223, 153, 0, 7, 4, 167, 0, 4, 3, 181, 0, 69, 42, 180, 0, 69]
abbrev dktX5_against_2_0 : List UInt8 := dkwX5_against_2_0 ++ dktX5_against_2_1
theorem dksX5_against_2_0 : cX5_against_2.data.toList.drop 0 = dktX5_against_2_0 := by decide +kernel
theorem dksX5_against_2_1 : cX5_against_2.data.toList.drop 23 = dktX5_against_2_1 := dk_seg dksX5_against_2_0 23 rfl rfl
theorem dX5_against_2_0 : decode cX5_against_2 0 = .ok (.aload_n 0, 1) := dk_42 (dk_at dksX5_against_2_0 0 rfl rfl)
theorem dX5_against_2_1 : decode cX5_against_2 1 = .ok (.aload_n 0, 1) := dk_42 (dk_at dksX5_against_2_0 1 rfl rfl)
theorem dX5_against_2_2 : decode cX5_against_2 2 = .ok (.getfield 40, 3) := dk_180 0 40 (dk_at dksX5_against_2_0 2 rfl rfl)
theorem dX5_against_2_5 : decode cX5_against_2 5 = .ok (.invokevirtual 223, 3) := dk_182 0 223 (dk_at dksX5_against_2_0 5 rfl rfl)
theorem dX5_against_2_8 : decode cX5_against_2 8 = .ok (.ifCond .eq 7, 3) := dk_153 0 7 (dk_at dksX5_against_2_0 8 rfl rfl)
theorem dX5_against_2_11 : decode cX5_against_2 11 = .ok (.iconst 1, 1) := dk_4 (dk_at dksX5_against_2_0 11 rfl rfl)
theorem dX5_against_2_12 : decode cX5_against_2 12 = .ok (.goto 4, 3) := dk_167 0 4 (dk_at dksX5_against_2_0 12 rfl rfl)
theorem dX5_against_2_15 : decode cX5_against_2 15 = .ok (.iconst 0, 1) := dk_3 (dk_at dksX5_against_2_0 15 rfl rfl)
theorem dX5_against_2_16 : decode cX5_against_2 16 = .ok (.putfield 69, 3) := dk_181 0 69 (dk_at dksX5_against_2_0 16 rfl rfl)
theorem dX5_against_2_19 : decode cX5_against_2 19 = .ok (.aload_n 0, 1) := dk_42 (dk_at dksX5_against_2_0 19 rfl rfl)
theorem dX5_against_2_20 : decode cX5_against_2 20 = .ok (.getfield 69, 3) := dk_180 0 69 (dk_at dksX5_against_2_0 20 rfl rfl)
theorem dX5_against_2_23 : decode cX5_against_2 23 = .ok (.ifCond .le 7, 3) := dk_158 0 7 (dk_at dksX5_against_2_1 0 rfl rfl)
theorem dX5_against_2_26 : decode cX5_against_2 26 = .ok (.iconst 0, 1) := dk_3 (dk_at dksX5_against_2_1 3 rfl rfl)
theorem dX5_against_2_27 : decode cX5_against_2 27 = .ok (.goto 18, 3) := dk_167 0 18 (dk_at dksX5_against_2_1 4 rfl rfl)
theorem dX5_against_2_30 : decode cX5_against_2 30 = .ok (.aload_n 0, 1) := dk_42 (dk_at dksX5_against_2_1 7 rfl rfl)
theorem dX5_against_2_31 : decode cX5_against_2 31 = .ok (.aload_n 0, 1) := dk_42 (dk_at dksX5_against_2_1 8 rfl rfl)
theorem dX5_against_2_32 : decode cX5_against_2 32 = .ok (.getfield 40, 3) := dk_180 0 40 (dk_at dksX5_against_2_1 9 rfl rfl)
theorem dX5_against_2_35 : decode cX5_against_2 35 = .ok (.iconst 0, 1) := dk_3 (dk_at dksX5_against_2_1 12 rfl rfl)
theorem dX5_against_2_36 : decode cX5_against_2 36 = .ok (.invokevirtual 58, 3) := dk_182 0 58 (dk_at dksX5_against_2_1 13 rfl rfl)
theorem dX5_against_2_39 : decode cX5_against_2 39 = .ok (.checkcast 154, 3) := dk_192 0 154 (dk_at dksX5_against_2_1 16 rfl rfl)
theorem dX5_against_2_42 : decode cX5_against_2 42 = .ok (.invokevirtual 230, 3) := dk_182 0 230 (dk_at dksX5_against_2_1 19 rfl rfl)
theorem dX5_against_2_45 : decode cX5_against_2 45 = .ok (.ireturn, 1) := dk_172 (dk_at dksX5_against_2_1 22 rfl rfl)
abbrev cX5_watch : ByteArray := prog_24_method_52_code
def yX5_watch : MethodName := ⟨RX5, "watch", "(I)Z"⟩
def dkwX5_watch_0 : List UInt8 := [42, 3, 181, 0, 69, 42, 180, 1, 37, 61, 42, 4, 181, 1, 37, 42, 27, 181, 1, 40, 28, 172]
abbrev dktX5_watch_0 : List UInt8 := dkwX5_watch_0 ++ []
theorem dksX5_watch_0 : cX5_watch.data.toList.drop 0 = dktX5_watch_0 := by decide +kernel
theorem dX5_watch_0 : decode cX5_watch 0 = .ok (.aload_n 0, 1) := dk_42 (dk_at dksX5_watch_0 0 rfl rfl)
theorem dX5_watch_1 : decode cX5_watch 1 = .ok (.iconst 0, 1) := dk_3 (dk_at dksX5_watch_0 1 rfl rfl)
theorem dX5_watch_2 : decode cX5_watch 2 = .ok (.putfield 69, 3) := dk_181 0 69 (dk_at dksX5_watch_0 2 rfl rfl)
theorem dX5_watch_5 : decode cX5_watch 5 = .ok (.aload_n 0, 1) := dk_42 (dk_at dksX5_watch_0 5 rfl rfl)
theorem dX5_watch_6 : decode cX5_watch 6 = .ok (.getfield 293, 3) := dk_180 1 37 (dk_at dksX5_watch_0 6 rfl rfl)
theorem dX5_watch_9 : decode cX5_watch 9 = .ok (.istore_n 2, 1) := dk_61 (dk_at dksX5_watch_0 9 rfl rfl)
theorem dX5_watch_10 : decode cX5_watch 10 = .ok (.aload_n 0, 1) := dk_42 (dk_at dksX5_watch_0 10 rfl rfl)
theorem dX5_watch_11 : decode cX5_watch 11 = .ok (.iconst 1, 1) := dk_4 (dk_at dksX5_watch_0 11 rfl rfl)
theorem dX5_watch_12 : decode cX5_watch 12 = .ok (.putfield 293, 3) := dk_181 1 37 (dk_at dksX5_watch_0 12 rfl rfl)
theorem dX5_watch_15 : decode cX5_watch 15 = .ok (.aload_n 0, 1) := dk_42 (dk_at dksX5_watch_0 15 rfl rfl)
theorem dX5_watch_16 : decode cX5_watch 16 = .ok (.iload_n 1, 1) := dk_27 (dk_at dksX5_watch_0 16 rfl rfl)
theorem dX5_watch_17 : decode cX5_watch 17 = .ok (.putfield 296, 3) := dk_181 1 40 (dk_at dksX5_watch_0 17 rfl rfl)
theorem dX5_watch_20 : decode cX5_watch 20 = .ok (.iload_n 2, 1) := dk_28 (dk_at dksX5_watch_0 20 rfl rfl)
theorem dX5_watch_21 : decode cX5_watch 21 = .ok (.ireturn, 1) := dk_172 (dk_at dksX5_watch_0 21 rfl rfl)
abbrev cX5_isWatched : ByteArray := prog_24_method_53_code
def yX5_isWatched : MethodName := ⟨RX5, "isWatched", "()Z"⟩
def dkwX5_isWatched_0 : List UInt8 := [42, 3, 181, 0, 69, 42, 180, 1, 37, 172]
abbrev dktX5_isWatched_0 : List UInt8 := dkwX5_isWatched_0 ++ []
theorem dksX5_isWatched_0 : cX5_isWatched.data.toList.drop 0 = dktX5_isWatched_0 := by decide +kernel
theorem dX5_isWatched_0 : decode cX5_isWatched 0 = .ok (.aload_n 0, 1) := dk_42 (dk_at dksX5_isWatched_0 0 rfl rfl)
theorem dX5_isWatched_1 : decode cX5_isWatched 1 = .ok (.iconst 0, 1) := dk_3 (dk_at dksX5_isWatched_0 1 rfl rfl)
theorem dX5_isWatched_2 : decode cX5_isWatched 2 = .ok (.putfield 69, 3) := dk_181 0 69 (dk_at dksX5_isWatched_0 2 rfl rfl)
theorem dX5_isWatched_5 : decode cX5_isWatched 5 = .ok (.aload_n 0, 1) := dk_42 (dk_at dksX5_isWatched_0 5 rfl rfl)
theorem dX5_isWatched_6 : decode cX5_isWatched 6 = .ok (.getfield 293, 3) := dk_180 1 37 (dk_at dksX5_isWatched_0 6 rfl rfl)
theorem dX5_isWatched_9 : decode cX5_isWatched 9 = .ok (.ireturn, 1) := dk_172 (dk_at dksX5_isWatched_0 9 rfl rfl)
abbrev cX5_objects : ByteArray := prog_24_method_54_code
def yX5_objects : MethodName := ⟨RX5, "objects", "()I"⟩
def dkwX5_objects_0 : List UInt8 := [42, 3, 181, 0, 69, 42, 180, 0, 30, 182, 0, 73, 172]
abbrev dktX5_objects_0 : List UInt8 := dkwX5_objects_0 ++ []
theorem dksX5_objects_0 : cX5_objects.data.toList.drop 0 = dktX5_objects_0 := by decide +kernel
theorem dX5_objects_0 : decode cX5_objects 0 = .ok (.aload_n 0, 1) := dk_42 (dk_at dksX5_objects_0 0 rfl rfl)
theorem dX5_objects_1 : decode cX5_objects 1 = .ok (.iconst 0, 1) := dk_3 (dk_at dksX5_objects_0 1 rfl rfl)
theorem dX5_objects_2 : decode cX5_objects 2 = .ok (.putfield 69, 3) := dk_181 0 69 (dk_at dksX5_objects_0 2 rfl rfl)
theorem dX5_objects_5 : decode cX5_objects 5 = .ok (.aload_n 0, 1) := dk_42 (dk_at dksX5_objects_0 5 rfl rfl)
theorem dX5_objects_6 : decode cX5_objects 6 = .ok (.getfield 30, 3) := dk_180 0 30 (dk_at dksX5_objects_0 6 rfl rfl)
theorem dX5_objects_9 : decode cX5_objects 9 = .ok (.invokevirtual 73, 3) := dk_182 0 73 (dk_at dksX5_objects_0 9 rfl rfl)
theorem dX5_objects_12 : decode cX5_objects 12 = .ok (.ireturn, 1) := dk_172 (dk_at dksX5_objects_0 12 rfl rfl)
abbrev cX5_shape : ByteArray := prog_24_method_56_code
def yX5_shape : MethodName := ⟨RX5, "shape", "(I)I"⟩
def dkwX5_shape_1 : List UInt8 := [180, 0, 143, 172]
abbrev dktX5_shape_1 : List UInt8 := dkwX5_shape_1 ++ []
def dkwX5_shape_0 : List UInt8 := [42, 27, 182, 1, 85, 153, 0, 7, 3, 167, 0, 17, 42, 180, 0, 30, 27, 182, 0, 58, 192, 0, 138]
abbrev dktX5_shape_0 : List UInt8 := dkwX5_shape_0 ++ dktX5_shape_1
theorem dksX5_shape_0 : cX5_shape.data.toList.drop 0 = dktX5_shape_0 := by decide +kernel
theorem dksX5_shape_1 : cX5_shape.data.toList.drop 23 = dktX5_shape_1 := dk_seg dksX5_shape_0 23 rfl rfl
theorem dX5_shape_0 : decode cX5_shape 0 = .ok (.aload_n 0, 1) := dk_42 (dk_at dksX5_shape_0 0 rfl rfl)
theorem dX5_shape_1 : decode cX5_shape 1 = .ok (.iload_n 1, 1) := dk_27 (dk_at dksX5_shape_0 1 rfl rfl)
theorem dX5_shape_2 : decode cX5_shape 2 = .ok (.invokevirtual 341, 3) := dk_182 1 85 (dk_at dksX5_shape_0 2 rfl rfl)
theorem dX5_shape_5 : decode cX5_shape 5 = .ok (.ifCond .eq 7, 3) := dk_153 0 7 (dk_at dksX5_shape_0 5 rfl rfl)
theorem dX5_shape_8 : decode cX5_shape 8 = .ok (.iconst 0, 1) := dk_3 (dk_at dksX5_shape_0 8 rfl rfl)
theorem dX5_shape_9 : decode cX5_shape 9 = .ok (.goto 17, 3) := dk_167 0 17 (dk_at dksX5_shape_0 9 rfl rfl)
theorem dX5_shape_12 : decode cX5_shape 12 = .ok (.aload_n 0, 1) := dk_42 (dk_at dksX5_shape_0 12 rfl rfl)
theorem dX5_shape_13 : decode cX5_shape 13 = .ok (.getfield 30, 3) := dk_180 0 30 (dk_at dksX5_shape_0 13 rfl rfl)
theorem dX5_shape_16 : decode cX5_shape 16 = .ok (.iload_n 1, 1) := dk_27 (dk_at dksX5_shape_0 16 rfl rfl)
theorem dX5_shape_17 : decode cX5_shape 17 = .ok (.invokevirtual 58, 3) := dk_182 0 58 (dk_at dksX5_shape_0 17 rfl rfl)
theorem dX5_shape_20 : decode cX5_shape 20 = .ok (.checkcast 138, 3) := dk_192 0 138 (dk_at dksX5_shape_0 20 rfl rfl)
theorem dX5_shape_23 : decode cX5_shape 23 = .ok (.getfield 143, 3) := dk_180 0 143 (dk_at dksX5_shape_1 0 rfl rfl)
theorem dX5_shape_26 : decode cX5_shape 26 = .ok (.ireturn, 1) := dk_172 (dk_at dksX5_shape_1 3 rfl rfl)
abbrev cX5_noObject : ByteArray := prog_24_method_55_code
def yX5_noObject : MethodName := ⟨RX5, "noObject", "(I)Z"⟩
def dkwX5_noObject_1 : List UInt8 := [181, 0, 69, 42, 180, 0, 69, 158, 0, 7, 4, 167, 0, 4, 3, 172]
abbrev dktX5_noObject_1 : List UInt8 := dkwX5_noObject_1 ++ []
def dkwX5_noObject_0 : List UInt8 := [42, 27, 3, 42, 180, 0, 30, 182, 0, 73, 4, 100, 184, 0, 3, 153, 0, 7, 3, 167, 0, 4, 4]
abbrev dktX5_noObject_0 : List UInt8 := dkwX5_noObject_0 ++ dktX5_noObject_1
theorem dksX5_noObject_0 : cX5_noObject.data.toList.drop 0 = dktX5_noObject_0 := by decide +kernel
theorem dksX5_noObject_1 : cX5_noObject.data.toList.drop 23 = dktX5_noObject_1 := dk_seg dksX5_noObject_0 23 rfl rfl
theorem dX5_noObject_0 : decode cX5_noObject 0 = .ok (.aload_n 0, 1) := dk_42 (dk_at dksX5_noObject_0 0 rfl rfl)
theorem dX5_noObject_1 : decode cX5_noObject 1 = .ok (.iload_n 1, 1) := dk_27 (dk_at dksX5_noObject_0 1 rfl rfl)
theorem dX5_noObject_2 : decode cX5_noObject 2 = .ok (.iconst 0, 1) := dk_3 (dk_at dksX5_noObject_0 2 rfl rfl)
theorem dX5_noObject_3 : decode cX5_noObject 3 = .ok (.aload_n 0, 1) := dk_42 (dk_at dksX5_noObject_0 3 rfl rfl)
theorem dX5_noObject_4 : decode cX5_noObject 4 = .ok (.getfield 30, 3) := dk_180 0 30 (dk_at dksX5_noObject_0 4 rfl rfl)
theorem dX5_noObject_7 : decode cX5_noObject 7 = .ok (.invokevirtual 73, 3) := dk_182 0 73 (dk_at dksX5_noObject_0 7 rfl rfl)
theorem dX5_noObject_10 : decode cX5_noObject 10 = .ok (.iconst 1, 1) := dk_4 (dk_at dksX5_noObject_0 10 rfl rfl)
theorem dX5_noObject_11 : decode cX5_noObject 11 = .ok (.isub, 1) := dk_100 (dk_at dksX5_noObject_0 11 rfl rfl)
theorem dX5_noObject_12 : decode cX5_noObject 12 = .ok (.invokestatic 3, 3) := dk_184 0 3 (dk_at dksX5_noObject_0 12 rfl rfl)
theorem dX5_noObject_15 : decode cX5_noObject 15 = .ok (.ifCond .eq 7, 3) := dk_153 0 7 (dk_at dksX5_noObject_0 15 rfl rfl)
theorem dX5_noObject_18 : decode cX5_noObject 18 = .ok (.iconst 0, 1) := dk_3 (dk_at dksX5_noObject_0 18 rfl rfl)
theorem dX5_noObject_19 : decode cX5_noObject 19 = .ok (.goto 4, 3) := dk_167 0 4 (dk_at dksX5_noObject_0 19 rfl rfl)
theorem dX5_noObject_22 : decode cX5_noObject 22 = .ok (.iconst 1, 1) := dk_4 (dk_at dksX5_noObject_0 22 rfl rfl)
theorem dX5_noObject_23 : decode cX5_noObject 23 = .ok (.putfield 69, 3) := dk_181 0 69 (dk_at dksX5_noObject_1 0 rfl rfl)
theorem dX5_noObject_26 : decode cX5_noObject 26 = .ok (.aload_n 0, 1) := dk_42 (dk_at dksX5_noObject_1 3 rfl rfl)
theorem dX5_noObject_27 : decode cX5_noObject 27 = .ok (.getfield 69, 3) := dk_180 0 69 (dk_at dksX5_noObject_1 4 rfl rfl)
theorem dX5_noObject_30 : decode cX5_noObject 30 = .ok (.ifCond .le 7, 3) := dk_158 0 7 (dk_at dksX5_noObject_1 7 rfl rfl)
theorem dX5_noObject_33 : decode cX5_noObject 33 = .ok (.iconst 1, 1) := dk_4 (dk_at dksX5_noObject_1 10 rfl rfl)
theorem dX5_noObject_34 : decode cX5_noObject 34 = .ok (.goto 4, 3) := dk_167 0 4 (dk_at dksX5_noObject_1 11 rfl rfl)
theorem dX5_noObject_37 : decode cX5_noObject 37 = .ok (.iconst 0, 1) := dk_3 (dk_at dksX5_noObject_1 14 rfl rfl)
theorem dX5_noObject_38 : decode cX5_noObject 38 = .ok (.ireturn, 1) := dk_172 (dk_at dksX5_noObject_1 15 rfl rfl)
abbrev cX5_field : ByteArray := prog_24_method_57_code
def yX5_field : MethodName := ⟨RX5, "field", "(II)I"⟩
def dkwX5_field_2 : List UInt8 := [172]
abbrev dktX5_field_2 : List UInt8 := dkwX5_field_2 ++ []
def dkwX5_field_1 : List UInt8 := [78, 28, 3, 45, 190, 4, 100, 184, 0, 3, 153, 0, 9, 45, 28, 46, 167, 0, 8, 42, 4, 182, 0, 249]
abbrev dktX5_field_1 : List UInt8 := dkwX5_field_1 ++ dktX5_field_2
def dkwX5_field_0 : List UInt8 := [42, 27, 182, 1, 85, 153, 0, 5, 3, 172, 42, 180, 0, 30, 27, 182, 0, 58, 192, 0, 138, 180, 0, 142]
abbrev dktX5_field_0 : List UInt8 := dkwX5_field_0 ++ dktX5_field_1
theorem dksX5_field_0 : cX5_field.data.toList.drop 0 = dktX5_field_0 := by decide +kernel
theorem dksX5_field_1 : cX5_field.data.toList.drop 24 = dktX5_field_1 := dk_seg dksX5_field_0 24 rfl rfl
theorem dksX5_field_2 : cX5_field.data.toList.drop 48 = dktX5_field_2 := dk_seg dksX5_field_1 24 rfl rfl
theorem dX5_field_0 : decode cX5_field 0 = .ok (.aload_n 0, 1) := dk_42 (dk_at dksX5_field_0 0 rfl rfl)
theorem dX5_field_1 : decode cX5_field 1 = .ok (.iload_n 1, 1) := dk_27 (dk_at dksX5_field_0 1 rfl rfl)
theorem dX5_field_2 : decode cX5_field 2 = .ok (.invokevirtual 341, 3) := dk_182 1 85 (dk_at dksX5_field_0 2 rfl rfl)
theorem dX5_field_5 : decode cX5_field 5 = .ok (.ifCond .eq 5, 3) := dk_153 0 5 (dk_at dksX5_field_0 5 rfl rfl)
theorem dX5_field_8 : decode cX5_field 8 = .ok (.iconst 0, 1) := dk_3 (dk_at dksX5_field_0 8 rfl rfl)
theorem dX5_field_9 : decode cX5_field 9 = .ok (.ireturn, 1) := dk_172 (dk_at dksX5_field_0 9 rfl rfl)
theorem dX5_field_10 : decode cX5_field 10 = .ok (.aload_n 0, 1) := dk_42 (dk_at dksX5_field_0 10 rfl rfl)
theorem dX5_field_11 : decode cX5_field 11 = .ok (.getfield 30, 3) := dk_180 0 30 (dk_at dksX5_field_0 11 rfl rfl)
theorem dX5_field_14 : decode cX5_field 14 = .ok (.iload_n 1, 1) := dk_27 (dk_at dksX5_field_0 14 rfl rfl)
theorem dX5_field_15 : decode cX5_field 15 = .ok (.invokevirtual 58, 3) := dk_182 0 58 (dk_at dksX5_field_0 15 rfl rfl)
theorem dX5_field_18 : decode cX5_field 18 = .ok (.checkcast 138, 3) := dk_192 0 138 (dk_at dksX5_field_0 18 rfl rfl)
theorem dX5_field_21 : decode cX5_field 21 = .ok (.getfield 142, 3) := dk_180 0 142 (dk_at dksX5_field_0 21 rfl rfl)
theorem dX5_field_24 : decode cX5_field 24 = .ok (.astore_n 3, 1) := dk_78 (dk_at dksX5_field_1 0 rfl rfl)
theorem dX5_field_25 : decode cX5_field 25 = .ok (.iload_n 2, 1) := dk_28 (dk_at dksX5_field_1 1 rfl rfl)
theorem dX5_field_26 : decode cX5_field 26 = .ok (.iconst 0, 1) := dk_3 (dk_at dksX5_field_1 2 rfl rfl)
theorem dX5_field_27 : decode cX5_field 27 = .ok (.aload_n 3, 1) := dk_45 (dk_at dksX5_field_1 3 rfl rfl)
theorem dX5_field_28 : decode cX5_field 28 = .ok (.arraylength, 1) := dk_190 (dk_at dksX5_field_1 4 rfl rfl)
theorem dX5_field_29 : decode cX5_field 29 = .ok (.iconst 1, 1) := dk_4 (dk_at dksX5_field_1 5 rfl rfl)
theorem dX5_field_30 : decode cX5_field 30 = .ok (.isub, 1) := dk_100 (dk_at dksX5_field_1 6 rfl rfl)
theorem dX5_field_31 : decode cX5_field 31 = .ok (.invokestatic 3, 3) := dk_184 0 3 (dk_at dksX5_field_1 7 rfl rfl)
theorem dX5_field_34 : decode cX5_field 34 = .ok (.ifCond .eq 9, 3) := dk_153 0 9 (dk_at dksX5_field_1 10 rfl rfl)
theorem dX5_field_37 : decode cX5_field 37 = .ok (.aload_n 3, 1) := dk_45 (dk_at dksX5_field_1 13 rfl rfl)
theorem dX5_field_38 : decode cX5_field 38 = .ok (.iload_n 2, 1) := dk_28 (dk_at dksX5_field_1 14 rfl rfl)
theorem dX5_field_39 : decode cX5_field 39 = .ok (.iaload, 1) := dk_46 (dk_at dksX5_field_1 15 rfl rfl)
theorem dX5_field_40 : decode cX5_field 40 = .ok (.goto 8, 3) := dk_167 0 8 (dk_at dksX5_field_1 16 rfl rfl)
theorem dX5_field_43 : decode cX5_field 43 = .ok (.aload_n 0, 1) := dk_42 (dk_at dksX5_field_1 19 rfl rfl)
theorem dX5_field_44 : decode cX5_field 44 = .ok (.iconst 1, 1) := dk_4 (dk_at dksX5_field_1 20 rfl rfl)
theorem dX5_field_45 : decode cX5_field 45 = .ok (.invokevirtual 249, 3) := dk_182 0 249 (dk_at dksX5_field_1 21 rfl rfl)
theorem dX5_field_48 : decode cX5_field 48 = .ok (.ireturn, 1) := dk_172 (dk_at dksX5_field_2 0 rfl rfl)
abbrev cX5_fieldIn : ByteArray := prog_24_method_58_code
def yX5_fieldIn : MethodName := ⟨RX5, "fieldIn", "(III)I"⟩
def dkwX5_fieldIn_3 : List UInt8 := [25, 5, 190, 4, 100, 184, 0, 3, 153, 0, 10, 25, 5, 29, 46, 167, 0, 8, 42, 4, 182, 0, 249, 172]
abbrev dktX5_fieldIn_3 : List UInt8 := dkwX5_fieldIn_3 ++ []
def dkwX5_fieldIn_2 : List UInt8 := [25, 4, 180, 0, 137, 25, 4, 180, 0, 142, 25, 4, 180, 0, 143, 28, 182, 0, 146, 58, 5, 29, 3]
abbrev dktX5_fieldIn_2 : List UInt8 := dkwX5_fieldIn_2 ++ dktX5_fieldIn_3
def dkwX5_fieldIn_1 : List UInt8 := [154, 0, 9, 42, 4, 182, 0, 249, 172, 42, 180, 0, 30, 27, 182, 0, 58, 192, 0, 138, 58, 4, 42]
abbrev dktX5_fieldIn_1 : List UInt8 := dkwX5_fieldIn_1 ++ dktX5_fieldIn_2
def dkwX5_fieldIn_0 : List UInt8 := [42, 27, 182, 1, 85, 154, 0, 20, 28, 3, 42, 180, 0, 23, 182, 0, 73, 4, 100, 184, 0, 3]
abbrev dktX5_fieldIn_0 : List UInt8 := dkwX5_fieldIn_0 ++ dktX5_fieldIn_1
theorem dksX5_fieldIn_0 : cX5_fieldIn.data.toList.drop 0 = dktX5_fieldIn_0 := by decide +kernel
theorem dksX5_fieldIn_1 : cX5_fieldIn.data.toList.drop 22 = dktX5_fieldIn_1 := dk_seg dksX5_fieldIn_0 22 rfl rfl
theorem dksX5_fieldIn_2 : cX5_fieldIn.data.toList.drop 45 = dktX5_fieldIn_2 := dk_seg dksX5_fieldIn_1 23 rfl rfl
theorem dksX5_fieldIn_3 : cX5_fieldIn.data.toList.drop 68 = dktX5_fieldIn_3 := dk_seg dksX5_fieldIn_2 23 rfl rfl
theorem dX5_fieldIn_0 : decode cX5_fieldIn 0 = .ok (.aload_n 0, 1) := dk_42 (dk_at dksX5_fieldIn_0 0 rfl rfl)
theorem dX5_fieldIn_1 : decode cX5_fieldIn 1 = .ok (.iload_n 1, 1) := dk_27 (dk_at dksX5_fieldIn_0 1 rfl rfl)
theorem dX5_fieldIn_2 : decode cX5_fieldIn 2 = .ok (.invokevirtual 341, 3) := dk_182 1 85 (dk_at dksX5_fieldIn_0 2 rfl rfl)
theorem dX5_fieldIn_5 : decode cX5_fieldIn 5 = .ok (.ifCond .ne 20, 3) := dk_154 0 20 (dk_at dksX5_fieldIn_0 5 rfl rfl)
theorem dX5_fieldIn_8 : decode cX5_fieldIn 8 = .ok (.iload_n 2, 1) := dk_28 (dk_at dksX5_fieldIn_0 8 rfl rfl)
theorem dX5_fieldIn_9 : decode cX5_fieldIn 9 = .ok (.iconst 0, 1) := dk_3 (dk_at dksX5_fieldIn_0 9 rfl rfl)
theorem dX5_fieldIn_10 : decode cX5_fieldIn 10 = .ok (.aload_n 0, 1) := dk_42 (dk_at dksX5_fieldIn_0 10 rfl rfl)
theorem dX5_fieldIn_11 : decode cX5_fieldIn 11 = .ok (.getfield 23, 3) := dk_180 0 23 (dk_at dksX5_fieldIn_0 11 rfl rfl)
theorem dX5_fieldIn_14 : decode cX5_fieldIn 14 = .ok (.invokevirtual 73, 3) := dk_182 0 73 (dk_at dksX5_fieldIn_0 14 rfl rfl)
theorem dX5_fieldIn_17 : decode cX5_fieldIn 17 = .ok (.iconst 1, 1) := dk_4 (dk_at dksX5_fieldIn_0 17 rfl rfl)
theorem dX5_fieldIn_18 : decode cX5_fieldIn 18 = .ok (.isub, 1) := dk_100 (dk_at dksX5_fieldIn_0 18 rfl rfl)
theorem dX5_fieldIn_19 : decode cX5_fieldIn 19 = .ok (.invokestatic 3, 3) := dk_184 0 3 (dk_at dksX5_fieldIn_0 19 rfl rfl)
theorem dX5_fieldIn_22 : decode cX5_fieldIn 22 = .ok (.ifCond .ne 9, 3) := dk_154 0 9 (dk_at dksX5_fieldIn_1 0 rfl rfl)
theorem dX5_fieldIn_25 : decode cX5_fieldIn 25 = .ok (.aload_n 0, 1) := dk_42 (dk_at dksX5_fieldIn_1 3 rfl rfl)
theorem dX5_fieldIn_26 : decode cX5_fieldIn 26 = .ok (.iconst 1, 1) := dk_4 (dk_at dksX5_fieldIn_1 4 rfl rfl)
theorem dX5_fieldIn_27 : decode cX5_fieldIn 27 = .ok (.invokevirtual 249, 3) := dk_182 0 249 (dk_at dksX5_fieldIn_1 5 rfl rfl)
theorem dX5_fieldIn_30 : decode cX5_fieldIn 30 = .ok (.ireturn, 1) := dk_172 (dk_at dksX5_fieldIn_1 8 rfl rfl)
theorem dX5_fieldIn_31 : decode cX5_fieldIn 31 = .ok (.aload_n 0, 1) := dk_42 (dk_at dksX5_fieldIn_1 9 rfl rfl)
theorem dX5_fieldIn_32 : decode cX5_fieldIn 32 = .ok (.getfield 30, 3) := dk_180 0 30 (dk_at dksX5_fieldIn_1 10 rfl rfl)
theorem dX5_fieldIn_35 : decode cX5_fieldIn 35 = .ok (.iload_n 1, 1) := dk_27 (dk_at dksX5_fieldIn_1 13 rfl rfl)
theorem dX5_fieldIn_36 : decode cX5_fieldIn 36 = .ok (.invokevirtual 58, 3) := dk_182 0 58 (dk_at dksX5_fieldIn_1 14 rfl rfl)
theorem dX5_fieldIn_39 : decode cX5_fieldIn 39 = .ok (.checkcast 138, 3) := dk_192 0 138 (dk_at dksX5_fieldIn_1 17 rfl rfl)
theorem dX5_fieldIn_42 : decode cX5_fieldIn 42 = .ok (.astore 4, 2) := dk_58 4 (dk_at dksX5_fieldIn_1 20 rfl rfl)
theorem dX5_fieldIn_44 : decode cX5_fieldIn 44 = .ok (.aload_n 0, 1) := dk_42 (dk_at dksX5_fieldIn_1 22 rfl rfl)
theorem dX5_fieldIn_45 : decode cX5_fieldIn 45 = .ok (.aload 4, 2) := dk_25 4 (dk_at dksX5_fieldIn_2 0 rfl rfl)
theorem dX5_fieldIn_47 : decode cX5_fieldIn 47 = .ok (.getfield 137, 3) := dk_180 0 137 (dk_at dksX5_fieldIn_2 2 rfl rfl)
theorem dX5_fieldIn_50 : decode cX5_fieldIn 50 = .ok (.aload 4, 2) := dk_25 4 (dk_at dksX5_fieldIn_2 5 rfl rfl)
theorem dX5_fieldIn_52 : decode cX5_fieldIn 52 = .ok (.getfield 142, 3) := dk_180 0 142 (dk_at dksX5_fieldIn_2 7 rfl rfl)
theorem dX5_fieldIn_55 : decode cX5_fieldIn 55 = .ok (.aload 4, 2) := dk_25 4 (dk_at dksX5_fieldIn_2 10 rfl rfl)
theorem dX5_fieldIn_57 : decode cX5_fieldIn 57 = .ok (.getfield 143, 3) := dk_180 0 143 (dk_at dksX5_fieldIn_2 12 rfl rfl)
theorem dX5_fieldIn_60 : decode cX5_fieldIn 60 = .ok (.iload_n 2, 1) := dk_28 (dk_at dksX5_fieldIn_2 15 rfl rfl)
theorem dX5_fieldIn_61 : decode cX5_fieldIn 61 = .ok (.invokevirtual 146, 3) := dk_182 0 146 (dk_at dksX5_fieldIn_2 16 rfl rfl)
theorem dX5_fieldIn_64 : decode cX5_fieldIn 64 = .ok (.astore 5, 2) := dk_58 5 (dk_at dksX5_fieldIn_2 19 rfl rfl)
theorem dX5_fieldIn_66 : decode cX5_fieldIn 66 = .ok (.iload_n 3, 1) := dk_29 (dk_at dksX5_fieldIn_2 21 rfl rfl)
theorem dX5_fieldIn_67 : decode cX5_fieldIn 67 = .ok (.iconst 0, 1) := dk_3 (dk_at dksX5_fieldIn_2 22 rfl rfl)
theorem dX5_fieldIn_68 : decode cX5_fieldIn 68 = .ok (.aload 5, 2) := dk_25 5 (dk_at dksX5_fieldIn_3 0 rfl rfl)
theorem dX5_fieldIn_70 : decode cX5_fieldIn 70 = .ok (.arraylength, 1) := dk_190 (dk_at dksX5_fieldIn_3 2 rfl rfl)
theorem dX5_fieldIn_71 : decode cX5_fieldIn 71 = .ok (.iconst 1, 1) := dk_4 (dk_at dksX5_fieldIn_3 3 rfl rfl)
theorem dX5_fieldIn_72 : decode cX5_fieldIn 72 = .ok (.isub, 1) := dk_100 (dk_at dksX5_fieldIn_3 4 rfl rfl)
theorem dX5_fieldIn_73 : decode cX5_fieldIn 73 = .ok (.invokestatic 3, 3) := dk_184 0 3 (dk_at dksX5_fieldIn_3 5 rfl rfl)
theorem dX5_fieldIn_76 : decode cX5_fieldIn 76 = .ok (.ifCond .eq 10, 3) := dk_153 0 10 (dk_at dksX5_fieldIn_3 8 rfl rfl)
theorem dX5_fieldIn_79 : decode cX5_fieldIn 79 = .ok (.aload 5, 2) := dk_25 5 (dk_at dksX5_fieldIn_3 11 rfl rfl)
theorem dX5_fieldIn_81 : decode cX5_fieldIn 81 = .ok (.iload_n 3, 1) := dk_29 (dk_at dksX5_fieldIn_3 13 rfl rfl)
theorem dX5_fieldIn_82 : decode cX5_fieldIn 82 = .ok (.iaload, 1) := dk_46 (dk_at dksX5_fieldIn_3 14 rfl rfl)
theorem dX5_fieldIn_83 : decode cX5_fieldIn 83 = .ok (.goto 8, 3) := dk_167 0 8 (dk_at dksX5_fieldIn_3 15 rfl rfl)
theorem dX5_fieldIn_86 : decode cX5_fieldIn 86 = .ok (.aload_n 0, 1) := dk_42 (dk_at dksX5_fieldIn_3 18 rfl rfl)
theorem dX5_fieldIn_87 : decode cX5_fieldIn 87 = .ok (.iconst 1, 1) := dk_4 (dk_at dksX5_fieldIn_3 19 rfl rfl)
theorem dX5_fieldIn_88 : decode cX5_fieldIn 88 = .ok (.invokevirtual 249, 3) := dk_182 0 249 (dk_at dksX5_fieldIn_3 20 rfl rfl)
theorem dX5_fieldIn_91 : decode cX5_fieldIn 91 = .ok (.ireturn, 1) := dk_172 (dk_at dksX5_fieldIn_3 23 rfl rfl)
abbrev cX5_entry : ByteArray := prog_24_method_59_code
def yX5_entry : MethodName := ⟨RX5, "entry", "(I)I"⟩
def dkwX5_entry_1 : List UInt8 := [158, 0, 7, 3, 167, 0, 9, 42, 180, 0, 33, 27, 46, 172]
abbrev dktX5_entry_1 : List UInt8 := dkwX5_entry_1 ++ []
def dkwX5_entry_0 : List UInt8 := [42, 27, 3, 6, 184, 0, 3, 153, 0, 7, 3, 167, 0, 4, 4, 181, 0, 69, 42, 180, 0, 69]
abbrev dktX5_entry_0 : List UInt8 := dkwX5_entry_0 ++ dktX5_entry_1
theorem dksX5_entry_0 : cX5_entry.data.toList.drop 0 = dktX5_entry_0 := by decide +kernel
theorem dksX5_entry_1 : cX5_entry.data.toList.drop 22 = dktX5_entry_1 := dk_seg dksX5_entry_0 22 rfl rfl
theorem dX5_entry_0 : decode cX5_entry 0 = .ok (.aload_n 0, 1) := dk_42 (dk_at dksX5_entry_0 0 rfl rfl)
theorem dX5_entry_1 : decode cX5_entry 1 = .ok (.iload_n 1, 1) := dk_27 (dk_at dksX5_entry_0 1 rfl rfl)
theorem dX5_entry_2 : decode cX5_entry 2 = .ok (.iconst 0, 1) := dk_3 (dk_at dksX5_entry_0 2 rfl rfl)
theorem dX5_entry_3 : decode cX5_entry 3 = .ok (.iconst 3, 1) := dk_6 (dk_at dksX5_entry_0 3 rfl rfl)
theorem dX5_entry_4 : decode cX5_entry 4 = .ok (.invokestatic 3, 3) := dk_184 0 3 (dk_at dksX5_entry_0 4 rfl rfl)
theorem dX5_entry_7 : decode cX5_entry 7 = .ok (.ifCond .eq 7, 3) := dk_153 0 7 (dk_at dksX5_entry_0 7 rfl rfl)
theorem dX5_entry_10 : decode cX5_entry 10 = .ok (.iconst 0, 1) := dk_3 (dk_at dksX5_entry_0 10 rfl rfl)
theorem dX5_entry_11 : decode cX5_entry 11 = .ok (.goto 4, 3) := dk_167 0 4 (dk_at dksX5_entry_0 11 rfl rfl)
theorem dX5_entry_14 : decode cX5_entry 14 = .ok (.iconst 1, 1) := dk_4 (dk_at dksX5_entry_0 14 rfl rfl)
theorem dX5_entry_15 : decode cX5_entry 15 = .ok (.putfield 69, 3) := dk_181 0 69 (dk_at dksX5_entry_0 15 rfl rfl)
theorem dX5_entry_18 : decode cX5_entry 18 = .ok (.aload_n 0, 1) := dk_42 (dk_at dksX5_entry_0 18 rfl rfl)
theorem dX5_entry_19 : decode cX5_entry 19 = .ok (.getfield 69, 3) := dk_180 0 69 (dk_at dksX5_entry_0 19 rfl rfl)
theorem dX5_entry_22 : decode cX5_entry 22 = .ok (.ifCond .le 7, 3) := dk_158 0 7 (dk_at dksX5_entry_1 0 rfl rfl)
theorem dX5_entry_25 : decode cX5_entry 25 = .ok (.iconst 0, 1) := dk_3 (dk_at dksX5_entry_1 3 rfl rfl)
theorem dX5_entry_26 : decode cX5_entry 26 = .ok (.goto 9, 3) := dk_167 0 9 (dk_at dksX5_entry_1 4 rfl rfl)
theorem dX5_entry_29 : decode cX5_entry 29 = .ok (.aload_n 0, 1) := dk_42 (dk_at dksX5_entry_1 7 rfl rfl)
theorem dX5_entry_30 : decode cX5_entry 30 = .ok (.getfield 33, 3) := dk_180 0 33 (dk_at dksX5_entry_1 8 rfl rfl)
theorem dX5_entry_33 : decode cX5_entry 33 = .ok (.iload_n 1, 1) := dk_27 (dk_at dksX5_entry_1 11 rfl rfl)
theorem dX5_entry_34 : decode cX5_entry 34 = .ok (.iaload, 1) := dk_46 (dk_at dksX5_entry_1 12 rfl rfl)
theorem dX5_entry_35 : decode cX5_entry 35 = .ok (.ireturn, 1) := dk_172 (dk_at dksX5_entry_1 13 rfl rfl)
abbrev cX5_puts_2 : ByteArray := prog_24_method_60_code
def yX5_puts_2 : MethodName := ⟨RX5, "puts", "()I"⟩
def dkwX5_puts_2_0 : List UInt8 := [42, 3, 181, 0, 69, 42, 180, 0, 43, 182, 0, 73, 172]
abbrev dktX5_puts_2_0 : List UInt8 := dkwX5_puts_2_0 ++ []
theorem dksX5_puts_2_0 : cX5_puts_2.data.toList.drop 0 = dktX5_puts_2_0 := by decide +kernel
theorem dX5_puts_2_0 : decode cX5_puts_2 0 = .ok (.aload_n 0, 1) := dk_42 (dk_at dksX5_puts_2_0 0 rfl rfl)
theorem dX5_puts_2_1 : decode cX5_puts_2 1 = .ok (.iconst 0, 1) := dk_3 (dk_at dksX5_puts_2_0 1 rfl rfl)
theorem dX5_puts_2_2 : decode cX5_puts_2 2 = .ok (.putfield 69, 3) := dk_181 0 69 (dk_at dksX5_puts_2_0 2 rfl rfl)
theorem dX5_puts_2_5 : decode cX5_puts_2 5 = .ok (.aload_n 0, 1) := dk_42 (dk_at dksX5_puts_2_0 5 rfl rfl)
theorem dX5_puts_2_6 : decode cX5_puts_2 6 = .ok (.getfield 43, 3) := dk_180 0 43 (dk_at dksX5_puts_2_0 6 rfl rfl)
theorem dX5_puts_2_9 : decode cX5_puts_2 9 = .ok (.invokevirtual 73, 3) := dk_182 0 73 (dk_at dksX5_puts_2_0 9 rfl rfl)
theorem dX5_puts_2_12 : decode cX5_puts_2 12 = .ok (.ireturn, 1) := dk_172 (dk_at dksX5_puts_2_0 12 rfl rfl)
abbrev cX5_putAt : ByteArray := prog_24_method_62_code
def yX5_putAt : MethodName := ⟨RX5, "putAt", "(I)I"⟩
def dkwX5_putAt_1 : List UInt8 := [182, 1, 91, 172]
abbrev dktX5_putAt_1 : List UInt8 := dkwX5_putAt_1 ++ []
def dkwX5_putAt_0 : List UInt8 := [42, 27, 182, 1, 88, 153, 0, 7, 3, 167, 0, 17, 42, 180, 0, 43, 27, 182, 0, 58, 192, 1, 32]
abbrev dktX5_putAt_0 : List UInt8 := dkwX5_putAt_0 ++ dktX5_putAt_1
theorem dksX5_putAt_0 : cX5_putAt.data.toList.drop 0 = dktX5_putAt_0 := by decide +kernel
theorem dksX5_putAt_1 : cX5_putAt.data.toList.drop 23 = dktX5_putAt_1 := dk_seg dksX5_putAt_0 23 rfl rfl
theorem dX5_putAt_0 : decode cX5_putAt 0 = .ok (.aload_n 0, 1) := dk_42 (dk_at dksX5_putAt_0 0 rfl rfl)
theorem dX5_putAt_1 : decode cX5_putAt 1 = .ok (.iload_n 1, 1) := dk_27 (dk_at dksX5_putAt_0 1 rfl rfl)
theorem dX5_putAt_2 : decode cX5_putAt 2 = .ok (.invokevirtual 344, 3) := dk_182 1 88 (dk_at dksX5_putAt_0 2 rfl rfl)
theorem dX5_putAt_5 : decode cX5_putAt 5 = .ok (.ifCond .eq 7, 3) := dk_153 0 7 (dk_at dksX5_putAt_0 5 rfl rfl)
theorem dX5_putAt_8 : decode cX5_putAt 8 = .ok (.iconst 0, 1) := dk_3 (dk_at dksX5_putAt_0 8 rfl rfl)
theorem dX5_putAt_9 : decode cX5_putAt 9 = .ok (.goto 17, 3) := dk_167 0 17 (dk_at dksX5_putAt_0 9 rfl rfl)
theorem dX5_putAt_12 : decode cX5_putAt 12 = .ok (.aload_n 0, 1) := dk_42 (dk_at dksX5_putAt_0 12 rfl rfl)
theorem dX5_putAt_13 : decode cX5_putAt 13 = .ok (.getfield 43, 3) := dk_180 0 43 (dk_at dksX5_putAt_0 13 rfl rfl)
theorem dX5_putAt_16 : decode cX5_putAt 16 = .ok (.iload_n 1, 1) := dk_27 (dk_at dksX5_putAt_0 16 rfl rfl)
theorem dX5_putAt_17 : decode cX5_putAt 17 = .ok (.invokevirtual 58, 3) := dk_182 0 58 (dk_at dksX5_putAt_0 17 rfl rfl)
theorem dX5_putAt_20 : decode cX5_putAt 20 = .ok (.checkcast 288, 3) := dk_192 1 32 (dk_at dksX5_putAt_0 20 rfl rfl)
theorem dX5_putAt_23 : decode cX5_putAt 23 = .ok (.invokevirtual 347, 3) := dk_182 1 91 (dk_at dksX5_putAt_1 0 rfl rfl)
theorem dX5_putAt_26 : decode cX5_putAt 26 = .ok (.ireturn, 1) := dk_172 (dk_at dksX5_putAt_1 3 rfl rfl)
abbrev cX5_noAmount : ByteArray := prog_24_method_61_code
def yX5_noAmount : MethodName := ⟨RX5, "noAmount", "(I)Z"⟩
def dkwX5_noAmount_1 : List UInt8 := [181, 0, 69, 42, 180, 0, 69, 158, 0, 7, 4, 167, 0, 4, 3, 172]
abbrev dktX5_noAmount_1 : List UInt8 := dkwX5_noAmount_1 ++ []
def dkwX5_noAmount_0 : List UInt8 := [42, 27, 3, 42, 180, 0, 43, 182, 0, 73, 4, 100, 184, 0, 3, 153, 0, 7, 3, 167, 0, 4, 4]
abbrev dktX5_noAmount_0 : List UInt8 := dkwX5_noAmount_0 ++ dktX5_noAmount_1
theorem dksX5_noAmount_0 : cX5_noAmount.data.toList.drop 0 = dktX5_noAmount_0 := by decide +kernel
theorem dksX5_noAmount_1 : cX5_noAmount.data.toList.drop 23 = dktX5_noAmount_1 := dk_seg dksX5_noAmount_0 23 rfl rfl
theorem dX5_noAmount_0 : decode cX5_noAmount 0 = .ok (.aload_n 0, 1) := dk_42 (dk_at dksX5_noAmount_0 0 rfl rfl)
theorem dX5_noAmount_1 : decode cX5_noAmount 1 = .ok (.iload_n 1, 1) := dk_27 (dk_at dksX5_noAmount_0 1 rfl rfl)
theorem dX5_noAmount_2 : decode cX5_noAmount 2 = .ok (.iconst 0, 1) := dk_3 (dk_at dksX5_noAmount_0 2 rfl rfl)
theorem dX5_noAmount_3 : decode cX5_noAmount 3 = .ok (.aload_n 0, 1) := dk_42 (dk_at dksX5_noAmount_0 3 rfl rfl)
theorem dX5_noAmount_4 : decode cX5_noAmount 4 = .ok (.getfield 43, 3) := dk_180 0 43 (dk_at dksX5_noAmount_0 4 rfl rfl)
theorem dX5_noAmount_7 : decode cX5_noAmount 7 = .ok (.invokevirtual 73, 3) := dk_182 0 73 (dk_at dksX5_noAmount_0 7 rfl rfl)
theorem dX5_noAmount_10 : decode cX5_noAmount 10 = .ok (.iconst 1, 1) := dk_4 (dk_at dksX5_noAmount_0 10 rfl rfl)
theorem dX5_noAmount_11 : decode cX5_noAmount 11 = .ok (.isub, 1) := dk_100 (dk_at dksX5_noAmount_0 11 rfl rfl)
theorem dX5_noAmount_12 : decode cX5_noAmount 12 = .ok (.invokestatic 3, 3) := dk_184 0 3 (dk_at dksX5_noAmount_0 12 rfl rfl)
theorem dX5_noAmount_15 : decode cX5_noAmount 15 = .ok (.ifCond .eq 7, 3) := dk_153 0 7 (dk_at dksX5_noAmount_0 15 rfl rfl)
theorem dX5_noAmount_18 : decode cX5_noAmount 18 = .ok (.iconst 0, 1) := dk_3 (dk_at dksX5_noAmount_0 18 rfl rfl)
theorem dX5_noAmount_19 : decode cX5_noAmount 19 = .ok (.goto 4, 3) := dk_167 0 4 (dk_at dksX5_noAmount_0 19 rfl rfl)
theorem dX5_noAmount_22 : decode cX5_noAmount 22 = .ok (.iconst 1, 1) := dk_4 (dk_at dksX5_noAmount_0 22 rfl rfl)
theorem dX5_noAmount_23 : decode cX5_noAmount 23 = .ok (.putfield 69, 3) := dk_181 0 69 (dk_at dksX5_noAmount_1 0 rfl rfl)
theorem dX5_noAmount_26 : decode cX5_noAmount 26 = .ok (.aload_n 0, 1) := dk_42 (dk_at dksX5_noAmount_1 3 rfl rfl)
theorem dX5_noAmount_27 : decode cX5_noAmount 27 = .ok (.getfield 69, 3) := dk_180 0 69 (dk_at dksX5_noAmount_1 4 rfl rfl)
theorem dX5_noAmount_30 : decode cX5_noAmount 30 = .ok (.ifCond .le 7, 3) := dk_158 0 7 (dk_at dksX5_noAmount_1 7 rfl rfl)
theorem dX5_noAmount_33 : decode cX5_noAmount 33 = .ok (.iconst 1, 1) := dk_4 (dk_at dksX5_noAmount_1 10 rfl rfl)
theorem dX5_noAmount_34 : decode cX5_noAmount 34 = .ok (.goto 4, 3) := dk_167 0 4 (dk_at dksX5_noAmount_1 11 rfl rfl)
theorem dX5_noAmount_37 : decode cX5_noAmount 37 = .ok (.iconst 0, 1) := dk_3 (dk_at dksX5_noAmount_1 14 rfl rfl)
theorem dX5_noAmount_38 : decode cX5_noAmount 38 = .ok (.ireturn, 1) := dk_172 (dk_at dksX5_noAmount_1 15 rfl rfl)
abbrev cX5_putIn : ByteArray := prog_24_method_63_code
def yX5_putIn : MethodName := ⟨RX5, "putIn", "(I)I"⟩
def dkwX5_putIn_1 : List UInt8 := [182, 1, 91, 172]
abbrev dktX5_putIn_1 : List UInt8 := dkwX5_putIn_1 ++ []
def dkwX5_putIn_0 : List UInt8 := [42, 27, 182, 1, 88, 153, 0, 7, 3, 167, 0, 17, 42, 180, 0, 46, 27, 182, 0, 58, 192, 1, 32]
abbrev dktX5_putIn_0 : List UInt8 := dkwX5_putIn_0 ++ dktX5_putIn_1
theorem dksX5_putIn_0 : cX5_putIn.data.toList.drop 0 = dktX5_putIn_0 := by decide +kernel
theorem dksX5_putIn_1 : cX5_putIn.data.toList.drop 23 = dktX5_putIn_1 := dk_seg dksX5_putIn_0 23 rfl rfl
theorem dX5_putIn_0 : decode cX5_putIn 0 = .ok (.aload_n 0, 1) := dk_42 (dk_at dksX5_putIn_0 0 rfl rfl)
theorem dX5_putIn_1 : decode cX5_putIn 1 = .ok (.iload_n 1, 1) := dk_27 (dk_at dksX5_putIn_0 1 rfl rfl)
theorem dX5_putIn_2 : decode cX5_putIn 2 = .ok (.invokevirtual 344, 3) := dk_182 1 88 (dk_at dksX5_putIn_0 2 rfl rfl)
theorem dX5_putIn_5 : decode cX5_putIn 5 = .ok (.ifCond .eq 7, 3) := dk_153 0 7 (dk_at dksX5_putIn_0 5 rfl rfl)
theorem dX5_putIn_8 : decode cX5_putIn 8 = .ok (.iconst 0, 1) := dk_3 (dk_at dksX5_putIn_0 8 rfl rfl)
theorem dX5_putIn_9 : decode cX5_putIn 9 = .ok (.goto 17, 3) := dk_167 0 17 (dk_at dksX5_putIn_0 9 rfl rfl)
theorem dX5_putIn_12 : decode cX5_putIn 12 = .ok (.aload_n 0, 1) := dk_42 (dk_at dksX5_putIn_0 12 rfl rfl)
theorem dX5_putIn_13 : decode cX5_putIn 13 = .ok (.getfield 46, 3) := dk_180 0 46 (dk_at dksX5_putIn_0 13 rfl rfl)
theorem dX5_putIn_16 : decode cX5_putIn 16 = .ok (.iload_n 1, 1) := dk_27 (dk_at dksX5_putIn_0 16 rfl rfl)
theorem dX5_putIn_17 : decode cX5_putIn 17 = .ok (.invokevirtual 58, 3) := dk_182 0 58 (dk_at dksX5_putIn_0 17 rfl rfl)
theorem dX5_putIn_20 : decode cX5_putIn 20 = .ok (.checkcast 288, 3) := dk_192 1 32 (dk_at dksX5_putIn_0 20 rfl rfl)
theorem dX5_putIn_23 : decode cX5_putIn 23 = .ok (.invokevirtual 347, 3) := dk_182 1 91 (dk_at dksX5_putIn_1 0 rfl rfl)
theorem dX5_putIn_26 : decode cX5_putIn 26 = .ok (.ireturn, 1) := dk_172 (dk_at dksX5_putIn_1 3 rfl rfl)
abbrev cX5_steps : ByteArray := prog_24_method_64_code
def yX5_steps : MethodName := ⟨RX5, "steps", "()J"⟩
def dkwX5_steps_0 : List UInt8 := [42, 3, 181, 0, 69, 42, 180, 0, 236, 173]
abbrev dktX5_steps_0 : List UInt8 := dkwX5_steps_0 ++ []
theorem dksX5_steps_0 : cX5_steps.data.toList.drop 0 = dktX5_steps_0 := by decide +kernel
theorem dX5_steps_0 : decode cX5_steps 0 = .ok (.aload_n 0, 1) := dk_42 (dk_at dksX5_steps_0 0 rfl rfl)
theorem dX5_steps_1 : decode cX5_steps 1 = .ok (.iconst 0, 1) := dk_3 (dk_at dksX5_steps_0 1 rfl rfl)
theorem dX5_steps_2 : decode cX5_steps 2 = .ok (.putfield 69, 3) := dk_181 0 69 (dk_at dksX5_steps_0 2 rfl rfl)
theorem dX5_steps_5 : decode cX5_steps 5 = .ok (.aload_n 0, 1) := dk_42 (dk_at dksX5_steps_0 5 rfl rfl)
theorem dX5_steps_6 : decode cX5_steps 6 = .ok (.getfield 236, 3) := dk_180 0 236 (dk_at dksX5_steps_0 6 rfl rfl)
theorem dX5_steps_9 : decode cX5_steps 9 = .ok (.lreturn, 1) := dk_173 (dk_at dksX5_steps_0 9 rfl rfl)
abbrev cX5_carriedShare : ByteArray := prog_24_method_65_code
def yX5_carriedShare : MethodName := ⟨RX5, "carriedShare", "()F"⟩
def dkwX5_carriedShare_4 : List UInt8 := [110, 174]
abbrev dktX5_carriedShare_4 : List UInt8 := dkwX5_carriedShare_4 ++ []
def dkwX5_carriedShare_3 : List UInt8 := [167, 255, 218, 42, 180, 0, 69, 158, 0, 7, 11, 167, 0, 14, 27, 134, 42, 180, 0, 30, 182, 0, 73, 134]
abbrev dktX5_carriedShare_3 : List UInt8 := dkwX5_carriedShare_3 ++ dktX5_carriedShare_4
def dkwX5_carriedShare_2 : List UInt8 := [192, 0, 138, 78, 27, 45, 180, 0, 143, 42, 180, 0, 150, 160, 0, 7, 4, 167, 0, 4, 3, 96, 60]
abbrev dktX5_carriedShare_2 : List UInt8 := dkwX5_carriedShare_2 ++ dktX5_carriedShare_3
def dkwX5_carriedShare_1 : List UInt8 := [180, 0, 30, 182, 0, 186, 77, 44, 185, 0, 190, 1, 0, 153, 0, 35, 44, 185, 0, 196, 1, 0]
abbrev dktX5_carriedShare_1 : List UInt8 := dkwX5_carriedShare_1 ++ dktX5_carriedShare_2
def dkwX5_carriedShare_0 : List UInt8 := [42, 42, 180, 0, 30, 182, 0, 223, 153, 0, 7, 4, 167, 0, 4, 3, 181, 0, 69, 3, 60, 42]
abbrev dktX5_carriedShare_0 : List UInt8 := dkwX5_carriedShare_0 ++ dktX5_carriedShare_1
theorem dksX5_carriedShare_0 : cX5_carriedShare.data.toList.drop 0 = dktX5_carriedShare_0 := by decide +kernel
theorem dksX5_carriedShare_1 : cX5_carriedShare.data.toList.drop 22 = dktX5_carriedShare_1 := dk_seg dksX5_carriedShare_0 22 rfl rfl
theorem dksX5_carriedShare_2 : cX5_carriedShare.data.toList.drop 44 = dktX5_carriedShare_2 := dk_seg dksX5_carriedShare_1 22 rfl rfl
theorem dksX5_carriedShare_3 : cX5_carriedShare.data.toList.drop 67 = dktX5_carriedShare_3 := dk_seg dksX5_carriedShare_2 23 rfl rfl
theorem dksX5_carriedShare_4 : cX5_carriedShare.data.toList.drop 91 = dktX5_carriedShare_4 := dk_seg dksX5_carriedShare_3 24 rfl rfl
theorem dX5_carriedShare_0 : decode cX5_carriedShare 0 = .ok (.aload_n 0, 1) := dk_42 (dk_at dksX5_carriedShare_0 0 rfl rfl)
theorem dX5_carriedShare_1 : decode cX5_carriedShare 1 = .ok (.aload_n 0, 1) := dk_42 (dk_at dksX5_carriedShare_0 1 rfl rfl)
theorem dX5_carriedShare_2 : decode cX5_carriedShare 2 = .ok (.getfield 30, 3) := dk_180 0 30 (dk_at dksX5_carriedShare_0 2 rfl rfl)
theorem dX5_carriedShare_5 : decode cX5_carriedShare 5 = .ok (.invokevirtual 223, 3) := dk_182 0 223 (dk_at dksX5_carriedShare_0 5 rfl rfl)
theorem dX5_carriedShare_8 : decode cX5_carriedShare 8 = .ok (.ifCond .eq 7, 3) := dk_153 0 7 (dk_at dksX5_carriedShare_0 8 rfl rfl)
theorem dX5_carriedShare_11 : decode cX5_carriedShare 11 = .ok (.iconst 1, 1) := dk_4 (dk_at dksX5_carriedShare_0 11 rfl rfl)
theorem dX5_carriedShare_12 : decode cX5_carriedShare 12 = .ok (.goto 4, 3) := dk_167 0 4 (dk_at dksX5_carriedShare_0 12 rfl rfl)
theorem dX5_carriedShare_15 : decode cX5_carriedShare 15 = .ok (.iconst 0, 1) := dk_3 (dk_at dksX5_carriedShare_0 15 rfl rfl)
theorem dX5_carriedShare_16 : decode cX5_carriedShare 16 = .ok (.putfield 69, 3) := dk_181 0 69 (dk_at dksX5_carriedShare_0 16 rfl rfl)
theorem dX5_carriedShare_19 : decode cX5_carriedShare 19 = .ok (.iconst 0, 1) := dk_3 (dk_at dksX5_carriedShare_0 19 rfl rfl)
theorem dX5_carriedShare_20 : decode cX5_carriedShare 20 = .ok (.istore_n 1, 1) := dk_60 (dk_at dksX5_carriedShare_0 20 rfl rfl)
theorem dX5_carriedShare_21 : decode cX5_carriedShare 21 = .ok (.aload_n 0, 1) := dk_42 (dk_at dksX5_carriedShare_0 21 rfl rfl)
theorem dX5_carriedShare_22 : decode cX5_carriedShare 22 = .ok (.getfield 30, 3) := dk_180 0 30 (dk_at dksX5_carriedShare_1 0 rfl rfl)
theorem dX5_carriedShare_25 : decode cX5_carriedShare 25 = .ok (.invokevirtual 186, 3) := dk_182 0 186 (dk_at dksX5_carriedShare_1 3 rfl rfl)
theorem dX5_carriedShare_28 : decode cX5_carriedShare 28 = .ok (.astore_n 2, 1) := dk_77 (dk_at dksX5_carriedShare_1 6 rfl rfl)
theorem dX5_carriedShare_29 : decode cX5_carriedShare 29 = .ok (.aload_n 2, 1) := dk_44 (dk_at dksX5_carriedShare_1 7 rfl rfl)
theorem dX5_carriedShare_30 : decode cX5_carriedShare 30 = .ok (.invokeinterface 190 1, 5) := by decide +kernel
theorem dX5_carriedShare_35 : decode cX5_carriedShare 35 = .ok (.ifCond .eq 35, 3) := dk_153 0 35 (dk_at dksX5_carriedShare_1 13 rfl rfl)
theorem dX5_carriedShare_38 : decode cX5_carriedShare 38 = .ok (.aload_n 2, 1) := dk_44 (dk_at dksX5_carriedShare_1 16 rfl rfl)
theorem dX5_carriedShare_39 : decode cX5_carriedShare 39 = .ok (.invokeinterface 196 1, 5) := by decide +kernel
theorem dX5_carriedShare_44 : decode cX5_carriedShare 44 = .ok (.checkcast 138, 3) := dk_192 0 138 (dk_at dksX5_carriedShare_2 0 rfl rfl)
theorem dX5_carriedShare_47 : decode cX5_carriedShare 47 = .ok (.astore_n 3, 1) := dk_78 (dk_at dksX5_carriedShare_2 3 rfl rfl)
theorem dX5_carriedShare_48 : decode cX5_carriedShare 48 = .ok (.iload_n 1, 1) := dk_27 (dk_at dksX5_carriedShare_2 4 rfl rfl)
theorem dX5_carriedShare_49 : decode cX5_carriedShare 49 = .ok (.aload_n 3, 1) := dk_45 (dk_at dksX5_carriedShare_2 5 rfl rfl)
theorem dX5_carriedShare_50 : decode cX5_carriedShare 50 = .ok (.getfield 143, 3) := dk_180 0 143 (dk_at dksX5_carriedShare_2 6 rfl rfl)
theorem dX5_carriedShare_53 : decode cX5_carriedShare 53 = .ok (.aload_n 0, 1) := dk_42 (dk_at dksX5_carriedShare_2 9 rfl rfl)
theorem dX5_carriedShare_54 : decode cX5_carriedShare 54 = .ok (.getfield 150, 3) := dk_180 0 150 (dk_at dksX5_carriedShare_2 10 rfl rfl)
theorem dX5_carriedShare_57 : decode cX5_carriedShare 57 = .ok (.if_icmp .ne 7, 3) := dk_160 0 7 (dk_at dksX5_carriedShare_2 13 rfl rfl)
theorem dX5_carriedShare_60 : decode cX5_carriedShare 60 = .ok (.iconst 1, 1) := dk_4 (dk_at dksX5_carriedShare_2 16 rfl rfl)
theorem dX5_carriedShare_61 : decode cX5_carriedShare 61 = .ok (.goto 4, 3) := dk_167 0 4 (dk_at dksX5_carriedShare_2 17 rfl rfl)
theorem dX5_carriedShare_64 : decode cX5_carriedShare 64 = .ok (.iconst 0, 1) := dk_3 (dk_at dksX5_carriedShare_2 20 rfl rfl)
theorem dX5_carriedShare_65 : decode cX5_carriedShare 65 = .ok (.iadd, 1) := dk_96 (dk_at dksX5_carriedShare_2 21 rfl rfl)
theorem dX5_carriedShare_66 : decode cX5_carriedShare 66 = .ok (.istore_n 1, 1) := dk_60 (dk_at dksX5_carriedShare_2 22 rfl rfl)
theorem dX5_carriedShare_67 : decode cX5_carriedShare 67 = .ok (.goto (-38), 3) := dk_167 255 218 (dk_at dksX5_carriedShare_3 0 rfl rfl)
theorem dX5_carriedShare_70 : decode cX5_carriedShare 70 = .ok (.aload_n 0, 1) := dk_42 (dk_at dksX5_carriedShare_3 3 rfl rfl)
theorem dX5_carriedShare_71 : decode cX5_carriedShare 71 = .ok (.getfield 69, 3) := dk_180 0 69 (dk_at dksX5_carriedShare_3 4 rfl rfl)
theorem dX5_carriedShare_74 : decode cX5_carriedShare 74 = .ok (.ifCond .le 7, 3) := dk_158 0 7 (dk_at dksX5_carriedShare_3 7 rfl rfl)
theorem dX5_carriedShare_77 : decode cX5_carriedShare 77 = .ok (.fconst 0, 1) := dk_11 (dk_at dksX5_carriedShare_3 10 rfl rfl)
theorem dX5_carriedShare_78 : decode cX5_carriedShare 78 = .ok (.goto 14, 3) := dk_167 0 14 (dk_at dksX5_carriedShare_3 11 rfl rfl)
theorem dX5_carriedShare_81 : decode cX5_carriedShare 81 = .ok (.iload_n 1, 1) := dk_27 (dk_at dksX5_carriedShare_3 14 rfl rfl)
theorem dX5_carriedShare_82 : decode cX5_carriedShare 82 = .ok (.i2f, 1) := dk_134 (dk_at dksX5_carriedShare_3 15 rfl rfl)
theorem dX5_carriedShare_83 : decode cX5_carriedShare 83 = .ok (.aload_n 0, 1) := dk_42 (dk_at dksX5_carriedShare_3 16 rfl rfl)
theorem dX5_carriedShare_84 : decode cX5_carriedShare 84 = .ok (.getfield 30, 3) := dk_180 0 30 (dk_at dksX5_carriedShare_3 17 rfl rfl)
theorem dX5_carriedShare_87 : decode cX5_carriedShare 87 = .ok (.invokevirtual 73, 3) := dk_182 0 73 (dk_at dksX5_carriedShare_3 20 rfl rfl)
theorem dX5_carriedShare_90 : decode cX5_carriedShare 90 = .ok (.i2f, 1) := dk_134 (dk_at dksX5_carriedShare_3 23 rfl rfl)
theorem dX5_carriedShare_91 : decode cX5_carriedShare 91 = .ok (.fdiv, 1) := dk_110 (dk_at dksX5_carriedShare_4 0 rfl rfl)
theorem dX5_carriedShare_92 : decode cX5_carriedShare 92 = .ok (.freturn, 1) := dk_174 (dk_at dksX5_carriedShare_4 1 rfl rfl)
abbrev cX5_meanFrames : ByteArray := prog_24_method_66_code
def yX5_meanFrames : MethodName := ⟨RX5, "meanFrames", "()D"⟩
def dkwX5_meanFrames_4 : List UInt8 := [14, 167, 0, 8, 28, 135, 27, 135, 111, 175]
abbrev dktX5_meanFrames_4 : List UInt8 := dkwX5_meanFrames_4 ++ []
def dkwX5_meanFrames_3 : List UInt8 := [61, 167, 255, 197, 42, 27, 154, 0, 7, 4, 167, 0, 4, 3, 181, 0, 69, 42, 180, 0, 69, 158, 0, 7]
abbrev dktX5_meanFrames_3 : List UInt8 := dkwX5_meanFrames_3 ++ dktX5_meanFrames_4
def dkwX5_meanFrames_2 : List UInt8 := [96, 60, 28, 25, 4, 182, 0, 252, 153, 0, 14, 25, 4, 180, 0, 200, 182, 0, 73, 167, 0, 4, 3, 96]
abbrev dktX5_meanFrames_2 : List UInt8 := dkwX5_meanFrames_2 ++ dktX5_meanFrames_3
def dkwX5_meanFrames_1 : List UInt8 := [185, 0, 196, 1, 0, 192, 0, 66, 58, 4, 27, 25, 4, 182, 0, 252, 153, 0, 7, 4, 167, 0, 4, 3]
abbrev dktX5_meanFrames_1 : List UInt8 := dkwX5_meanFrames_1 ++ dktX5_meanFrames_2
def dkwX5_meanFrames_0 : List UInt8 := [3, 60, 3, 61, 42, 180, 0, 27, 182, 0, 186, 78, 45, 185, 0, 190, 1, 0, 153, 0, 56, 45]
abbrev dktX5_meanFrames_0 : List UInt8 := dkwX5_meanFrames_0 ++ dktX5_meanFrames_1
theorem dksX5_meanFrames_0 : cX5_meanFrames.data.toList.drop 0 = dktX5_meanFrames_0 := by decide +kernel
theorem dksX5_meanFrames_1 : cX5_meanFrames.data.toList.drop 22 = dktX5_meanFrames_1 := dk_seg dksX5_meanFrames_0 22 rfl rfl
theorem dksX5_meanFrames_2 : cX5_meanFrames.data.toList.drop 46 = dktX5_meanFrames_2 := dk_seg dksX5_meanFrames_1 24 rfl rfl
theorem dksX5_meanFrames_3 : cX5_meanFrames.data.toList.drop 70 = dktX5_meanFrames_3 := dk_seg dksX5_meanFrames_2 24 rfl rfl
theorem dksX5_meanFrames_4 : cX5_meanFrames.data.toList.drop 94 = dktX5_meanFrames_4 := dk_seg dksX5_meanFrames_3 24 rfl rfl
theorem dX5_meanFrames_0 : decode cX5_meanFrames 0 = .ok (.iconst 0, 1) := dk_3 (dk_at dksX5_meanFrames_0 0 rfl rfl)
theorem dX5_meanFrames_1 : decode cX5_meanFrames 1 = .ok (.istore_n 1, 1) := dk_60 (dk_at dksX5_meanFrames_0 1 rfl rfl)
theorem dX5_meanFrames_2 : decode cX5_meanFrames 2 = .ok (.iconst 0, 1) := dk_3 (dk_at dksX5_meanFrames_0 2 rfl rfl)
theorem dX5_meanFrames_3 : decode cX5_meanFrames 3 = .ok (.istore_n 2, 1) := dk_61 (dk_at dksX5_meanFrames_0 3 rfl rfl)
theorem dX5_meanFrames_4 : decode cX5_meanFrames 4 = .ok (.aload_n 0, 1) := dk_42 (dk_at dksX5_meanFrames_0 4 rfl rfl)
theorem dX5_meanFrames_5 : decode cX5_meanFrames 5 = .ok (.getfield 27, 3) := dk_180 0 27 (dk_at dksX5_meanFrames_0 5 rfl rfl)
theorem dX5_meanFrames_8 : decode cX5_meanFrames 8 = .ok (.invokevirtual 186, 3) := dk_182 0 186 (dk_at dksX5_meanFrames_0 8 rfl rfl)
theorem dX5_meanFrames_11 : decode cX5_meanFrames 11 = .ok (.astore_n 3, 1) := dk_78 (dk_at dksX5_meanFrames_0 11 rfl rfl)
theorem dX5_meanFrames_12 : decode cX5_meanFrames 12 = .ok (.aload_n 3, 1) := dk_45 (dk_at dksX5_meanFrames_0 12 rfl rfl)
theorem dX5_meanFrames_13 : decode cX5_meanFrames 13 = .ok (.invokeinterface 190 1, 5) := by decide +kernel
theorem dX5_meanFrames_18 : decode cX5_meanFrames 18 = .ok (.ifCond .eq 56, 3) := dk_153 0 56 (dk_at dksX5_meanFrames_0 18 rfl rfl)
theorem dX5_meanFrames_21 : decode cX5_meanFrames 21 = .ok (.aload_n 3, 1) := dk_45 (dk_at dksX5_meanFrames_0 21 rfl rfl)
theorem dX5_meanFrames_22 : decode cX5_meanFrames 22 = .ok (.invokeinterface 196 1, 5) := by decide +kernel
theorem dX5_meanFrames_27 : decode cX5_meanFrames 27 = .ok (.checkcast 66, 3) := dk_192 0 66 (dk_at dksX5_meanFrames_1 5 rfl rfl)
theorem dX5_meanFrames_30 : decode cX5_meanFrames 30 = .ok (.astore 4, 2) := dk_58 4 (dk_at dksX5_meanFrames_1 8 rfl rfl)
theorem dX5_meanFrames_32 : decode cX5_meanFrames 32 = .ok (.iload_n 1, 1) := dk_27 (dk_at dksX5_meanFrames_1 10 rfl rfl)
theorem dX5_meanFrames_33 : decode cX5_meanFrames 33 = .ok (.aload 4, 2) := dk_25 4 (dk_at dksX5_meanFrames_1 11 rfl rfl)
theorem dX5_meanFrames_35 : decode cX5_meanFrames 35 = .ok (.invokevirtual 252, 3) := dk_182 0 252 (dk_at dksX5_meanFrames_1 13 rfl rfl)
theorem dX5_meanFrames_38 : decode cX5_meanFrames 38 = .ok (.ifCond .eq 7, 3) := dk_153 0 7 (dk_at dksX5_meanFrames_1 16 rfl rfl)
theorem dX5_meanFrames_41 : decode cX5_meanFrames 41 = .ok (.iconst 1, 1) := dk_4 (dk_at dksX5_meanFrames_1 19 rfl rfl)
theorem dX5_meanFrames_42 : decode cX5_meanFrames 42 = .ok (.goto 4, 3) := dk_167 0 4 (dk_at dksX5_meanFrames_1 20 rfl rfl)
theorem dX5_meanFrames_45 : decode cX5_meanFrames 45 = .ok (.iconst 0, 1) := dk_3 (dk_at dksX5_meanFrames_1 23 rfl rfl)
theorem dX5_meanFrames_46 : decode cX5_meanFrames 46 = .ok (.iadd, 1) := dk_96 (dk_at dksX5_meanFrames_2 0 rfl rfl)
theorem dX5_meanFrames_47 : decode cX5_meanFrames 47 = .ok (.istore_n 1, 1) := dk_60 (dk_at dksX5_meanFrames_2 1 rfl rfl)
theorem dX5_meanFrames_48 : decode cX5_meanFrames 48 = .ok (.iload_n 2, 1) := dk_28 (dk_at dksX5_meanFrames_2 2 rfl rfl)
theorem dX5_meanFrames_49 : decode cX5_meanFrames 49 = .ok (.aload 4, 2) := dk_25 4 (dk_at dksX5_meanFrames_2 3 rfl rfl)
theorem dX5_meanFrames_51 : decode cX5_meanFrames 51 = .ok (.invokevirtual 252, 3) := dk_182 0 252 (dk_at dksX5_meanFrames_2 5 rfl rfl)
theorem dX5_meanFrames_54 : decode cX5_meanFrames 54 = .ok (.ifCond .eq 14, 3) := dk_153 0 14 (dk_at dksX5_meanFrames_2 8 rfl rfl)
theorem dX5_meanFrames_57 : decode cX5_meanFrames 57 = .ok (.aload 4, 2) := dk_25 4 (dk_at dksX5_meanFrames_2 11 rfl rfl)
theorem dX5_meanFrames_59 : decode cX5_meanFrames 59 = .ok (.getfield 200, 3) := dk_180 0 200 (dk_at dksX5_meanFrames_2 13 rfl rfl)
theorem dX5_meanFrames_62 : decode cX5_meanFrames 62 = .ok (.invokevirtual 73, 3) := dk_182 0 73 (dk_at dksX5_meanFrames_2 16 rfl rfl)
theorem dX5_meanFrames_65 : decode cX5_meanFrames 65 = .ok (.goto 4, 3) := dk_167 0 4 (dk_at dksX5_meanFrames_2 19 rfl rfl)
theorem dX5_meanFrames_68 : decode cX5_meanFrames 68 = .ok (.iconst 0, 1) := dk_3 (dk_at dksX5_meanFrames_2 22 rfl rfl)
theorem dX5_meanFrames_69 : decode cX5_meanFrames 69 = .ok (.iadd, 1) := dk_96 (dk_at dksX5_meanFrames_2 23 rfl rfl)
theorem dX5_meanFrames_70 : decode cX5_meanFrames 70 = .ok (.istore_n 2, 1) := dk_61 (dk_at dksX5_meanFrames_3 0 rfl rfl)
theorem dX5_meanFrames_71 : decode cX5_meanFrames 71 = .ok (.goto (-59), 3) := dk_167 255 197 (dk_at dksX5_meanFrames_3 1 rfl rfl)
theorem dX5_meanFrames_74 : decode cX5_meanFrames 74 = .ok (.aload_n 0, 1) := dk_42 (dk_at dksX5_meanFrames_3 4 rfl rfl)
theorem dX5_meanFrames_75 : decode cX5_meanFrames 75 = .ok (.iload_n 1, 1) := dk_27 (dk_at dksX5_meanFrames_3 5 rfl rfl)
theorem dX5_meanFrames_76 : decode cX5_meanFrames 76 = .ok (.ifCond .ne 7, 3) := dk_154 0 7 (dk_at dksX5_meanFrames_3 6 rfl rfl)
theorem dX5_meanFrames_79 : decode cX5_meanFrames 79 = .ok (.iconst 1, 1) := dk_4 (dk_at dksX5_meanFrames_3 9 rfl rfl)
theorem dX5_meanFrames_80 : decode cX5_meanFrames 80 = .ok (.goto 4, 3) := dk_167 0 4 (dk_at dksX5_meanFrames_3 10 rfl rfl)
theorem dX5_meanFrames_83 : decode cX5_meanFrames 83 = .ok (.iconst 0, 1) := dk_3 (dk_at dksX5_meanFrames_3 13 rfl rfl)
theorem dX5_meanFrames_84 : decode cX5_meanFrames 84 = .ok (.putfield 69, 3) := dk_181 0 69 (dk_at dksX5_meanFrames_3 14 rfl rfl)
theorem dX5_meanFrames_87 : decode cX5_meanFrames 87 = .ok (.aload_n 0, 1) := dk_42 (dk_at dksX5_meanFrames_3 17 rfl rfl)
theorem dX5_meanFrames_88 : decode cX5_meanFrames 88 = .ok (.getfield 69, 3) := dk_180 0 69 (dk_at dksX5_meanFrames_3 18 rfl rfl)
theorem dX5_meanFrames_91 : decode cX5_meanFrames 91 = .ok (.ifCond .le 7, 3) := dk_158 0 7 (dk_at dksX5_meanFrames_3 21 rfl rfl)
theorem dX5_meanFrames_94 : decode cX5_meanFrames 94 = .ok (.dconst 0, 1) := dk_14 (dk_at dksX5_meanFrames_4 0 rfl rfl)
theorem dX5_meanFrames_95 : decode cX5_meanFrames 95 = .ok (.goto 8, 3) := dk_167 0 8 (dk_at dksX5_meanFrames_4 1 rfl rfl)
theorem dX5_meanFrames_98 : decode cX5_meanFrames 98 = .ok (.iload_n 2, 1) := dk_28 (dk_at dksX5_meanFrames_4 4 rfl rfl)
theorem dX5_meanFrames_99 : decode cX5_meanFrames 99 = .ok (.i2d, 1) := dk_135 (dk_at dksX5_meanFrames_4 5 rfl rfl)
theorem dX5_meanFrames_100 : decode cX5_meanFrames 100 = .ok (.iload_n 1, 1) := dk_27 (dk_at dksX5_meanFrames_4 6 rfl rfl)
theorem dX5_meanFrames_101 : decode cX5_meanFrames 101 = .ok (.i2d, 1) := dk_135 (dk_at dksX5_meanFrames_4 7 rfl rfl)
theorem dX5_meanFrames_102 : decode cX5_meanFrames 102 = .ok (.ddiv, 1) := dk_111 (dk_at dksX5_meanFrames_4 8 rfl rfl)
theorem dX5_meanFrames_103 : decode cX5_meanFrames 103 = .ok (.dreturn, 1) := dk_175 (dk_at dksX5_meanFrames_4 9 rfl rfl)
theorem q78 : (Jvm.Cond.initialized "SwapWhileModel") ∈ lw_all := lw_g (lw_at lw_m1 14 rfl) rfl
theorem q236 : (Jvm.Cond.selects "SwapWhileModel" ({ cls := "java/lang/Object", name := "getClass", desc := "()Ljava/lang/Class;" } : Jvm.MethodName) ({ cls := "java/lang/Object", name := "getClass", desc := "()Ljava/lang/Class;" } : Jvm.MethodName)) ∈ lw_all := lw_g (lw_at lw_m1 172 rfl) rfl
theorem q810 : (Jvm.Cond.selects "SwapWhileModel" ({ cls := "java/lang/Object", name := "equals", desc := "(Ljava/lang/Object;)Z" } : Jvm.MethodName) ({ cls := "java/lang/Object", name := "equals", desc := "(Ljava/lang/Object;)Z" } : Jvm.MethodName)) ∈ lw_all := lw_g (lw_at lw_m4 26 rfl) rfl
theorem q1659 : (Jvm.Cond.instantiable "SwapWhileModel" (14 : Nat)) ∈ lw_all := lw_g (lw_at lw_m7 155 rfl) rfl
theorem q1661 : (Jvm.Cond.instanceMethod ({ cls := "SwapWhileModel", name := "<init>", desc := "()V" } : Jvm.MethodName)) ∈ lw_all := lw_g (lw_at lw_m7 157 rfl) rfl
theorem q1662 : (Jvm.Cond.code ({ cls := "SwapWhileModel", name := "<init>", desc := "()V" } : Jvm.MethodName) prog_24_method_5_code (2 : Nat) (Option.none : Option Jvm.ClassFile.FieldType)) ∈ lw_all := lw_g (lw_at lw_m7 158 rfl) rfl
theorem q1663 : (Jvm.Cond.methodLink "SwapWhileModel" (14 : Nat) ({ cls := "java/lang/Object", name := "<init>", desc := "()V" } : Jvm.MethodName)) ∈ lw_all := lw_g (lw_at lw_m7 159 rfl) rfl
theorem q1664 : (Jvm.Cond.classLink "SwapWhileModel" (20 : Nat) "java/util/ArrayList") ∈ lw_all := lw_g (lw_at lw_m7 160 rfl) rfl
theorem q1665 : (Jvm.Cond.methodLink "SwapWhileModel" (22 : Nat) ({ cls := "java/util/ArrayList", name := "<init>", desc := "()V" } : Jvm.MethodName)) ∈ lw_all := lw_g (lw_at lw_m7 161 rfl) rfl
theorem q1666 : (Jvm.Cond.classLink "SwapWhileModel" (49 : Nat) "SwapWhileModel$Version") ∈ lw_all := lw_g (lw_at lw_m7 162 rfl) rfl
theorem q1668 : (Jvm.Cond.methodLink "SwapWhileModel" (51 : Nat) ({ cls := "SwapWhileModel$Version", name := "<init>", desc := "(LSwapWhileModel$Version;)V" } : Jvm.MethodName)) ∈ lw_all := lw_g (lw_at lw_m7 164 rfl) rfl
theorem q1683 : (Jvm.Cond.fieldLinkNest "SwapWhileModel" (85 : Nat) "SwapWhileModel$Version" "functions" "Ljava/util/ArrayList;" "SwapWhileModel") ∈ lw_tbl := lw_at lw_m7 179 rfl
theorem q1685 : (Jvm.Cond.fieldLinkNest "SwapWhileModel" (96 : Nat) "SwapWhileModel$Version" "fields" "[I" "SwapWhileModel") ∈ lw_tbl := lw_at lw_m7 181 rfl
theorem q1687 : (Jvm.Cond.fieldLinkNest "SwapWhileModel" (110 : Nat) "SwapWhileModel$Version" "from" "[I" "SwapWhileModel") ∈ lw_tbl := lw_at lw_m7 183 rfl
theorem q1689 : (Jvm.Cond.fieldLinkNest "SwapWhileModel" (116 : Nat) "SwapWhileModel$Version" "more" "[I" "SwapWhileModel") ∈ lw_tbl := lw_at lw_m7 185 rfl
theorem q1691 : (Jvm.Cond.fieldLinkNest "SwapWhileModel" (107 : Nat) "SwapWhileModel$Version" "backFrom" "[I" "SwapWhileModel") ∈ lw_tbl := lw_at lw_m7 187 rfl
theorem q1693 : (Jvm.Cond.fieldLinkNest "SwapWhileModel" (113 : Nat) "SwapWhileModel$Version" "backMore" "[I" "SwapWhileModel") ∈ lw_tbl := lw_at lw_m7 189 rfl
theorem q1695 : (Jvm.Cond.fieldLinkNest "SwapWhileModel" (119 : Nat) "SwapWhileModel$Version" "places" "[I" "SwapWhileModel") ∈ lw_tbl := lw_at lw_m7 191 rfl
theorem q1711 : (Jvm.Cond.methodLink "SwapWhileModel" (54 : Nat) ({ cls := "java/util/ArrayList", name := "add", desc := "(Ljava/lang/Object;)Z" } : Jvm.MethodName)) ∈ lw_all := lw_g (lw_at lw_m7 207 rfl) rfl
theorem q1712 : (Jvm.Cond.methodLink "SwapWhileModel" (58 : Nat) ({ cls := "java/util/ArrayList", name := "get", desc := "(I)Ljava/lang/Object;" } : Jvm.MethodName)) ∈ lw_all := lw_g (lw_at lw_m7 208 rfl) rfl
theorem q1713 : (Jvm.Cond.classLink "SwapWhileModel" (66 : Nat) "SwapWhileModel$Lane") ∈ lw_all := lw_g (lw_at lw_m7 209 rfl) rfl
theorem q1715 : (Jvm.Cond.methodLinkNest "SwapWhileModel" (68 : Nat) ({ cls := "SwapWhileModel$Lane", name := "<init>", desc := "()V" } : Jvm.MethodName) "SwapWhileModel") ∈ lw_tbl := lw_at lw_m7 211 rfl
theorem q1722 : (Jvm.Cond.fieldLinkNest "SwapWhileModel" (324 : Nat) "SwapWhileModel$Lane" "state" "C" "SwapWhileModel") ∈ lw_tbl := lw_at lw_m7 218 rfl
theorem q1724 : (Jvm.Cond.fieldLinkNest "SwapWhileModel" (200 : Nat) "SwapWhileModel$Lane" "frames" "Ljava/util/ArrayList;" "SwapWhileModel") ∈ lw_tbl := lw_at lw_m7 220 rfl
theorem q1730 : (Jvm.Cond.fieldLink "SwapWhileModel" (69 : Nat) "SwapWhileModel" "thrown" "I") ∈ lw_all := lw_g (lw_at lw_m7 226 rfl) rfl
theorem q1731 : (Jvm.Cond.fieldLink "SwapWhileModel" (23 : Nat) "SwapWhileModel" "versions" "Ljava/util/ArrayList;") ∈ lw_all := lw_g (lw_at lw_m7 227 rfl) rfl
theorem q1732 : (Jvm.Cond.fieldLink "SwapWhileModel" (62 : Nat) "SwapWhileModel" "draft" "LSwapWhileModel$Version;") ∈ lw_all := lw_g (lw_at lw_m7 228 rfl) rfl
theorem q1733 : (Jvm.Cond.fieldLink "SwapWhileModel" (150 : Nat) "SwapWhileModel" "present" "I") ∈ lw_all := lw_g (lw_at lw_m7 229 rfl) rfl
theorem q1734 : (Jvm.Cond.fieldLink "SwapWhileModel" (27 : Nat) "SwapWhileModel" "lanes" "Ljava/util/ArrayList;") ∈ lw_all := lw_g (lw_at lw_m7 230 rfl) rfl
theorem q1735 : (Jvm.Cond.fieldLink "SwapWhileModel" (30 : Nat) "SwapWhileModel" "things" "Ljava/util/ArrayList;") ∈ lw_all := lw_g (lw_at lw_m7 231 rfl) rfl
theorem q1736 : (Jvm.Cond.fieldLink "SwapWhileModel" (33 : Nat) "SwapWhileModel" "table" "[I") ∈ lw_all := lw_g (lw_at lw_m7 232 rfl) rfl
theorem q1737 : (Jvm.Cond.fieldLink "SwapWhileModel" (37 : Nat) "SwapWhileModel" "changes" "Ljava/util/ArrayList;") ∈ lw_all := lw_g (lw_at lw_m7 233 rfl) rfl
theorem q1738 : (Jvm.Cond.fieldLink "SwapWhileModel" (40 : Nat) "SwapWhileModel" "queue" "Ljava/util/ArrayList;") ∈ lw_all := lw_g (lw_at lw_m7 234 rfl) rfl
theorem q1739 : (Jvm.Cond.fieldLink "SwapWhileModel" (293 : Nat) "SwapWhileModel" "isWatched" "Z") ∈ lw_all := lw_g (lw_at lw_m7 235 rfl) rfl
theorem q1740 : (Jvm.Cond.fieldLink "SwapWhileModel" (296 : Nat) "SwapWhileModel" "limit" "I") ∈ lw_all := lw_g (lw_at lw_m7 236 rfl) rfl
theorem q1741 : (Jvm.Cond.fieldLink "SwapWhileModel" (43 : Nat) "SwapWhileModel" "amounts" "Ljava/util/ArrayList;") ∈ lw_all := lw_g (lw_at lw_m7 237 rfl) rfl
theorem q1742 : (Jvm.Cond.fieldLink "SwapWhileModel" (46 : Nat) "SwapWhileModel" "amountVersions" "Ljava/util/ArrayList;") ∈ lw_all := lw_g (lw_at lw_m7 238 rfl) rfl
theorem q1743 : (Jvm.Cond.fieldLink "SwapWhileModel" (236 : Nat) "SwapWhileModel" "steps" "J") ∈ lw_all := lw_g (lw_at lw_m7 239 rfl) rfl
theorem q1744 : (Jvm.Cond.lays "SwapWhileModel" "SwapWhileModel" "thrown" "I") ∈ lw_all := lw_g (lw_at lw_m8 0 rfl) rfl
theorem q1745 : (Jvm.Cond.soleField "SwapWhileModel" "thrown") ∈ lw_all := lw_g (lw_at lw_m8 1 rfl) rfl
theorem q1746 : (Jvm.Cond.laysFinal "SwapWhileModel" "SwapWhileModel" "versions" "Ljava/util/ArrayList;") ∈ lw_all := lw_g (lw_at lw_m8 2 rfl) rfl
theorem q1747 : (Jvm.Cond.soleField "SwapWhileModel" "versions") ∈ lw_all := lw_g (lw_at lw_m8 3 rfl) rfl
theorem q1748 : (Jvm.Cond.lays "SwapWhileModel" "SwapWhileModel" "draft" "LSwapWhileModel$Version;") ∈ lw_all := lw_g (lw_at lw_m8 4 rfl) rfl
theorem q1749 : (Jvm.Cond.soleField "SwapWhileModel" "draft") ∈ lw_all := lw_g (lw_at lw_m8 5 rfl) rfl
theorem q1750 : (Jvm.Cond.lays "SwapWhileModel" "SwapWhileModel" "present" "I") ∈ lw_all := lw_g (lw_at lw_m8 6 rfl) rfl
theorem q1751 : (Jvm.Cond.soleField "SwapWhileModel" "present") ∈ lw_all := lw_g (lw_at lw_m8 7 rfl) rfl
theorem q1752 : (Jvm.Cond.laysFinal "SwapWhileModel" "SwapWhileModel" "lanes" "Ljava/util/ArrayList;") ∈ lw_all := lw_g (lw_at lw_m8 8 rfl) rfl
theorem q1753 : (Jvm.Cond.soleField "SwapWhileModel" "lanes") ∈ lw_all := lw_g (lw_at lw_m8 9 rfl) rfl
theorem q1754 : (Jvm.Cond.laysFinal "SwapWhileModel" "SwapWhileModel" "things" "Ljava/util/ArrayList;") ∈ lw_all := lw_g (lw_at lw_m8 10 rfl) rfl
theorem q1755 : (Jvm.Cond.soleField "SwapWhileModel" "things") ∈ lw_all := lw_g (lw_at lw_m8 11 rfl) rfl
theorem q1756 : (Jvm.Cond.laysFinal "SwapWhileModel" "SwapWhileModel" "table" "[I") ∈ lw_all := lw_g (lw_at lw_m8 12 rfl) rfl
theorem q1757 : (Jvm.Cond.soleField "SwapWhileModel" "table") ∈ lw_all := lw_g (lw_at lw_m8 13 rfl) rfl
theorem q1758 : (Jvm.Cond.laysFinal "SwapWhileModel" "SwapWhileModel" "changes" "Ljava/util/ArrayList;") ∈ lw_all := lw_g (lw_at lw_m8 14 rfl) rfl
theorem q1759 : (Jvm.Cond.soleField "SwapWhileModel" "changes") ∈ lw_all := lw_g (lw_at lw_m8 15 rfl) rfl
theorem q1760 : (Jvm.Cond.laysFinal "SwapWhileModel" "SwapWhileModel" "queue" "Ljava/util/ArrayList;") ∈ lw_all := lw_g (lw_at lw_m8 16 rfl) rfl
theorem q1761 : (Jvm.Cond.soleField "SwapWhileModel" "queue") ∈ lw_all := lw_g (lw_at lw_m8 17 rfl) rfl
theorem q1762 : (Jvm.Cond.lays "SwapWhileModel" "SwapWhileModel" "isWatched" "Z") ∈ lw_all := lw_g (lw_at lw_m8 18 rfl) rfl
theorem q1763 : (Jvm.Cond.soleField "SwapWhileModel" "isWatched") ∈ lw_all := lw_g (lw_at lw_m8 19 rfl) rfl
theorem q1764 : (Jvm.Cond.lays "SwapWhileModel" "SwapWhileModel" "limit" "I") ∈ lw_all := lw_g (lw_at lw_m8 20 rfl) rfl
theorem q1765 : (Jvm.Cond.soleField "SwapWhileModel" "limit") ∈ lw_all := lw_g (lw_at lw_m8 21 rfl) rfl
theorem q1766 : (Jvm.Cond.laysFinal "SwapWhileModel" "SwapWhileModel" "amounts" "Ljava/util/ArrayList;") ∈ lw_all := lw_g (lw_at lw_m8 22 rfl) rfl
theorem q1767 : (Jvm.Cond.soleField "SwapWhileModel" "amounts") ∈ lw_all := lw_g (lw_at lw_m8 23 rfl) rfl
theorem q1768 : (Jvm.Cond.laysFinal "SwapWhileModel" "SwapWhileModel" "amountVersions" "Ljava/util/ArrayList;") ∈ lw_all := lw_g (lw_at lw_m8 24 rfl) rfl
theorem q1769 : (Jvm.Cond.soleField "SwapWhileModel" "amountVersions") ∈ lw_all := lw_g (lw_at lw_m8 25 rfl) rfl
theorem q1770 : (Jvm.Cond.lays "SwapWhileModel" "SwapWhileModel" "steps" "J") ∈ lw_all := lw_g (lw_at lw_m8 26 rfl) rfl
theorem q1771 : (Jvm.Cond.soleField "SwapWhileModel" "steps") ∈ lw_all := lw_g (lw_at lw_m8 27 rfl) rfl
theorem q1772 : (Jvm.Cond.superclass "SwapWhileModel" "java/lang/Object") ∈ lw_all := lw_g (lw_at lw_m8 28 rfl) rfl
theorem q1774 : (Jvm.Cond.instanceMethod ({ cls := "SwapWhileModel", name := "thrown", desc := "()I" } : Jvm.MethodName)) ∈ lw_all := lw_g (lw_at lw_m8 30 rfl) rfl
theorem q1775 : (Jvm.Cond.selects "SwapWhileModel" ({ cls := "SwapWhileModel", name := "thrown", desc := "()I" } : Jvm.MethodName) ({ cls := "SwapWhileModel", name := "thrown", desc := "()I" } : Jvm.MethodName)) ∈ lw_all := lw_g (lw_at lw_m8 31 rfl) rfl
theorem q1776 : (Jvm.Cond.code ({ cls := "SwapWhileModel", name := "thrown", desc := "()I" } : Jvm.MethodName) prog_24_method_6_code (1 : Nat) (Option.some Jvm.ClassFile.FieldType.int)) ∈ lw_all := lw_g (lw_at lw_m8 32 rfl) rfl
theorem q1778 : (Jvm.Cond.instanceMethod ({ cls := "SwapWhileModel", name := "add", desc := "(ICIII)I" } : Jvm.MethodName)) ∈ lw_all := lw_g (lw_at lw_m8 34 rfl) rfl
theorem q1779 : (Jvm.Cond.selects "SwapWhileModel" ({ cls := "SwapWhileModel", name := "add", desc := "(ICIII)I" } : Jvm.MethodName) ({ cls := "SwapWhileModel", name := "add", desc := "(ICIII)I" } : Jvm.MethodName)) ∈ lw_all := lw_g (lw_at lw_m8 35 rfl) rfl
theorem q1780 : (Jvm.Cond.code ({ cls := "SwapWhileModel", name := "add", desc := "(ICIII)I" } : Jvm.MethodName) prog_24_method_9_code (6 : Nat) (Option.some Jvm.ClassFile.FieldType.int)) ∈ lw_all := lw_g (lw_at lw_m8 36 rfl) rfl
theorem q1781 : (Jvm.Cond.methodLink "SwapWhileModel" (11 : Nat) ({ cls := "SwapWhileModel", name := "isFunction", desc := "(I)Z" } : Jvm.MethodName)) ∈ lw_all := lw_g (lw_at lw_m8 37 rfl) rfl
theorem q1782 : (Jvm.Cond.static ({ cls := "SwapWhileModel", name := "isFunction", desc := "(I)Z" } : Jvm.MethodName)) ∈ lw_all := lw_g (lw_at lw_m8 38 rfl) rfl
theorem q1783 : (Jvm.Cond.code ({ cls := "SwapWhileModel", name := "isFunction", desc := "(I)Z" } : Jvm.MethodName) prog_24_method_3_code (1 : Nat) (Option.some Jvm.ClassFile.FieldType.boolean)) ∈ lw_all := lw_g (lw_at lw_m8 39 rfl) rfl
theorem q1784 : (Jvm.Cond.methodLink "SwapWhileModel" (3 : Nat) ({ cls := "SwapWhileModel", name := "in", desc := "(III)Z" } : Jvm.MethodName)) ∈ lw_all := lw_g (lw_at lw_m8 40 rfl) rfl
theorem q1785 : (Jvm.Cond.static ({ cls := "SwapWhileModel", name := "in", desc := "(III)Z" } : Jvm.MethodName)) ∈ lw_all := lw_g (lw_at lw_m8 41 rfl) rfl
theorem q1786 : (Jvm.Cond.code ({ cls := "SwapWhileModel", name := "in", desc := "(III)Z" } : Jvm.MethodName) prog_24_method_1_code (3 : Nat) (Option.some Jvm.ClassFile.FieldType.boolean)) ∈ lw_all := lw_g (lw_at lw_m8 42 rfl) rfl
theorem q1787 : (Jvm.Cond.methodLink "SwapWhileModel" (77 : Nat) ({ cls := "SwapWhileModel", name := "isCode", desc := "(CIII)Z" } : Jvm.MethodName)) ∈ lw_all := lw_g (lw_at lw_m8 43 rfl) rfl
theorem q1788 : (Jvm.Cond.static ({ cls := "SwapWhileModel", name := "isCode", desc := "(CIII)Z" } : Jvm.MethodName)) ∈ lw_all := lw_g (lw_at lw_m8 44 rfl) rfl
theorem q1789 : (Jvm.Cond.code ({ cls := "SwapWhileModel", name := "isCode", desc := "(CIII)Z" } : Jvm.MethodName) prog_24_method_4_code (4 : Nat) (Option.some Jvm.ClassFile.FieldType.boolean)) ∈ lw_all := lw_g (lw_at lw_m8 45 rfl) rfl
theorem q1790 : (Jvm.Cond.methodLink "SwapWhileModel" (7 : Nat) ({ cls := "SwapWhileModel", name := "isLocal", desc := "(I)Z" } : Jvm.MethodName)) ∈ lw_all := lw_g (lw_at lw_m8 46 rfl) rfl
theorem q1791 : (Jvm.Cond.static ({ cls := "SwapWhileModel", name := "isLocal", desc := "(I)Z" } : Jvm.MethodName)) ∈ lw_all := lw_g (lw_at lw_m8 47 rfl) rfl
theorem q1792 : (Jvm.Cond.code ({ cls := "SwapWhileModel", name := "isLocal", desc := "(I)Z" } : Jvm.MethodName) prog_24_method_2_code (1 : Nat) (Option.some Jvm.ClassFile.FieldType.boolean)) ∈ lw_all := lw_g (lw_at lw_m8 48 rfl) rfl
theorem q1793 : (Jvm.Cond.methodLink "SwapWhileModel" (81 : Nat) ({ cls := "SwapWhileModel$Version", name := "length", desc := "(I)I" } : Jvm.MethodName)) ∈ lw_all := lw_g (lw_at lw_m8 49 rfl) rfl
theorem q1798 : (Jvm.Cond.classLink "SwapWhileModel" (88 : Nat) "SwapWhileModel$Code") ∈ lw_all := lw_g (lw_at lw_m8 54 rfl) rfl
theorem q1800 : (Jvm.Cond.methodLink "SwapWhileModel" (90 : Nat) ({ cls := "SwapWhileModel$Code", name := "<init>", desc := "(CIII)V" } : Jvm.MethodName)) ∈ lw_all := lw_g (lw_at lw_m8 56 rfl) rfl
theorem q1805 : (Jvm.Cond.fieldLinkNest "SwapWhileModel" (285 : Nat) "SwapWhileModel$Code" "kind" "C" "SwapWhileModel") ∈ lw_tbl := lw_at lw_m8 61 rfl
theorem q1807 : (Jvm.Cond.fieldLinkNest "SwapWhileModel" (279 : Nat) "SwapWhileModel$Code" "a" "I" "SwapWhileModel") ∈ lw_tbl := lw_at lw_m8 63 rfl
theorem q1809 : (Jvm.Cond.fieldLinkNest "SwapWhileModel" (273 : Nat) "SwapWhileModel$Code" "b" "I" "SwapWhileModel") ∈ lw_tbl := lw_at lw_m8 65 rfl
theorem q1811 : (Jvm.Cond.fieldLinkNest "SwapWhileModel" (276 : Nat) "SwapWhileModel$Code" "c" "I" "SwapWhileModel") ∈ lw_tbl := lw_at lw_m8 67 rfl
theorem q1822 : (Jvm.Cond.instanceMethod ({ cls := "SwapWhileModel", name := "empty", desc := "(I)I" } : Jvm.MethodName)) ∈ lw_all := lw_g (lw_at lw_m8 78 rfl) rfl
theorem q1823 : (Jvm.Cond.selects "SwapWhileModel" ({ cls := "SwapWhileModel", name := "empty", desc := "(I)I" } : Jvm.MethodName) ({ cls := "SwapWhileModel", name := "empty", desc := "(I)I" } : Jvm.MethodName)) ∈ lw_all := lw_g (lw_at lw_m8 79 rfl) rfl
theorem q1824 : (Jvm.Cond.code ({ cls := "SwapWhileModel", name := "empty", desc := "(I)I" } : Jvm.MethodName) prog_24_method_10_code (3 : Nat) (Option.some Jvm.ClassFile.FieldType.int)) ∈ lw_all := lw_g (lw_at lw_m8 80 rfl) rfl
theorem q1825 : (Jvm.Cond.methodLink "SwapWhileModel" (93 : Nat) ({ cls := "java/util/ArrayList", name := "clear", desc := "()V" } : Jvm.MethodName)) ∈ lw_all := lw_g (lw_at lw_m8 81 rfl) rfl
theorem q1827 : (Jvm.Cond.instanceMethod ({ cls := "SwapWhileModel", name := "setFields", desc := "(II)I" } : Jvm.MethodName)) ∈ lw_all := lw_g (lw_at lw_m8 83 rfl) rfl
theorem q1828 : (Jvm.Cond.selects "SwapWhileModel" ({ cls := "SwapWhileModel", name := "setFields", desc := "(II)I" } : Jvm.MethodName) ({ cls := "SwapWhileModel", name := "setFields", desc := "(II)I" } : Jvm.MethodName)) ∈ lw_all := lw_g (lw_at lw_m8 84 rfl) rfl
theorem q1829 : (Jvm.Cond.code ({ cls := "SwapWhileModel", name := "setFields", desc := "(II)I" } : Jvm.MethodName) prog_24_method_11_code (4 : Nat) (Option.some Jvm.ClassFile.FieldType.int)) ∈ lw_all := lw_g (lw_at lw_m8 85 rfl) rfl
theorem q1830 : (Jvm.Cond.methodLink "SwapWhileModel" (99 : Nat) ({ cls := "SwapWhileModel", name := "latest", desc := "()LSwapWhileModel$Version;" } : Jvm.MethodName)) ∈ lw_all := lw_g (lw_at lw_m8 86 rfl) rfl
theorem q1831 : (Jvm.Cond.privateMethod ({ cls := "SwapWhileModel", name := "latest", desc := "()LSwapWhileModel$Version;" } : Jvm.MethodName)) ∈ lw_tbl := lw_at lw_m8 87 rfl
theorem q1832 : (Jvm.Cond.instanceMethod ({ cls := "SwapWhileModel", name := "latest", desc := "()LSwapWhileModel$Version;" } : Jvm.MethodName)) ∈ lw_all := lw_g (lw_at lw_m8 88 rfl) rfl
theorem q1833 : (Jvm.Cond.code ({ cls := "SwapWhileModel", name := "latest", desc := "()LSwapWhileModel$Version;" } : Jvm.MethodName) prog_24_method_8_code (1 : Nat) (Option.some (Jvm.ClassFile.FieldType.object "SwapWhileModel$Version"))) ∈ lw_all := lw_g (lw_at lw_m8 89 rfl) rfl
theorem q1834 : (Jvm.Cond.methodLink "SwapWhileModel" (73 : Nat) ({ cls := "java/util/ArrayList", name := "size", desc := "()I" } : Jvm.MethodName)) ∈ lw_all := lw_g (lw_at lw_m8 90 rfl) rfl
theorem q1835 : (Jvm.Cond.methodLink "SwapWhileModel" (103 : Nat) ({ cls := "SwapWhileModel$Version", name := "carriesPlainly", desc := "(II)V" } : Jvm.MethodName)) ∈ lw_all := lw_g (lw_at lw_m8 91 rfl) rfl
theorem q1837 : (Jvm.Cond.instanceMethod ({ cls := "SwapWhileModel", name := "setCarry", desc := "(IZIII)I" } : Jvm.MethodName)) ∈ lw_all := lw_g (lw_at lw_m8 93 rfl) rfl
theorem q1838 : (Jvm.Cond.selects "SwapWhileModel" ({ cls := "SwapWhileModel", name := "setCarry", desc := "(IZIII)I" } : Jvm.MethodName) ({ cls := "SwapWhileModel", name := "setCarry", desc := "(IZIII)I" } : Jvm.MethodName)) ∈ lw_all := lw_g (lw_at lw_m8 94 rfl) rfl
theorem q1839 : (Jvm.Cond.code ({ cls := "SwapWhileModel", name := "setCarry", desc := "(IZIII)I" } : Jvm.MethodName) prog_24_method_12_code (12 : Nat) (Option.some Jvm.ClassFile.FieldType.int)) ∈ lw_all := lw_g (lw_at lw_m8 95 rfl) rfl
theorem q1841 : (Jvm.Cond.instanceMethod ({ cls := "SwapWhileModel", name := "map", desc := "(III)I" } : Jvm.MethodName)) ∈ lw_all := lw_g (lw_at lw_m8 97 rfl) rfl
theorem q1842 : (Jvm.Cond.selects "SwapWhileModel" ({ cls := "SwapWhileModel", name := "map", desc := "(III)I" } : Jvm.MethodName) ({ cls := "SwapWhileModel", name := "map", desc := "(III)I" } : Jvm.MethodName)) ∈ lw_all := lw_g (lw_at lw_m8 98 rfl) rfl
theorem q1843 : (Jvm.Cond.code ({ cls := "SwapWhileModel", name := "map", desc := "(III)I" } : Jvm.MethodName) prog_24_method_13_code (6 : Nat) (Option.some Jvm.ClassFile.FieldType.int)) ∈ lw_all := lw_g (lw_at lw_m8 99 rfl) rfl
theorem q1845 : (Jvm.Cond.instanceMethod ({ cls := "SwapWhileModel", name := "publish", desc := "()I" } : Jvm.MethodName)) ∈ lw_all := lw_g (lw_at lw_m8 101 rfl) rfl
theorem q1846 : (Jvm.Cond.selects "SwapWhileModel" ({ cls := "SwapWhileModel", name := "publish", desc := "()I" } : Jvm.MethodName) ({ cls := "SwapWhileModel", name := "publish", desc := "()I" } : Jvm.MethodName)) ∈ lw_all := lw_g (lw_at lw_m8 102 rfl) rfl
theorem q1847 : (Jvm.Cond.code ({ cls := "SwapWhileModel", name := "publish", desc := "()I" } : Jvm.MethodName) prog_24_method_14_code (3 : Nat) (Option.some Jvm.ClassFile.FieldType.int)) ∈ lw_all := lw_g (lw_at lw_m8 103 rfl) rfl
theorem q1849 : (Jvm.Cond.instanceMethod ({ cls := "SwapWhileModel", name := "isTouched", desc := "(II)Z" } : Jvm.MethodName)) ∈ lw_all := lw_g (lw_at lw_m8 105 rfl) rfl
theorem q1850 : (Jvm.Cond.selects "SwapWhileModel" ({ cls := "SwapWhileModel", name := "isTouched", desc := "(II)Z" } : Jvm.MethodName) ({ cls := "SwapWhileModel", name := "isTouched", desc := "(II)Z" } : Jvm.MethodName)) ∈ lw_all := lw_g (lw_at lw_m8 106 rfl) rfl
theorem q1851 : (Jvm.Cond.code ({ cls := "SwapWhileModel", name := "isTouched", desc := "(II)Z" } : Jvm.MethodName) prog_24_method_16_code (3 : Nat) (Option.some Jvm.ClassFile.FieldType.boolean)) ∈ lw_all := lw_g (lw_at lw_m8 107 rfl) rfl
theorem q1852 : (Jvm.Cond.methodLink "SwapWhileModel" (129 : Nat) ({ cls := "SwapWhileModel", name := "touches", desc := "(II)Z" } : Jvm.MethodName)) ∈ lw_all := lw_g (lw_at lw_m8 108 rfl) rfl
theorem q1853 : (Jvm.Cond.privateMethod ({ cls := "SwapWhileModel", name := "touches", desc := "(II)Z" } : Jvm.MethodName)) ∈ lw_tbl := lw_at lw_m8 109 rfl
theorem q1854 : (Jvm.Cond.instanceMethod ({ cls := "SwapWhileModel", name := "touches", desc := "(II)Z" } : Jvm.MethodName)) ∈ lw_all := lw_g (lw_at lw_m8 110 rfl) rfl
theorem q1855 : (Jvm.Cond.code ({ cls := "SwapWhileModel", name := "touches", desc := "(II)Z" } : Jvm.MethodName) prog_24_method_15_code (9 : Nat) (Option.some Jvm.ClassFile.FieldType.boolean)) ∈ lw_all := lw_g (lw_at lw_m8 111 rfl) rfl
theorem q1856 : (Jvm.Cond.methodLink "SwapWhileModel" (122 : Nat) ({ cls := "SwapWhileModel$Code", name := "objects", desc := "()I" } : Jvm.MethodName)) ∈ lw_all := lw_g (lw_at lw_m8 112 rfl) rfl
theorem q1860 : (Jvm.Cond.methodLink "SwapWhileModel" (125 : Nat) ({ cls := "SwapWhileModel$Code", name := "isSame", desc := "(LSwapWhileModel$Code;)Z" } : Jvm.MethodName)) ∈ lw_all := lw_g (lw_at lw_m8 116 rfl) rfl
theorem q1869 : (Jvm.Cond.instanceMethod ({ cls := "SwapWhileModel", name := "start", desc := "(II)I" } : Jvm.MethodName)) ∈ lw_all := lw_g (lw_at lw_m8 125 rfl) rfl
theorem q1870 : (Jvm.Cond.selects "SwapWhileModel" ({ cls := "SwapWhileModel", name := "start", desc := "(II)I" } : Jvm.MethodName) ({ cls := "SwapWhileModel", name := "start", desc := "(II)I" } : Jvm.MethodName)) ∈ lw_all := lw_g (lw_at lw_m8 126 rfl) rfl
theorem q1871 : (Jvm.Cond.code ({ cls := "SwapWhileModel", name := "start", desc := "(II)I" } : Jvm.MethodName) prog_24_method_31_code (5 : Nat) (Option.some Jvm.ClassFile.FieldType.int)) ∈ lw_all := lw_g (lw_at lw_m8 127 rfl) rfl
theorem q1872 : (Jvm.Cond.methodLink "SwapWhileModel" (246 : Nat) ({ cls := "SwapWhileModel", name := "noThread", desc := "(I)Z" } : Jvm.MethodName)) ∈ lw_all := lw_g (lw_at lw_m8 128 rfl) rfl
theorem q1873 : (Jvm.Cond.privateMethod ({ cls := "SwapWhileModel", name := "noThread", desc := "(I)Z" } : Jvm.MethodName)) ∈ lw_tbl := lw_at lw_m8 129 rfl
theorem q1874 : (Jvm.Cond.instanceMethod ({ cls := "SwapWhileModel", name := "noThread", desc := "(I)Z" } : Jvm.MethodName)) ∈ lw_all := lw_g (lw_at lw_m8 130 rfl) rfl
theorem q1875 : (Jvm.Cond.code ({ cls := "SwapWhileModel", name := "noThread", desc := "(I)Z" } : Jvm.MethodName) prog_24_method_30_code (2 : Nat) (Option.some Jvm.ClassFile.FieldType.boolean)) ∈ lw_all := lw_g (lw_at lw_m8 131 rfl) rfl
theorem q1876 : (Jvm.Cond.methodLink "SwapWhileModel" (249 : Nat) ({ cls := "SwapWhileModel", name := "raises", desc := "(I)I" } : Jvm.MethodName)) ∈ lw_all := lw_g (lw_at lw_m8 132 rfl) rfl
theorem q1877 : (Jvm.Cond.privateMethod ({ cls := "SwapWhileModel", name := "raises", desc := "(I)I" } : Jvm.MethodName)) ∈ lw_tbl := lw_at lw_m8 133 rfl
theorem q1878 : (Jvm.Cond.instanceMethod ({ cls := "SwapWhileModel", name := "raises", desc := "(I)I" } : Jvm.MethodName)) ∈ lw_all := lw_g (lw_at lw_m8 134 rfl) rfl
theorem q1879 : (Jvm.Cond.code ({ cls := "SwapWhileModel", name := "raises", desc := "(I)I" } : Jvm.MethodName) prog_24_method_7_code (2 : Nat) (Option.some Jvm.ClassFile.FieldType.int)) ∈ lw_all := lw_g (lw_at lw_m8 135 rfl) rfl
theorem q1880 : (Jvm.Cond.methodLink "SwapWhileModel" (252 : Nat) ({ cls := "SwapWhileModel$Lane", name := "isOpen", desc := "()Z" } : Jvm.MethodName)) ∈ lw_all := lw_g (lw_at lw_m8 136 rfl) rfl
theorem q1884 : (Jvm.Cond.methodLink "SwapWhileModel" (255 : Nat) ({ cls := "SwapWhileModel$Lane", name := "ends", desc := "(C)V" } : Jvm.MethodName)) ∈ lw_all := lw_g (lw_at lw_m8 140 rfl) rfl
theorem q1889 : (Jvm.Cond.classLink "SwapWhileModel" (168 : Nat) "SwapWhileModel$Frame") ∈ lw_all := lw_g (lw_at lw_m8 145 rfl) rfl
theorem q1891 : (Jvm.Cond.methodLink "SwapWhileModel" (259 : Nat) ({ cls := "SwapWhileModel$Frame", name := "<init>", desc := "(IIII)V" } : Jvm.MethodName)) ∈ lw_all := lw_g (lw_at lw_m8 147 rfl) rfl
theorem q1896 : (Jvm.Cond.fieldLinkNest "SwapWhileModel" (167 : Nat) "SwapWhileModel$Frame" "version" "I" "SwapWhileModel") ∈ lw_tbl := lw_at lw_m8 152 rfl
theorem q1898 : (Jvm.Cond.fieldLinkNest "SwapWhileModel" (176 : Nat) "SwapWhileModel$Frame" "function" "I" "SwapWhileModel") ∈ lw_tbl := lw_at lw_m8 154 rfl
theorem q1899 : (Jvm.Cond.fieldLinkNest "SwapWhileModel" (179 : Nat) "SwapWhileModel$Frame" "place" "I" "SwapWhileModel") ∈ lw_tbl := lw_at lw_m8 155 rfl
theorem q1901 : (Jvm.Cond.fieldLinkNest "SwapWhileModel" (267 : Nat) "SwapWhileModel$Frame" "locals" "[I" "SwapWhileModel") ∈ lw_tbl := lw_at lw_m8 157 rfl
theorem q1903 : (Jvm.Cond.fieldLinkNest "SwapWhileModel" (270 : Nat) "SwapWhileModel$Frame" "result" "I" "SwapWhileModel") ∈ lw_tbl := lw_at lw_m8 159 rfl
theorem q1915 : (Jvm.Cond.methodLink "SwapWhileModel" (262 : Nat) ({ cls := "SwapWhileModel", name := "looks", desc := "()V" } : Jvm.MethodName)) ∈ lw_all := lw_g (lw_at lw_m8 171 rfl) rfl
theorem q1916 : (Jvm.Cond.privateMethod ({ cls := "SwapWhileModel", name := "looks", desc := "()V" } : Jvm.MethodName)) ∈ lw_tbl := lw_at lw_m8 172 rfl
theorem q1917 : (Jvm.Cond.instanceMethod ({ cls := "SwapWhileModel", name := "looks", desc := "()V" } : Jvm.MethodName)) ∈ lw_all := lw_g (lw_at lw_m8 173 rfl) rfl
theorem q1918 : (Jvm.Cond.code ({ cls := "SwapWhileModel", name := "looks", desc := "()V" } : Jvm.MethodName) prog_24_method_27_code (3 : Nat) (Option.none : Option Jvm.ClassFile.FieldType)) ∈ lw_all := lw_g (lw_at lw_m8 174 rfl) rfl
theorem q1919 : (Jvm.Cond.methodLink "SwapWhileModel" (223 : Nat) ({ cls := "java/util/ArrayList", name := "isEmpty", desc := "()Z" } : Jvm.MethodName)) ∈ lw_all := lw_g (lw_at lw_m8 175 rfl) rfl
theorem q1920 : (Jvm.Cond.classLink "SwapWhileModel" (154 : Nat) "SwapWhileModel$Change") ∈ lw_all := lw_g (lw_at lw_m8 176 rfl) rfl
theorem q1921 : (Jvm.Cond.methodLink "SwapWhileModel" (159 : Nat) ({ cls := "SwapWhileModel", name := "target", desc := "(LSwapWhileModel$Change;)I" } : Jvm.MethodName)) ∈ lw_all := lw_g (lw_at lw_m8 177 rfl) rfl
theorem q1922 : (Jvm.Cond.privateMethod ({ cls := "SwapWhileModel", name := "target", desc := "(LSwapWhileModel$Change;)I" } : Jvm.MethodName)) ∈ lw_tbl := lw_at lw_m8 178 rfl
theorem q1923 : (Jvm.Cond.instanceMethod ({ cls := "SwapWhileModel", name := "target", desc := "(LSwapWhileModel$Change;)I" } : Jvm.MethodName)) ∈ lw_all := lw_g (lw_at lw_m8 179 rfl) rfl
theorem q1924 : (Jvm.Cond.code ({ cls := "SwapWhileModel", name := "target", desc := "(LSwapWhileModel$Change;)I" } : Jvm.MethodName) prog_24_method_20_code (3 : Nat) (Option.some Jvm.ClassFile.FieldType.int)) ∈ lw_all := lw_g (lw_at lw_m8 180 rfl) rfl
theorem q1925 : (Jvm.Cond.methodLink "SwapWhileModel" (226 : Nat) ({ cls := "SwapWhileModel", name := "drops", desc := "(LSwapWhileModel$Change;)V" } : Jvm.MethodName)) ∈ lw_all := lw_g (lw_at lw_m8 181 rfl) rfl
theorem q1926 : (Jvm.Cond.privateMethod ({ cls := "SwapWhileModel", name := "drops", desc := "(LSwapWhileModel$Change;)V" } : Jvm.MethodName)) ∈ lw_tbl := lw_at lw_m8 182 rfl
theorem q1927 : (Jvm.Cond.instanceMethod ({ cls := "SwapWhileModel", name := "drops", desc := "(LSwapWhileModel$Change;)V" } : Jvm.MethodName)) ∈ lw_all := lw_g (lw_at lw_m8 183 rfl) rfl
theorem q1928 : (Jvm.Cond.code ({ cls := "SwapWhileModel", name := "drops", desc := "(LSwapWhileModel$Change;)V" } : Jvm.MethodName) prog_24_method_26_code (2 : Nat) (Option.none : Option Jvm.ClassFile.FieldType)) ∈ lw_all := lw_g (lw_at lw_m8 184 rfl) rfl
theorem q1929 : (Jvm.Cond.methodLink "SwapWhileModel" (220 : Nat) ({ cls := "java/util/ArrayList", name := "remove", desc := "(Ljava/lang/Object;)Z" } : Jvm.MethodName)) ∈ lw_all := lw_g (lw_at lw_m8 185 rfl) rfl
theorem q1933 : (Jvm.Cond.methodLink "SwapWhileModel" (230 : Nat) ({ cls := "SwapWhileModel", name := "against", desc := "(LSwapWhileModel$Change;)I" } : Jvm.MethodName)) ∈ lw_all := lw_g (lw_at lw_m8 189 rfl) rfl
theorem q1934 : (Jvm.Cond.privateMethod ({ cls := "SwapWhileModel", name := "against", desc := "(LSwapWhileModel$Change;)I" } : Jvm.MethodName)) ∈ lw_tbl := lw_at lw_m8 190 rfl
theorem q1935 : (Jvm.Cond.instanceMethod ({ cls := "SwapWhileModel", name := "against", desc := "(LSwapWhileModel$Change;)I" } : Jvm.MethodName)) ∈ lw_all := lw_g (lw_at lw_m8 191 rfl) rfl
theorem q1936 : (Jvm.Cond.code ({ cls := "SwapWhileModel", name := "against", desc := "(LSwapWhileModel$Change;)I" } : Jvm.MethodName) prog_24_method_23_code (7 : Nat) (Option.some Jvm.ClassFile.FieldType.int)) ∈ lw_all := lw_g (lw_at lw_m8 192 rfl) rfl
theorem q1937 : (Jvm.Cond.methodLink "SwapWhileModel" (186 : Nat) ({ cls := "java/util/ArrayList", name := "iterator", desc := "()Ljava/util/Iterator;" } : Jvm.MethodName)) ∈ lw_all := lw_g (lw_at lw_m8 193 rfl) rfl
theorem q1938 : (Jvm.Cond.interfaceEntry "SwapWhileModel" (190 : Nat)) ∈ lw_tbl := lw_at lw_m8 194 rfl
theorem q1939 : (Jvm.Cond.methodLink "SwapWhileModel" (190 : Nat) ({ cls := "java/util/Iterator", name := "hasNext", desc := "()Z" } : Jvm.MethodName)) ∈ lw_all := lw_g (lw_at lw_m8 195 rfl) rfl
theorem q1940 : (Jvm.Cond.interfaceEntry "SwapWhileModel" (196 : Nat)) ∈ lw_tbl := lw_at lw_m8 196 rfl
theorem q1941 : (Jvm.Cond.methodLink "SwapWhileModel" (196 : Nat) ({ cls := "java/util/Iterator", name := "next", desc := "()Ljava/lang/Object;" } : Jvm.MethodName)) ∈ lw_all := lw_g (lw_at lw_m8 197 rfl) rfl
theorem q1942 : (Jvm.Cond.methodLink "SwapWhileModel" (203 : Nat) ({ cls := "SwapWhileModel", name := "standsAgainst", desc := "(LSwapWhileModel$Frame;LSwapWhileModel$Change;)Z" } : Jvm.MethodName)) ∈ lw_all := lw_g (lw_at lw_m8 198 rfl) rfl
theorem q1943 : (Jvm.Cond.privateMethod ({ cls := "SwapWhileModel", name := "standsAgainst", desc := "(LSwapWhileModel$Frame;LSwapWhileModel$Change;)Z" } : Jvm.MethodName)) ∈ lw_tbl := lw_at lw_m8 199 rfl
theorem q1944 : (Jvm.Cond.instanceMethod ({ cls := "SwapWhileModel", name := "standsAgainst", desc := "(LSwapWhileModel$Frame;LSwapWhileModel$Change;)Z" } : Jvm.MethodName)) ∈ lw_all := lw_g (lw_at lw_m8 200 rfl) rfl
theorem q1945 : (Jvm.Cond.code ({ cls := "SwapWhileModel", name := "standsAgainst", desc := "(LSwapWhileModel$Frame;LSwapWhileModel$Change;)Z" } : Jvm.MethodName) prog_24_method_22_code (4 : Nat) (Option.some Jvm.ClassFile.FieldType.boolean)) ∈ lw_all := lw_g (lw_at lw_m8 201 rfl) rfl
theorem q1946 : (Jvm.Cond.methodLink "SwapWhileModel" (170 : Nat) ({ cls := "java/lang/Math", name := "min", desc := "(II)I" } : Jvm.MethodName)) ∈ lw_all := lw_g (lw_at lw_m8 202 rfl) rfl
theorem q1947 : (Jvm.Cond.methodLink "SwapWhileModel" (182 : Nat) ({ cls := "SwapWhileModel", name := "mapped", desc := "(III)I" } : Jvm.MethodName)) ∈ lw_all := lw_g (lw_at lw_m8 203 rfl) rfl
theorem q1948 : (Jvm.Cond.privateMethod ({ cls := "SwapWhileModel", name := "mapped", desc := "(III)I" } : Jvm.MethodName)) ∈ lw_tbl := lw_at lw_m8 204 rfl
theorem q1949 : (Jvm.Cond.instanceMethod ({ cls := "SwapWhileModel", name := "mapped", desc := "(III)I" } : Jvm.MethodName)) ∈ lw_all := lw_g (lw_at lw_m8 205 rfl) rfl
theorem q1950 : (Jvm.Cond.code ({ cls := "SwapWhileModel", name := "mapped", desc := "(III)I" } : Jvm.MethodName) prog_24_method_21_code (5 : Nat) (Option.some Jvm.ClassFile.FieldType.int)) ∈ lw_all := lw_g (lw_at lw_m8 206 rfl) rfl
theorem q1951 : (Jvm.Cond.methodLink "SwapWhileModel" (233 : Nat) ({ cls := "SwapWhileModel", name := "takesEffect", desc := "(LSwapWhileModel$Change;)V" } : Jvm.MethodName)) ∈ lw_all := lw_g (lw_at lw_m8 207 rfl) rfl
theorem q1952 : (Jvm.Cond.privateMethod ({ cls := "SwapWhileModel", name := "takesEffect", desc := "(LSwapWhileModel$Change;)V" } : Jvm.MethodName)) ∈ lw_tbl := lw_at lw_m8 208 rfl
theorem q1953 : (Jvm.Cond.instanceMethod ({ cls := "SwapWhileModel", name := "takesEffect", desc := "(LSwapWhileModel$Change;)V" } : Jvm.MethodName)) ∈ lw_all := lw_g (lw_at lw_m8 209 rfl) rfl
theorem q1954 : (Jvm.Cond.code ({ cls := "SwapWhileModel", name := "takesEffect", desc := "(LSwapWhileModel$Change;)V" } : Jvm.MethodName) prog_24_method_25_code (7 : Nat) (Option.none : Option Jvm.ClassFile.FieldType)) ∈ lw_all := lw_g (lw_at lw_m8 210 rfl) rfl
theorem q1955 : (Jvm.Cond.methodLink "SwapWhileModel" (207 : Nat) ({ cls := "SwapWhileModel", name := "moves", desc := "(LSwapWhileModel$Frame;I)V" } : Jvm.MethodName)) ∈ lw_all := lw_g (lw_at lw_m8 211 rfl) rfl
theorem q1956 : (Jvm.Cond.privateMethod ({ cls := "SwapWhileModel", name := "moves", desc := "(LSwapWhileModel$Frame;I)V" } : Jvm.MethodName)) ∈ lw_tbl := lw_at lw_m8 212 rfl
theorem q1957 : (Jvm.Cond.instanceMethod ({ cls := "SwapWhileModel", name := "moves", desc := "(LSwapWhileModel$Frame;I)V" } : Jvm.MethodName)) ∈ lw_all := lw_g (lw_at lw_m8 213 rfl) rfl
theorem q1958 : (Jvm.Cond.code ({ cls := "SwapWhileModel", name := "moves", desc := "(LSwapWhileModel$Frame;I)V" } : Jvm.MethodName) prog_24_method_24_code (4 : Nat) (Option.none : Option Jvm.ClassFile.FieldType)) ∈ lw_all := lw_g (lw_at lw_m8 214 rfl) rfl
theorem q1959 : (Jvm.Cond.classLink "SwapWhileModel" (138 : Nat) "SwapWhileModel$Thing") ∈ lw_all := lw_g (lw_at lw_m8 215 rfl) rfl
theorem q1960 : (Jvm.Cond.methodLink "SwapWhileModel" (214 : Nat) ({ cls := "SwapWhileModel", name := "carry", desc := "(LSwapWhileModel$Thing;I)V" } : Jvm.MethodName)) ∈ lw_all := lw_g (lw_at lw_m8 216 rfl) rfl
theorem q1961 : (Jvm.Cond.privateMethod ({ cls := "SwapWhileModel", name := "carry", desc := "(LSwapWhileModel$Thing;I)V" } : Jvm.MethodName)) ∈ lw_tbl := lw_at lw_m8 217 rfl
theorem q1962 : (Jvm.Cond.instanceMethod ({ cls := "SwapWhileModel", name := "carry", desc := "(LSwapWhileModel$Thing;I)V" } : Jvm.MethodName)) ∈ lw_all := lw_g (lw_at lw_m8 218 rfl) rfl
theorem q1963 : (Jvm.Cond.code ({ cls := "SwapWhileModel", name := "carry", desc := "(LSwapWhileModel$Thing;I)V" } : Jvm.MethodName) prog_24_method_19_code (3 : Nat) (Option.none : Option Jvm.ClassFile.FieldType)) ∈ lw_all := lw_g (lw_at lw_m8 219 rfl) rfl
theorem q1964 : (Jvm.Cond.methodLink "SwapWhileModel" (146 : Nat) ({ cls := "SwapWhileModel", name := "carry", desc := "(I[III)[I" } : Jvm.MethodName)) ∈ lw_all := lw_g (lw_at lw_m8 220 rfl) rfl
theorem q1965 : (Jvm.Cond.privateMethod ({ cls := "SwapWhileModel", name := "carry", desc := "(I[III)[I" } : Jvm.MethodName)) ∈ lw_tbl := lw_at lw_m8 221 rfl
theorem q1966 : (Jvm.Cond.instanceMethod ({ cls := "SwapWhileModel", name := "carry", desc := "(I[III)[I" } : Jvm.MethodName)) ∈ lw_all := lw_g (lw_at lw_m8 222 rfl) rfl
theorem q1967 : (Jvm.Cond.code ({ cls := "SwapWhileModel", name := "carry", desc := "(I[III)[I" } : Jvm.MethodName) prog_24_method_18_code (12 : Nat) (Option.some (Jvm.ClassFile.FieldType.array Jvm.ClassFile.FieldType.int))) ∈ lw_all := lw_g (lw_at lw_m8 223 rfl) rfl
theorem q1968 : (Jvm.Cond.methodLink "SwapWhileModel" (133 : Nat) ({ cls := "SwapWhileModel", name := "carried", desc := "([III)I" } : Jvm.MethodName)) ∈ lw_all := lw_g (lw_at lw_m8 224 rfl) rfl
theorem q1969 : (Jvm.Cond.static ({ cls := "SwapWhileModel", name := "carried", desc := "([III)I" } : Jvm.MethodName)) ∈ lw_all := lw_g (lw_at lw_m8 225 rfl) rfl
theorem q1970 : (Jvm.Cond.code ({ cls := "SwapWhileModel", name := "carried", desc := "([III)I" } : Jvm.MethodName) prog_24_method_17_code (3 : Nat) (Option.some Jvm.ClassFile.FieldType.int)) ∈ lw_all := lw_g (lw_at lw_m8 226 rfl) rfl
theorem q1972 : (Jvm.Cond.instanceMethod ({ cls := "SwapWhileModel", name := "step", desc := "(II)I" } : Jvm.MethodName)) ∈ lw_all := lw_g (lw_at lw_m8 228 rfl) rfl
theorem q1973 : (Jvm.Cond.selects "SwapWhileModel" ({ cls := "SwapWhileModel", name := "step", desc := "(II)I" } : Jvm.MethodName) ({ cls := "SwapWhileModel", name := "step", desc := "(II)I" } : Jvm.MethodName)) ∈ lw_all := lw_g (lw_at lw_m8 229 rfl) rfl
theorem q1974 : (Jvm.Cond.code ({ cls := "SwapWhileModel", name := "step", desc := "(II)I" } : Jvm.MethodName) prog_24_method_39_code (4 : Nat) (Option.some Jvm.ClassFile.FieldType.int)) ∈ lw_all := lw_g (lw_at lw_m8 230 rfl) rfl
theorem q1975 : (Jvm.Cond.methodLink "SwapWhileModel" (331 : Nat) ({ cls := "SwapWhileModel", name := "oneStep", desc := "(LSwapWhileModel$Lane;)V" } : Jvm.MethodName)) ∈ lw_all := lw_g (lw_at lw_m8 231 rfl) rfl
theorem q1976 : (Jvm.Cond.privateMethod ({ cls := "SwapWhileModel", name := "oneStep", desc := "(LSwapWhileModel$Lane;)V" } : Jvm.MethodName)) ∈ lw_tbl := lw_at lw_m8 232 rfl
theorem q1977 : (Jvm.Cond.instanceMethod ({ cls := "SwapWhileModel", name := "oneStep", desc := "(LSwapWhileModel$Lane;)V" } : Jvm.MethodName)) ∈ lw_all := lw_g (lw_at lw_m8 233 rfl) rfl
theorem q1978 : (Jvm.Cond.code ({ cls := "SwapWhileModel", name := "oneStep", desc := "(LSwapWhileModel$Lane;)V" } : Jvm.MethodName) prog_24_method_38_code (4 : Nat) (Option.none : Option Jvm.ClassFile.FieldType)) ∈ lw_all := lw_g (lw_at lw_m8 234 rfl) rfl
theorem q1979 : (Jvm.Cond.methodLink "SwapWhileModel" (325 : Nat) ({ cls := "SwapWhileModel", name := "does", desc := "(LSwapWhileModel$Lane;LSwapWhileModel$Frame;LSwapWhileModel$Code;)V" } : Jvm.MethodName)) ∈ lw_all := lw_g (lw_at lw_m8 235 rfl) rfl
theorem q1980 : (Jvm.Cond.privateMethod ({ cls := "SwapWhileModel", name := "does", desc := "(LSwapWhileModel$Lane;LSwapWhileModel$Frame;LSwapWhileModel$Code;)V" } : Jvm.MethodName)) ∈ lw_tbl := lw_at lw_m8 236 rfl
theorem q1981 : (Jvm.Cond.instanceMethod ({ cls := "SwapWhileModel", name := "does", desc := "(LSwapWhileModel$Lane;LSwapWhileModel$Frame;LSwapWhileModel$Code;)V" } : Jvm.MethodName)) ∈ lw_all := lw_g (lw_at lw_m8 237 rfl) rfl
theorem q1982 : (Jvm.Cond.code ({ cls := "SwapWhileModel", name := "does", desc := "(LSwapWhileModel$Lane;LSwapWhileModel$Frame;LSwapWhileModel$Code;)V" } : Jvm.MethodName) prog_24_method_37_code (5 : Nat) (Option.none : Option Jvm.ClassFile.FieldType)) ∈ lw_all := lw_g (lw_at lw_m8 238 rfl) rfl
theorem q1983 : (Jvm.Cond.methodLink "SwapWhileModel" (306 : Nat) ({ cls := "SwapWhileModel", name := "makesNew", desc := "(LSwapWhileModel$Lane;LSwapWhileModel$Frame;LSwapWhileModel$Code;)V" } : Jvm.MethodName)) ∈ lw_all := lw_g (lw_at lw_m8 239 rfl) rfl
theorem q1984 : (Jvm.Cond.privateMethod ({ cls := "SwapWhileModel", name := "makesNew", desc := "(LSwapWhileModel$Lane;LSwapWhileModel$Frame;LSwapWhileModel$Code;)V" } : Jvm.MethodName)) ∈ lw_tbl := lw_at lw_m9 0 rfl
theorem q1985 : (Jvm.Cond.instanceMethod ({ cls := "SwapWhileModel", name := "makesNew", desc := "(LSwapWhileModel$Lane;LSwapWhileModel$Frame;LSwapWhileModel$Code;)V" } : Jvm.MethodName)) ∈ lw_all := lw_g (lw_at lw_m9 1 rfl) rfl
theorem q1986 : (Jvm.Cond.code ({ cls := "SwapWhileModel", name := "makesNew", desc := "(LSwapWhileModel$Lane;LSwapWhileModel$Frame;LSwapWhileModel$Code;)V" } : Jvm.MethodName) prog_24_method_34_code (4 : Nat) (Option.none : Option Jvm.ClassFile.FieldType)) ∈ lw_all := lw_g (lw_at lw_m9 2 rfl) rfl
theorem q1988 : (Jvm.Cond.methodLink "SwapWhileModel" (282 : Nat) ({ cls := "SwapWhileModel$Thing", name := "<init>", desc := "(II[I)V" } : Jvm.MethodName)) ∈ lw_all := lw_g (lw_at lw_m9 4 rfl) rfl
theorem q1993 : (Jvm.Cond.fieldLinkNest "SwapWhileModel" (137 : Nat) "SwapWhileModel$Thing" "kind" "I" "SwapWhileModel") ∈ lw_tbl := lw_at lw_m9 9 rfl
theorem q1995 : (Jvm.Cond.fieldLinkNest "SwapWhileModel" (143 : Nat) "SwapWhileModel$Thing" "version" "I" "SwapWhileModel") ∈ lw_tbl := lw_at lw_m9 11 rfl
theorem q1997 : (Jvm.Cond.fieldLinkNest "SwapWhileModel" (142 : Nat) "SwapWhileModel$Thing" "fields" "[I" "SwapWhileModel") ∈ lw_tbl := lw_at lw_m9 13 rfl
theorem q2005 : (Jvm.Cond.methodLink "SwapWhileModel" (310 : Nat) ({ cls := "SwapWhileModel", name := "looksInto", desc := "(LSwapWhileModel$Lane;LSwapWhileModel$Frame;LSwapWhileModel$Code;)V" } : Jvm.MethodName)) ∈ lw_all := lw_g (lw_at lw_m9 21 rfl) rfl
theorem q2006 : (Jvm.Cond.privateMethod ({ cls := "SwapWhileModel", name := "looksInto", desc := "(LSwapWhileModel$Lane;LSwapWhileModel$Frame;LSwapWhileModel$Code;)V" } : Jvm.MethodName)) ∈ lw_tbl := lw_at lw_m9 22 rfl
theorem q2007 : (Jvm.Cond.instanceMethod ({ cls := "SwapWhileModel", name := "looksInto", desc := "(LSwapWhileModel$Lane;LSwapWhileModel$Frame;LSwapWhileModel$Code;)V" } : Jvm.MethodName)) ∈ lw_all := lw_g (lw_at lw_m9 23 rfl) rfl
theorem q2008 : (Jvm.Cond.code ({ cls := "SwapWhileModel", name := "looksInto", desc := "(LSwapWhileModel$Lane;LSwapWhileModel$Frame;LSwapWhileModel$Code;)V" } : Jvm.MethodName) prog_24_method_35_code (8 : Nat) (Option.none : Option Jvm.ClassFile.FieldType)) ∈ lw_all := lw_g (lw_at lw_m9 24 rfl) rfl
theorem q2009 : (Jvm.Cond.methodLink "SwapWhileModel" (313 : Nat) ({ cls := "SwapWhileModel", name := "calls", desc := "(LSwapWhileModel$Lane;LSwapWhileModel$Frame;ILSwapWhileModel$Code;)V" } : Jvm.MethodName)) ∈ lw_all := lw_g (lw_at lw_m9 25 rfl) rfl
theorem q2010 : (Jvm.Cond.privateMethod ({ cls := "SwapWhileModel", name := "calls", desc := "(LSwapWhileModel$Lane;LSwapWhileModel$Frame;ILSwapWhileModel$Code;)V" } : Jvm.MethodName)) ∈ lw_tbl := lw_at lw_m9 26 rfl
theorem q2011 : (Jvm.Cond.instanceMethod ({ cls := "SwapWhileModel", name := "calls", desc := "(LSwapWhileModel$Lane;LSwapWhileModel$Frame;ILSwapWhileModel$Code;)V" } : Jvm.MethodName)) ∈ lw_all := lw_g (lw_at lw_m9 27 rfl) rfl
theorem q2012 : (Jvm.Cond.code ({ cls := "SwapWhileModel", name := "calls", desc := "(LSwapWhileModel$Lane;LSwapWhileModel$Frame;ILSwapWhileModel$Code;)V" } : Jvm.MethodName) prog_24_method_33_code (5 : Nat) (Option.none : Option Jvm.ClassFile.FieldType)) ∈ lw_all := lw_g (lw_at lw_m9 28 rfl) rfl
theorem q2013 : (Jvm.Cond.methodLink "SwapWhileModel" (317 : Nat) ({ cls := "SwapWhileModel", name := "returns", desc := "(LSwapWhileModel$Lane;I)V" } : Jvm.MethodName)) ∈ lw_all := lw_g (lw_at lw_m9 29 rfl) rfl
theorem q2014 : (Jvm.Cond.privateMethod ({ cls := "SwapWhileModel", name := "returns", desc := "(LSwapWhileModel$Lane;I)V" } : Jvm.MethodName)) ∈ lw_tbl := lw_at lw_m9 30 rfl
theorem q2015 : (Jvm.Cond.instanceMethod ({ cls := "SwapWhileModel", name := "returns", desc := "(LSwapWhileModel$Lane;I)V" } : Jvm.MethodName)) ∈ lw_all := lw_g (lw_at lw_m9 31 rfl) rfl
theorem q2016 : (Jvm.Cond.code ({ cls := "SwapWhileModel", name := "returns", desc := "(LSwapWhileModel$Lane;I)V" } : Jvm.MethodName) prog_24_method_32_code (4 : Nat) (Option.none : Option Jvm.ClassFile.FieldType)) ∈ lw_all := lw_g (lw_at lw_m9 32 rfl) rfl
theorem q2017 : (Jvm.Cond.methodLink "SwapWhileModel" (265 : Nat) ({ cls := "java/util/ArrayList", name := "remove", desc := "(I)Ljava/lang/Object;" } : Jvm.MethodName)) ∈ lw_all := lw_g (lw_at lw_m9 33 rfl) rfl
theorem q2018 : (Jvm.Cond.methodLink "SwapWhileModel" (321 : Nat) ({ cls := "SwapWhileModel", name := "puts", desc := "(LSwapWhileModel$Frame;I)V" } : Jvm.MethodName)) ∈ lw_all := lw_g (lw_at lw_m9 34 rfl) rfl
theorem q2019 : (Jvm.Cond.privateMethod ({ cls := "SwapWhileModel", name := "puts", desc := "(LSwapWhileModel$Frame;I)V" } : Jvm.MethodName)) ∈ lw_tbl := lw_at lw_m9 35 rfl
theorem q2020 : (Jvm.Cond.instanceMethod ({ cls := "SwapWhileModel", name := "puts", desc := "(LSwapWhileModel$Frame;I)V" } : Jvm.MethodName)) ∈ lw_all := lw_g (lw_at lw_m9 36 rfl) rfl
theorem q2021 : (Jvm.Cond.code ({ cls := "SwapWhileModel", name := "puts", desc := "(LSwapWhileModel$Frame;I)V" } : Jvm.MethodName) prog_24_method_36_code (3 : Nat) (Option.none : Option Jvm.ClassFile.FieldType)) ∈ lw_all := lw_g (lw_at lw_m9 37 rfl) rfl
theorem q2022 : (Jvm.Cond.methodLink "SwapWhileModel" (287 : Nat) ({ cls := "java/lang/Integer", name := "valueOf", desc := "(I)Ljava/lang/Integer;" } : Jvm.MethodName)) ∈ lw_all := lw_g (lw_at lw_m9 38 rfl) rfl
theorem q2041 : (Jvm.Cond.methodLink "SwapWhileModel" (299 : Nat) ({ cls := "SwapWhileModel", name := "asks", desc := "(CZZI)LSwapWhileModel$Change;" } : Jvm.MethodName)) ∈ lw_all := lw_g (lw_at lw_m9 57 rfl) rfl
theorem q2042 : (Jvm.Cond.privateMethod ({ cls := "SwapWhileModel", name := "asks", desc := "(CZZI)LSwapWhileModel$Change;" } : Jvm.MethodName)) ∈ lw_tbl := lw_at lw_m9 58 rfl
theorem q2043 : (Jvm.Cond.instanceMethod ({ cls := "SwapWhileModel", name := "asks", desc := "(CZZI)LSwapWhileModel$Change;" } : Jvm.MethodName)) ∈ lw_all := lw_g (lw_at lw_m9 59 rfl) rfl
theorem q2044 : (Jvm.Cond.code ({ cls := "SwapWhileModel", name := "asks", desc := "(CZZI)LSwapWhileModel$Change;" } : Jvm.MethodName) prog_24_method_29_code (6 : Nat) (Option.some (Jvm.ClassFile.FieldType.object "SwapWhileModel$Change"))) ∈ lw_all := lw_g (lw_at lw_m9 60 rfl) rfl
theorem q2046 : (Jvm.Cond.methodLink "SwapWhileModel" (243 : Nat) ({ cls := "SwapWhileModel$Change", name := "<init>", desc := "(ICZZJ)V" } : Jvm.MethodName)) ∈ lw_all := lw_g (lw_at lw_m9 62 rfl) rfl
theorem q2051 : (Jvm.Cond.fieldLinkNest "SwapWhileModel" (338 : Nat) "SwapWhileModel$Change" "number" "I" "SwapWhileModel") ∈ lw_tbl := lw_at lw_m9 67 rfl
theorem q2053 : (Jvm.Cond.fieldLinkNest "SwapWhileModel" (163 : Nat) "SwapWhileModel$Change" "mode" "C" "SwapWhileModel") ∈ lw_tbl := lw_at lw_m9 69 rfl
theorem q2055 : (Jvm.Cond.fieldLinkNest "SwapWhileModel" (153 : Nat) "SwapWhileModel$Change" "isBack" "Z" "SwapWhileModel") ∈ lw_tbl := lw_at lw_m9 71 rfl
theorem q2057 : (Jvm.Cond.fieldLinkNest "SwapWhileModel" (211 : Nat) "SwapWhileModel$Change" "isAtOnce" "Z" "SwapWhileModel") ∈ lw_tbl := lw_at lw_m9 73 rfl
theorem q2059 : (Jvm.Cond.fieldLinkNest "SwapWhileModel" (240 : Nat) "SwapWhileModel$Change" "until" "J" "SwapWhileModel") ∈ lw_tbl := lw_at lw_m9 75 rfl
theorem q2061 : (Jvm.Cond.fieldLinkNest "SwapWhileModel" (217 : Nat) "SwapWhileModel$Change" "state" "C" "SwapWhileModel") ∈ lw_tbl := lw_at lw_m9 77 rfl
theorem q2075 : (Jvm.Cond.methodLink "SwapWhileModel" (303 : Nat) ({ cls := "java/util/ArrayList", name := "add", desc := "(ILjava/lang/Object;)V" } : Jvm.MethodName)) ∈ lw_all := lw_g (lw_at lw_m9 91 rfl) rfl
theorem q2076 : (Jvm.Cond.methodLink "SwapWhileModel" (328 : Nat) ({ cls := "SwapWhileModel", name := "givesUp", desc := "()V" } : Jvm.MethodName)) ∈ lw_all := lw_g (lw_at lw_m9 92 rfl) rfl
theorem q2077 : (Jvm.Cond.privateMethod ({ cls := "SwapWhileModel", name := "givesUp", desc := "()V" } : Jvm.MethodName)) ∈ lw_tbl := lw_at lw_m9 93 rfl
theorem q2078 : (Jvm.Cond.instanceMethod ({ cls := "SwapWhileModel", name := "givesUp", desc := "()V" } : Jvm.MethodName)) ∈ lw_all := lw_g (lw_at lw_m9 94 rfl) rfl
theorem q2079 : (Jvm.Cond.code ({ cls := "SwapWhileModel", name := "givesUp", desc := "()V" } : Jvm.MethodName) prog_24_method_28_code (4 : Nat) (Option.none : Option Jvm.ClassFile.FieldType)) ∈ lw_all := lw_g (lw_at lw_m9 95 rfl) rfl
theorem q2081 : (Jvm.Cond.instanceMethod ({ cls := "SwapWhileModel", name := "release", desc := "(I)I" } : Jvm.MethodName)) ∈ lw_all := lw_g (lw_at lw_m9 97 rfl) rfl
theorem q2082 : (Jvm.Cond.selects "SwapWhileModel" ({ cls := "SwapWhileModel", name := "release", desc := "(I)I" } : Jvm.MethodName) ({ cls := "SwapWhileModel", name := "release", desc := "(I)I" } : Jvm.MethodName)) ∈ lw_all := lw_g (lw_at lw_m9 98 rfl) rfl
theorem q2083 : (Jvm.Cond.code ({ cls := "SwapWhileModel", name := "release", desc := "(I)I" } : Jvm.MethodName) prog_24_method_40_code (3 : Nat) (Option.some Jvm.ClassFile.FieldType.int)) ∈ lw_all := lw_g (lw_at lw_m9 99 rfl) rfl
theorem q2085 : (Jvm.Cond.instanceMethod ({ cls := "SwapWhileModel", name := "state", desc := "(I)C" } : Jvm.MethodName)) ∈ lw_all := lw_g (lw_at lw_m9 101 rfl) rfl
theorem q2086 : (Jvm.Cond.selects "SwapWhileModel" ({ cls := "SwapWhileModel", name := "state", desc := "(I)C" } : Jvm.MethodName) ({ cls := "SwapWhileModel", name := "state", desc := "(I)C" } : Jvm.MethodName)) ∈ lw_all := lw_g (lw_at lw_m9 102 rfl) rfl
theorem q2087 : (Jvm.Cond.code ({ cls := "SwapWhileModel", name := "state", desc := "(I)C" } : Jvm.MethodName) prog_24_method_41_code (2 : Nat) (Option.some Jvm.ClassFile.FieldType.char)) ∈ lw_all := lw_g (lw_at lw_m9 103 rfl) rfl
theorem q2089 : (Jvm.Cond.instanceMethod ({ cls := "SwapWhileModel", name := "frames", desc := "(I)I" } : Jvm.MethodName)) ∈ lw_all := lw_g (lw_at lw_m9 105 rfl) rfl
theorem q2090 : (Jvm.Cond.selects "SwapWhileModel" ({ cls := "SwapWhileModel", name := "frames", desc := "(I)I" } : Jvm.MethodName) ({ cls := "SwapWhileModel", name := "frames", desc := "(I)I" } : Jvm.MethodName)) ∈ lw_all := lw_g (lw_at lw_m9 106 rfl) rfl
theorem q2091 : (Jvm.Cond.code ({ cls := "SwapWhileModel", name := "frames", desc := "(I)I" } : Jvm.MethodName) prog_24_method_42_code (2 : Nat) (Option.some Jvm.ClassFile.FieldType.int)) ∈ lw_all := lw_g (lw_at lw_m9 107 rfl) rfl
theorem q2093 : (Jvm.Cond.instanceMethod ({ cls := "SwapWhileModel", name := "at", desc := "(II)I" } : Jvm.MethodName)) ∈ lw_all := lw_g (lw_at lw_m9 109 rfl) rfl
theorem q2094 : (Jvm.Cond.selects "SwapWhileModel" ({ cls := "SwapWhileModel", name := "at", desc := "(II)I" } : Jvm.MethodName) ({ cls := "SwapWhileModel", name := "at", desc := "(II)I" } : Jvm.MethodName)) ∈ lw_all := lw_g (lw_at lw_m9 110 rfl) rfl
theorem q2095 : (Jvm.Cond.code ({ cls := "SwapWhileModel", name := "at", desc := "(II)I" } : Jvm.MethodName) prog_24_method_44_code (4 : Nat) (Option.some Jvm.ClassFile.FieldType.int)) ∈ lw_all := lw_g (lw_at lw_m9 111 rfl) rfl
theorem q2096 : (Jvm.Cond.methodLink "SwapWhileModel" (335 : Nat) ({ cls := "SwapWhileModel", name := "noFrame", desc := "(II)Z" } : Jvm.MethodName)) ∈ lw_all := lw_g (lw_at lw_m9 112 rfl) rfl
theorem q2097 : (Jvm.Cond.privateMethod ({ cls := "SwapWhileModel", name := "noFrame", desc := "(II)Z" } : Jvm.MethodName)) ∈ lw_tbl := lw_at lw_m9 113 rfl
theorem q2098 : (Jvm.Cond.instanceMethod ({ cls := "SwapWhileModel", name := "noFrame", desc := "(II)Z" } : Jvm.MethodName)) ∈ lw_all := lw_g (lw_at lw_m9 114 rfl) rfl
theorem q2099 : (Jvm.Cond.code ({ cls := "SwapWhileModel", name := "noFrame", desc := "(II)Z" } : Jvm.MethodName) prog_24_method_43_code (3 : Nat) (Option.some Jvm.ClassFile.FieldType.boolean)) ∈ lw_all := lw_g (lw_at lw_m9 115 rfl) rfl
theorem q2101 : (Jvm.Cond.instanceMethod ({ cls := "SwapWhileModel", name := "local", desc := "(III)I" } : Jvm.MethodName)) ∈ lw_all := lw_g (lw_at lw_m9 117 rfl) rfl
theorem q2102 : (Jvm.Cond.selects "SwapWhileModel" ({ cls := "SwapWhileModel", name := "local", desc := "(III)I" } : Jvm.MethodName) ({ cls := "SwapWhileModel", name := "local", desc := "(III)I" } : Jvm.MethodName)) ∈ lw_all := lw_g (lw_at lw_m9 118 rfl) rfl
theorem q2103 : (Jvm.Cond.code ({ cls := "SwapWhileModel", name := "local", desc := "(III)I" } : Jvm.MethodName) prog_24_method_45_code (4 : Nat) (Option.some Jvm.ClassFile.FieldType.int)) ∈ lw_all := lw_g (lw_at lw_m9 119 rfl) rfl
theorem q2105 : (Jvm.Cond.instanceMethod ({ cls := "SwapWhileModel", name := "change", desc := "(CZZI)I" } : Jvm.MethodName)) ∈ lw_all := lw_g (lw_at lw_m9 121 rfl) rfl
theorem q2106 : (Jvm.Cond.selects "SwapWhileModel" ({ cls := "SwapWhileModel", name := "change", desc := "(CZZI)I" } : Jvm.MethodName) ({ cls := "SwapWhileModel", name := "change", desc := "(CZZI)I" } : Jvm.MethodName)) ∈ lw_all := lw_g (lw_at lw_m9 122 rfl) rfl
theorem q2107 : (Jvm.Cond.code ({ cls := "SwapWhileModel", name := "change", desc := "(CZZI)I" } : Jvm.MethodName) prog_24_method_46_code (7 : Nat) (Option.some Jvm.ClassFile.FieldType.int)) ∈ lw_all := lw_g (lw_at lw_m9 123 rfl) rfl
theorem q2109 : (Jvm.Cond.instanceMethod ({ cls := "SwapWhileModel", name := "changed", desc := "(I)C" } : Jvm.MethodName)) ∈ lw_all := lw_g (lw_at lw_m9 125 rfl) rfl
theorem q2110 : (Jvm.Cond.selects "SwapWhileModel" ({ cls := "SwapWhileModel", name := "changed", desc := "(I)C" } : Jvm.MethodName) ({ cls := "SwapWhileModel", name := "changed", desc := "(I)C" } : Jvm.MethodName)) ∈ lw_all := lw_g (lw_at lw_m9 126 rfl) rfl
theorem q2111 : (Jvm.Cond.code ({ cls := "SwapWhileModel", name := "changed", desc := "(I)C" } : Jvm.MethodName) prog_24_method_47_code (2 : Nat) (Option.some Jvm.ClassFile.FieldType.char)) ∈ lw_all := lw_g (lw_at lw_m9 127 rfl) rfl
theorem q2113 : (Jvm.Cond.instanceMethod ({ cls := "SwapWhileModel", name := "queued", desc := "()I" } : Jvm.MethodName)) ∈ lw_all := lw_g (lw_at lw_m9 129 rfl) rfl
theorem q2114 : (Jvm.Cond.selects "SwapWhileModel" ({ cls := "SwapWhileModel", name := "queued", desc := "()I" } : Jvm.MethodName) ({ cls := "SwapWhileModel", name := "queued", desc := "()I" } : Jvm.MethodName)) ∈ lw_all := lw_g (lw_at lw_m9 130 rfl) rfl
theorem q2115 : (Jvm.Cond.code ({ cls := "SwapWhileModel", name := "queued", desc := "()I" } : Jvm.MethodName) prog_24_method_48_code (1 : Nat) (Option.some Jvm.ClassFile.FieldType.int)) ∈ lw_all := lw_g (lw_at lw_m9 131 rfl) rfl
theorem q2117 : (Jvm.Cond.instanceMethod ({ cls := "SwapWhileModel", name := "present", desc := "()I" } : Jvm.MethodName)) ∈ lw_all := lw_g (lw_at lw_m9 133 rfl) rfl
theorem q2118 : (Jvm.Cond.selects "SwapWhileModel" ({ cls := "SwapWhileModel", name := "present", desc := "()I" } : Jvm.MethodName) ({ cls := "SwapWhileModel", name := "present", desc := "()I" } : Jvm.MethodName)) ∈ lw_all := lw_g (lw_at lw_m9 134 rfl) rfl
theorem q2119 : (Jvm.Cond.code ({ cls := "SwapWhileModel", name := "present", desc := "()I" } : Jvm.MethodName) prog_24_method_49_code (1 : Nat) (Option.some Jvm.ClassFile.FieldType.int)) ∈ lw_all := lw_g (lw_at lw_m9 135 rfl) rfl
theorem q2121 : (Jvm.Cond.instanceMethod ({ cls := "SwapWhileModel", name := "versions", desc := "()I" } : Jvm.MethodName)) ∈ lw_all := lw_g (lw_at lw_m9 137 rfl) rfl
theorem q2122 : (Jvm.Cond.selects "SwapWhileModel" ({ cls := "SwapWhileModel", name := "versions", desc := "()I" } : Jvm.MethodName) ({ cls := "SwapWhileModel", name := "versions", desc := "()I" } : Jvm.MethodName)) ∈ lw_all := lw_g (lw_at lw_m9 138 rfl) rfl
theorem q2123 : (Jvm.Cond.code ({ cls := "SwapWhileModel", name := "versions", desc := "()I" } : Jvm.MethodName) prog_24_method_50_code (1 : Nat) (Option.some Jvm.ClassFile.FieldType.int)) ∈ lw_all := lw_g (lw_at lw_m9 139 rfl) rfl
theorem q2125 : (Jvm.Cond.instanceMethod ({ cls := "SwapWhileModel", name := "against", desc := "()I" } : Jvm.MethodName)) ∈ lw_all := lw_g (lw_at lw_m9 141 rfl) rfl
theorem q2126 : (Jvm.Cond.selects "SwapWhileModel" ({ cls := "SwapWhileModel", name := "against", desc := "()I" } : Jvm.MethodName) ({ cls := "SwapWhileModel", name := "against", desc := "()I" } : Jvm.MethodName)) ∈ lw_all := lw_g (lw_at lw_m9 142 rfl) rfl
theorem q2127 : (Jvm.Cond.code ({ cls := "SwapWhileModel", name := "against", desc := "()I" } : Jvm.MethodName) prog_24_method_51_code (1 : Nat) (Option.some Jvm.ClassFile.FieldType.int)) ∈ lw_all := lw_g (lw_at lw_m9 143 rfl) rfl
theorem q2129 : (Jvm.Cond.instanceMethod ({ cls := "SwapWhileModel", name := "watch", desc := "(I)Z" } : Jvm.MethodName)) ∈ lw_all := lw_g (lw_at lw_m9 145 rfl) rfl
theorem q2130 : (Jvm.Cond.selects "SwapWhileModel" ({ cls := "SwapWhileModel", name := "watch", desc := "(I)Z" } : Jvm.MethodName) ({ cls := "SwapWhileModel", name := "watch", desc := "(I)Z" } : Jvm.MethodName)) ∈ lw_all := lw_g (lw_at lw_m9 146 rfl) rfl
theorem q2131 : (Jvm.Cond.code ({ cls := "SwapWhileModel", name := "watch", desc := "(I)Z" } : Jvm.MethodName) prog_24_method_52_code (3 : Nat) (Option.some Jvm.ClassFile.FieldType.boolean)) ∈ lw_all := lw_g (lw_at lw_m9 147 rfl) rfl
theorem q2133 : (Jvm.Cond.instanceMethod ({ cls := "SwapWhileModel", name := "isWatched", desc := "()Z" } : Jvm.MethodName)) ∈ lw_all := lw_g (lw_at lw_m9 149 rfl) rfl
theorem q2134 : (Jvm.Cond.selects "SwapWhileModel" ({ cls := "SwapWhileModel", name := "isWatched", desc := "()Z" } : Jvm.MethodName) ({ cls := "SwapWhileModel", name := "isWatched", desc := "()Z" } : Jvm.MethodName)) ∈ lw_all := lw_g (lw_at lw_m9 150 rfl) rfl
theorem q2135 : (Jvm.Cond.code ({ cls := "SwapWhileModel", name := "isWatched", desc := "()Z" } : Jvm.MethodName) prog_24_method_53_code (1 : Nat) (Option.some Jvm.ClassFile.FieldType.boolean)) ∈ lw_all := lw_g (lw_at lw_m9 151 rfl) rfl
theorem q2137 : (Jvm.Cond.instanceMethod ({ cls := "SwapWhileModel", name := "objects", desc := "()I" } : Jvm.MethodName)) ∈ lw_all := lw_g (lw_at lw_m9 153 rfl) rfl
theorem q2138 : (Jvm.Cond.selects "SwapWhileModel" ({ cls := "SwapWhileModel", name := "objects", desc := "()I" } : Jvm.MethodName) ({ cls := "SwapWhileModel", name := "objects", desc := "()I" } : Jvm.MethodName)) ∈ lw_all := lw_g (lw_at lw_m9 154 rfl) rfl
theorem q2139 : (Jvm.Cond.code ({ cls := "SwapWhileModel", name := "objects", desc := "()I" } : Jvm.MethodName) prog_24_method_54_code (1 : Nat) (Option.some Jvm.ClassFile.FieldType.int)) ∈ lw_all := lw_g (lw_at lw_m9 155 rfl) rfl
theorem q2141 : (Jvm.Cond.instanceMethod ({ cls := "SwapWhileModel", name := "shape", desc := "(I)I" } : Jvm.MethodName)) ∈ lw_all := lw_g (lw_at lw_m9 157 rfl) rfl
theorem q2142 : (Jvm.Cond.selects "SwapWhileModel" ({ cls := "SwapWhileModel", name := "shape", desc := "(I)I" } : Jvm.MethodName) ({ cls := "SwapWhileModel", name := "shape", desc := "(I)I" } : Jvm.MethodName)) ∈ lw_all := lw_g (lw_at lw_m9 158 rfl) rfl
theorem q2143 : (Jvm.Cond.code ({ cls := "SwapWhileModel", name := "shape", desc := "(I)I" } : Jvm.MethodName) prog_24_method_56_code (2 : Nat) (Option.some Jvm.ClassFile.FieldType.int)) ∈ lw_all := lw_g (lw_at lw_m9 159 rfl) rfl
theorem q2144 : (Jvm.Cond.methodLink "SwapWhileModel" (341 : Nat) ({ cls := "SwapWhileModel", name := "noObject", desc := "(I)Z" } : Jvm.MethodName)) ∈ lw_all := lw_g (lw_at lw_m9 160 rfl) rfl
theorem q2145 : (Jvm.Cond.privateMethod ({ cls := "SwapWhileModel", name := "noObject", desc := "(I)Z" } : Jvm.MethodName)) ∈ lw_tbl := lw_at lw_m9 161 rfl
theorem q2146 : (Jvm.Cond.instanceMethod ({ cls := "SwapWhileModel", name := "noObject", desc := "(I)Z" } : Jvm.MethodName)) ∈ lw_all := lw_g (lw_at lw_m9 162 rfl) rfl
theorem q2147 : (Jvm.Cond.code ({ cls := "SwapWhileModel", name := "noObject", desc := "(I)Z" } : Jvm.MethodName) prog_24_method_55_code (2 : Nat) (Option.some Jvm.ClassFile.FieldType.boolean)) ∈ lw_all := lw_g (lw_at lw_m9 163 rfl) rfl
theorem q2149 : (Jvm.Cond.instanceMethod ({ cls := "SwapWhileModel", name := "field", desc := "(II)I" } : Jvm.MethodName)) ∈ lw_all := lw_g (lw_at lw_m9 165 rfl) rfl
theorem q2150 : (Jvm.Cond.selects "SwapWhileModel" ({ cls := "SwapWhileModel", name := "field", desc := "(II)I" } : Jvm.MethodName) ({ cls := "SwapWhileModel", name := "field", desc := "(II)I" } : Jvm.MethodName)) ∈ lw_all := lw_g (lw_at lw_m9 166 rfl) rfl
theorem q2151 : (Jvm.Cond.code ({ cls := "SwapWhileModel", name := "field", desc := "(II)I" } : Jvm.MethodName) prog_24_method_57_code (4 : Nat) (Option.some Jvm.ClassFile.FieldType.int)) ∈ lw_all := lw_g (lw_at lw_m9 167 rfl) rfl
theorem q2153 : (Jvm.Cond.instanceMethod ({ cls := "SwapWhileModel", name := "fieldIn", desc := "(III)I" } : Jvm.MethodName)) ∈ lw_all := lw_g (lw_at lw_m9 169 rfl) rfl
theorem q2154 : (Jvm.Cond.selects "SwapWhileModel" ({ cls := "SwapWhileModel", name := "fieldIn", desc := "(III)I" } : Jvm.MethodName) ({ cls := "SwapWhileModel", name := "fieldIn", desc := "(III)I" } : Jvm.MethodName)) ∈ lw_all := lw_g (lw_at lw_m9 170 rfl) rfl
theorem q2155 : (Jvm.Cond.code ({ cls := "SwapWhileModel", name := "fieldIn", desc := "(III)I" } : Jvm.MethodName) prog_24_method_58_code (6 : Nat) (Option.some Jvm.ClassFile.FieldType.int)) ∈ lw_all := lw_g (lw_at lw_m9 171 rfl) rfl
theorem q2157 : (Jvm.Cond.instanceMethod ({ cls := "SwapWhileModel", name := "entry", desc := "(I)I" } : Jvm.MethodName)) ∈ lw_all := lw_g (lw_at lw_m9 173 rfl) rfl
theorem q2158 : (Jvm.Cond.selects "SwapWhileModel" ({ cls := "SwapWhileModel", name := "entry", desc := "(I)I" } : Jvm.MethodName) ({ cls := "SwapWhileModel", name := "entry", desc := "(I)I" } : Jvm.MethodName)) ∈ lw_all := lw_g (lw_at lw_m9 174 rfl) rfl
theorem q2159 : (Jvm.Cond.code ({ cls := "SwapWhileModel", name := "entry", desc := "(I)I" } : Jvm.MethodName) prog_24_method_59_code (2 : Nat) (Option.some Jvm.ClassFile.FieldType.int)) ∈ lw_all := lw_g (lw_at lw_m9 175 rfl) rfl
theorem q2161 : (Jvm.Cond.instanceMethod ({ cls := "SwapWhileModel", name := "puts", desc := "()I" } : Jvm.MethodName)) ∈ lw_all := lw_g (lw_at lw_m9 177 rfl) rfl
theorem q2162 : (Jvm.Cond.selects "SwapWhileModel" ({ cls := "SwapWhileModel", name := "puts", desc := "()I" } : Jvm.MethodName) ({ cls := "SwapWhileModel", name := "puts", desc := "()I" } : Jvm.MethodName)) ∈ lw_all := lw_g (lw_at lw_m9 178 rfl) rfl
theorem q2163 : (Jvm.Cond.code ({ cls := "SwapWhileModel", name := "puts", desc := "()I" } : Jvm.MethodName) prog_24_method_60_code (1 : Nat) (Option.some Jvm.ClassFile.FieldType.int)) ∈ lw_all := lw_g (lw_at lw_m9 179 rfl) rfl
theorem q2165 : (Jvm.Cond.instanceMethod ({ cls := "SwapWhileModel", name := "putAt", desc := "(I)I" } : Jvm.MethodName)) ∈ lw_all := lw_g (lw_at lw_m9 181 rfl) rfl
theorem q2166 : (Jvm.Cond.selects "SwapWhileModel" ({ cls := "SwapWhileModel", name := "putAt", desc := "(I)I" } : Jvm.MethodName) ({ cls := "SwapWhileModel", name := "putAt", desc := "(I)I" } : Jvm.MethodName)) ∈ lw_all := lw_g (lw_at lw_m9 182 rfl) rfl
theorem q2167 : (Jvm.Cond.code ({ cls := "SwapWhileModel", name := "putAt", desc := "(I)I" } : Jvm.MethodName) prog_24_method_62_code (2 : Nat) (Option.some Jvm.ClassFile.FieldType.int)) ∈ lw_all := lw_g (lw_at lw_m9 183 rfl) rfl
theorem q2168 : (Jvm.Cond.methodLink "SwapWhileModel" (344 : Nat) ({ cls := "SwapWhileModel", name := "noAmount", desc := "(I)Z" } : Jvm.MethodName)) ∈ lw_all := lw_g (lw_at lw_m9 184 rfl) rfl
theorem q2169 : (Jvm.Cond.privateMethod ({ cls := "SwapWhileModel", name := "noAmount", desc := "(I)Z" } : Jvm.MethodName)) ∈ lw_tbl := lw_at lw_m9 185 rfl
theorem q2170 : (Jvm.Cond.instanceMethod ({ cls := "SwapWhileModel", name := "noAmount", desc := "(I)Z" } : Jvm.MethodName)) ∈ lw_all := lw_g (lw_at lw_m9 186 rfl) rfl
theorem q2171 : (Jvm.Cond.code ({ cls := "SwapWhileModel", name := "noAmount", desc := "(I)Z" } : Jvm.MethodName) prog_24_method_61_code (2 : Nat) (Option.some Jvm.ClassFile.FieldType.boolean)) ∈ lw_all := lw_g (lw_at lw_m9 187 rfl) rfl
theorem q2172 : (Jvm.Cond.classLink "SwapWhileModel" (288 : Nat) "java/lang/Integer") ∈ lw_all := lw_g (lw_at lw_m9 188 rfl) rfl
theorem q2173 : (Jvm.Cond.methodLink "SwapWhileModel" (347 : Nat) ({ cls := "java/lang/Integer", name := "intValue", desc := "()I" } : Jvm.MethodName)) ∈ lw_all := lw_g (lw_at lw_m9 189 rfl) rfl
theorem q2175 : (Jvm.Cond.instanceMethod ({ cls := "SwapWhileModel", name := "putIn", desc := "(I)I" } : Jvm.MethodName)) ∈ lw_all := lw_g (lw_at lw_m9 191 rfl) rfl
theorem q2176 : (Jvm.Cond.selects "SwapWhileModel" ({ cls := "SwapWhileModel", name := "putIn", desc := "(I)I" } : Jvm.MethodName) ({ cls := "SwapWhileModel", name := "putIn", desc := "(I)I" } : Jvm.MethodName)) ∈ lw_all := lw_g (lw_at lw_m9 192 rfl) rfl
theorem q2177 : (Jvm.Cond.code ({ cls := "SwapWhileModel", name := "putIn", desc := "(I)I" } : Jvm.MethodName) prog_24_method_63_code (2 : Nat) (Option.some Jvm.ClassFile.FieldType.int)) ∈ lw_all := lw_g (lw_at lw_m9 193 rfl) rfl
theorem q2179 : (Jvm.Cond.instanceMethod ({ cls := "SwapWhileModel", name := "steps", desc := "()J" } : Jvm.MethodName)) ∈ lw_all := lw_g (lw_at lw_m9 195 rfl) rfl
theorem q2180 : (Jvm.Cond.selects "SwapWhileModel" ({ cls := "SwapWhileModel", name := "steps", desc := "()J" } : Jvm.MethodName) ({ cls := "SwapWhileModel", name := "steps", desc := "()J" } : Jvm.MethodName)) ∈ lw_all := lw_g (lw_at lw_m9 196 rfl) rfl
theorem q2181 : (Jvm.Cond.code ({ cls := "SwapWhileModel", name := "steps", desc := "()J" } : Jvm.MethodName) prog_24_method_64_code (1 : Nat) (Option.some Jvm.ClassFile.FieldType.long)) ∈ lw_all := lw_g (lw_at lw_m9 197 rfl) rfl
theorem q2183 : (Jvm.Cond.instanceMethod ({ cls := "SwapWhileModel", name := "carriedShare", desc := "()F" } : Jvm.MethodName)) ∈ lw_all := lw_g (lw_at lw_m9 199 rfl) rfl
theorem q2184 : (Jvm.Cond.selects "SwapWhileModel" ({ cls := "SwapWhileModel", name := "carriedShare", desc := "()F" } : Jvm.MethodName) ({ cls := "SwapWhileModel", name := "carriedShare", desc := "()F" } : Jvm.MethodName)) ∈ lw_all := lw_g (lw_at lw_m9 200 rfl) rfl
theorem q2185 : (Jvm.Cond.code ({ cls := "SwapWhileModel", name := "carriedShare", desc := "()F" } : Jvm.MethodName) prog_24_method_65_code (4 : Nat) (Option.some Jvm.ClassFile.FieldType.float)) ∈ lw_all := lw_g (lw_at lw_m9 201 rfl) rfl
theorem q2187 : (Jvm.Cond.instanceMethod ({ cls := "SwapWhileModel", name := "meanFrames", desc := "()D" } : Jvm.MethodName)) ∈ lw_all := lw_g (lw_at lw_m9 203 rfl) rfl
theorem q2188 : (Jvm.Cond.selects "SwapWhileModel" ({ cls := "SwapWhileModel", name := "meanFrames", desc := "()D" } : Jvm.MethodName) ({ cls := "SwapWhileModel", name := "meanFrames", desc := "()D" } : Jvm.MethodName)) ∈ lw_all := lw_g (lw_at lw_m9 204 rfl) rfl
theorem q2189 : (Jvm.Cond.code ({ cls := "SwapWhileModel", name := "meanFrames", desc := "()D" } : Jvm.MethodName) prog_24_method_66_code (5 : Nat) (Option.some Jvm.ClassFile.FieldType.double)) ∈ lw_all := lw_g (lw_at lw_m9 205 rfl) rfl
theorem q2219 : (Jvm.Cond.castable "SwapWhileModel" "java/lang/Object") ∈ lw_tbl := lw_at lw_m9 235 rfl
theorem in_X5 : ∀ w ∈ wsX50, w ∈ lw_all := lw_in wsX50 [1744, 1746, 1748, 1750, 1752, 1754, 1756, 1758, 1760, 1762, 1764, 1766, 1768, 1770] (by decide +kernel) (by decide +kernel)
