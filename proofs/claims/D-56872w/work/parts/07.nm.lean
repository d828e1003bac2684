/-! SwapWhileModel$Version -/
set_option maxRecDepth 100000
def RX6 : String := "SwapWhileModel$Version"
def TX6 : u_T := fun k => match k with
  | 0 => ("SwapWhileModel$Version", "functions", "Ljava/util/ArrayList;", true)
  | 1 => ("SwapWhileModel$Version", "fields", "[I", true)
  | 2 => ("SwapWhileModel$Version", "from", "[I", true)
  | 3 => ("SwapWhileModel$Version", "more", "[I", true)
  | 4 => ("SwapWhileModel$Version", "backFrom", "[I", true)
  | 5 => ("SwapWhileModel$Version", "backMore", "[I", true)
  | _ => ("SwapWhileModel$Version", "places", "[I", true)
def tyX6 : Nat → FieldType := fun k => match k with
  | 0 => .object "java/util/ArrayList"
  | 1 => .array .int
  | 2 => .array .int
  | 3 => .array .int
  | 4 => .array .int
  | 5 => .array .int
  | _ => .array .int
abbrev wsX60 : List Cond := u_ws RX6 TX6 7
theorem nmX6 : ∀ a, a < 7 → ∀ b, b < 7 → a ≠ b → (TX6 a).2.1 ≠ (TX6 b).2.1 := by decide +kernel
theorem tyX6_ok : ∀ k, k < 7 → parseFieldDescriptor (TX6 k).2.2.1 = some (tyX6 k) := by decide +kernel
abbrev cX6_init : ByteArray := prog_30_method_1_code
def yX6_init : MethodName := ⟨RX6, "<init>", "(LSwapWhileModel$Version;)V"⟩
def dkwX6_init_7 : List UInt8 := [28, 46, 79, 42, 28, 42, 180, 0, 18, 28, 46, 182, 0, 51, 132, 2, 1, 167, 255, 217, 177]
abbrev dktX6_init_7 : List UInt8 := dkwX6_init_7 ++ []
def dkwX6_init_6 : List UInt8 := [3, 61, 28, 6, 162, 0, 40, 42, 180, 0, 18, 28, 43, 199, 0, 7, 4, 167, 0, 9, 43, 180, 0, 18]
abbrev dktX6_init_6 : List UInt8 := dkwX6_init_6 ++ dktX6_init_7
def dkwX6_init_5 : List UInt8 := [167, 255, 203, 3, 61, 28, 16, 55, 162, 0, 16, 42, 180, 0, 34, 28, 2, 79, 132, 2, 1, 167, 255, 240]
abbrev dktX6_init_5 : List UInt8 := dkwX6_init_5 ++ dktX6_init_6
def dkwX6_init_4 : List UInt8 := [182, 0, 41, 192, 0, 9, 43, 180, 0, 12, 28, 182, 0, 41, 192, 0, 45, 182, 0, 47, 87, 132, 2, 1]
abbrev dktX6_init_4 : List UInt8 := dkwX6_init_4 ++ dktX6_init_5
def dkwX6_init_3 : List UInt8 := [180, 0, 12, 187, 0, 9, 89, 183, 0, 11, 182, 0, 37, 87, 43, 198, 0, 29, 42, 180, 0, 12, 28]
abbrev dktX6_init_3 : List UInt8 := dkwX6_init_3 ++ dktX6_init_4
def dkwX6_init_2 : List UInt8 := [16, 12, 188, 10, 181, 0, 31, 42, 16, 55, 188, 10, 181, 0, 34, 3, 61, 28, 8, 162, 0, 54, 42]
abbrev dktX6_init_2 : List UInt8 := dkwX6_init_2 ++ dktX6_init_3
def dkwX6_init_1 : List UInt8 := [16, 12, 188, 10, 181, 0, 22, 42, 16, 12, 188, 10, 181, 0, 25, 42, 16, 12, 188, 10, 181, 0, 28, 42]
abbrev dktX6_init_1 : List UInt8 := dkwX6_init_1 ++ dktX6_init_2
def dkwX6_init_0 : List UInt8 := [42, 183, 0, 3, 42, 187, 0, 9, 89, 183, 0, 11, 181, 0, 12, 42, 6, 188, 10, 181, 0, 18, 42]
abbrev dktX6_init_0 : List UInt8 := dkwX6_init_0 ++ dktX6_init_1
theorem dksX6_init_0 : cX6_init.data.toList.drop 0 = dktX6_init_0 := by decide +kernel
theorem dksX6_init_1 : cX6_init.data.toList.drop 23 = dktX6_init_1 := dk_seg dksX6_init_0 23 rfl rfl
theorem dksX6_init_2 : cX6_init.data.toList.drop 47 = dktX6_init_2 := dk_seg dksX6_init_1 24 rfl rfl
theorem dksX6_init_3 : cX6_init.data.toList.drop 70 = dktX6_init_3 := dk_seg dksX6_init_2 23 rfl rfl
theorem dksX6_init_4 : cX6_init.data.toList.drop 93 = dktX6_init_4 := dk_seg dksX6_init_3 23 rfl rfl
theorem dksX6_init_5 : cX6_init.data.toList.drop 117 = dktX6_init_5 := dk_seg dksX6_init_4 24 rfl rfl
theorem dksX6_init_6 : cX6_init.data.toList.drop 141 = dktX6_init_6 := dk_seg dksX6_init_5 24 rfl rfl
theorem dksX6_init_7 : cX6_init.data.toList.drop 165 = dktX6_init_7 := dk_seg dksX6_init_6 24 rfl rfl
theorem dX6_init_0 : decode cX6_init 0 = .ok (.aload_n 0, 1) := dk_42 (dk_at dksX6_init_0 0 rfl rfl)
theorem dX6_init_1 : decode cX6_init 1 = .ok (.invokespecial 3, 3) := dk_183 0 3 (dk_at dksX6_init_0 1 rfl rfl)
theorem dX6_init_4 : decode cX6_init 4 = .ok (.aload_n 0, 1) := dk_42 (dk_at dksX6_init_0 4 rfl rfl)
theorem dX6_init_5 : decode cX6_init 5 = .ok (.new 9, 3) := dk_187 0 9 (dk_at dksX6_init_0 5 rfl rfl)
theorem dX6_init_8 : decode cX6_init 8 = .ok (.dup, 1) := dk_89 (dk_at dksX6_init_0 8 rfl rfl)
theorem dX6_init_9 : decode cX6_init 9 = .ok (.invokespecial 11, 3) := dk_183 0 11 (dk_at dksX6_init_0 9 rfl rfl)
theorem dX6_init_12 : decode cX6_init 12 = .ok (.putfield 12, 3) := dk_181 0 12 (dk_at dksX6_init_0 12 rfl rfl)
theorem dX6_init_15 : decode cX6_init 15 = .ok (.aload_n 0, 1) := dk_42 (dk_at dksX6_init_0 15 rfl rfl)
theorem dX6_init_16 : decode cX6_init 16 = .ok (.iconst 3, 1) := dk_6 (dk_at dksX6_init_0 16 rfl rfl)
theorem dX6_init_17 : decode cX6_init 17 = .ok (.newarray .int, 2) := dk_188_10 (dk_at dksX6_init_0 17 rfl rfl)
theorem dX6_init_19 : decode cX6_init 19 = .ok (.putfield 18, 3) := dk_181 0 18 (dk_at dksX6_init_0 19 rfl rfl)
theorem dX6_init_22 : decode cX6_init 22 = .ok (.aload_n 0, 1) := dk_42 (dk_at dksX6_init_0 22 rfl rfl)
theorem dX6_init_23 : decode cX6_init 23 = .ok (.bipush 12, 2) := dk_16 12 (dk_at dksX6_init_1 0 rfl rfl)
theorem dX6_init_25 : decode cX6_init 25 = .ok (.newarray .int, 2) := dk_188_10 (dk_at dksX6_init_1 2 rfl rfl)
theorem dX6_init_27 : decode cX6_init 27 = .ok (.putfield 22, 3) := dk_181 0 22 (dk_at dksX6_init_1 4 rfl rfl)
theorem dX6_init_30 : decode cX6_init 30 = .ok (.aload_n 0, 1) := dk_42 (dk_at dksX6_init_1 7 rfl rfl)
theorem dX6_init_31 : decode cX6_init 31 = .ok (.bipush 12, 2) := dk_16 12 (dk_at dksX6_init_1 8 rfl rfl)
theorem dX6_init_33 : decode cX6_init 33 = .ok (.newarray .int, 2) := dk_188_10 (dk_at dksX6_init_1 10 rfl rfl)
theorem dX6_init_35 : decode cX6_init 35 = .ok (.putfield 25, 3) := dk_181 0 25 (dk_at dksX6_init_1 12 rfl rfl)
theorem dX6_init_38 : decode cX6_init 38 = .ok (.aload_n 0, 1) := dk_42 (dk_at dksX6_init_1 15 rfl rfl)
theorem dX6_init_39 : decode cX6_init 39 = .ok (.bipush 12, 2) := dk_16 12 (dk_at dksX6_init_1 16 rfl rfl)
theorem dX6_init_41 : decode cX6_init 41 = .ok (.newarray .int, 2) := dk_188_10 (dk_at dksX6_init_1 18 rfl rfl)
theorem dX6_init_43 : decode cX6_init 43 = .ok (.putfield 28, 3) := dk_181 0 28 (dk_at dksX6_init_1 20 rfl rfl)
theorem dX6_init_46 : decode cX6_init 46 = .ok (.aload_n 0, 1) := dk_42 (dk_at dksX6_init_1 23 rfl rfl)
theorem dX6_init_47 : decode cX6_init 47 = .ok (.bipush 12, 2) := dk_16 12 (dk_at dksX6_init_2 0 rfl rfl)
theorem dX6_init_49 : decode cX6_init 49 = .ok (.newarray .int, 2) := dk_188_10 (dk_at dksX6_init_2 2 rfl rfl)
theorem dX6_init_51 : decode cX6_init 51 = .ok (.putfield 31, 3) := dk_181 0 31 (dk_at dksX6_init_2 4 rfl rfl)
theorem dX6_init_54 : decode cX6_init 54 = .ok (.aload_n 0, 1) := dk_42 (dk_at dksX6_init_2 7 rfl rfl)
theorem dX6_init_55 : decode cX6_init 55 = .ok (.bipush 55, 2) := dk_16 55 (dk_at dksX6_init_2 8 rfl rfl)
theorem dX6_init_57 : decode cX6_init 57 = .ok (.newarray .int, 2) := dk_188_10 (dk_at dksX6_init_2 10 rfl rfl)
theorem dX6_init_59 : decode cX6_init 59 = .ok (.putfield 34, 3) := dk_181 0 34 (dk_at dksX6_init_2 12 rfl rfl)
theorem dX6_init_62 : decode cX6_init 62 = .ok (.iconst 0, 1) := dk_3 (dk_at dksX6_init_2 15 rfl rfl)
theorem dX6_init_63 : decode cX6_init 63 = .ok (.istore_n 2, 1) := dk_61 (dk_at dksX6_init_2 16 rfl rfl)
theorem dX6_init_64 : decode cX6_init 64 = .ok (.iload_n 2, 1) := dk_28 (dk_at dksX6_init_2 17 rfl rfl)
theorem dX6_init_65 : decode cX6_init 65 = .ok (.iconst 5, 1) := dk_8 (dk_at dksX6_init_2 18 rfl rfl)
theorem dX6_init_66 : decode cX6_init 66 = .ok (.if_icmp .ge 54, 3) := dk_162 0 54 (dk_at dksX6_init_2 19 rfl rfl)
theorem dX6_init_69 : decode cX6_init 69 = .ok (.aload_n 0, 1) := dk_42 (dk_at dksX6_init_2 22 rfl rfl)
theorem dX6_init_70 : decode cX6_init 70 = .ok (.getfield 12, 3) := dk_180 0 12 (dk_at dksX6_init_3 0 rfl rfl)
theorem dX6_init_73 : decode cX6_init 73 = .ok (.new 9, 3) := dk_187 0 9 (dk_at dksX6_init_3 3 rfl rfl)
theorem dX6_init_76 : decode cX6_init 76 = .ok (.dup, 1) := dk_89 (dk_at dksX6_init_3 6 rfl rfl)
theorem dX6_init_77 : decode cX6_init 77 = .ok (.invokespecial 11, 3) := dk_183 0 11 (dk_at dksX6_init_3 7 rfl rfl)
theorem dX6_init_80 : decode cX6_init 80 = .ok (.invokevirtual 37, 3) := dk_182 0 37 (dk_at dksX6_init_3 10 rfl rfl)
theorem dX6_init_83 : decode cX6_init 83 = .ok (.pop, 1) := dk_87 (dk_at dksX6_init_3 13 rfl rfl)
theorem dX6_init_84 : decode cX6_init 84 = .ok (.aload_n 1, 1) := dk_43 (dk_at dksX6_init_3 14 rfl rfl)
theorem dX6_init_85 : decode cX6_init 85 = .ok (.ifnull 29, 3) := dk_198 0 29 (dk_at dksX6_init_3 15 rfl rfl)
theorem dX6_init_88 : decode cX6_init 88 = .ok (.aload_n 0, 1) := dk_42 (dk_at dksX6_init_3 18 rfl rfl)
theorem dX6_init_89 : decode cX6_init 89 = .ok (.getfield 12, 3) := dk_180 0 12 (dk_at dksX6_init_3 19 rfl rfl)
theorem dX6_init_92 : decode cX6_init 92 = .ok (.iload_n 2, 1) := dk_28 (dk_at dksX6_init_3 22 rfl rfl)
theorem dX6_init_93 : decode cX6_init 93 = .ok (.invokevirtual 41, 3) := dk_182 0 41 (dk_at dksX6_init_4 0 rfl rfl)
theorem dX6_init_96 : decode cX6_init 96 = .ok (.checkcast 9, 3) := dk_192 0 9 (dk_at dksX6_init_4 3 rfl rfl)
theorem dX6_init_99 : decode cX6_init 99 = .ok (.aload_n 1, 1) := dk_43 (dk_at dksX6_init_4 6 rfl rfl)
theorem dX6_init_100 : decode cX6_init 100 = .ok (.getfield 12, 3) := dk_180 0 12 (dk_at dksX6_init_4 7 rfl rfl)
theorem dX6_init_103 : decode cX6_init 103 = .ok (.iload_n 2, 1) := dk_28 (dk_at dksX6_init_4 10 rfl rfl)
theorem dX6_init_104 : decode cX6_init 104 = .ok (.invokevirtual 41, 3) := dk_182 0 41 (dk_at dksX6_init_4 11 rfl rfl)
theorem dX6_init_107 : decode cX6_init 107 = .ok (.checkcast 45, 3) := dk_192 0 45 (dk_at dksX6_init_4 14 rfl rfl)
theorem dX6_init_110 : decode cX6_init 110 = .ok (.invokevirtual 47, 3) := dk_182 0 47 (dk_at dksX6_init_4 17 rfl rfl)
theorem dX6_init_113 : decode cX6_init 113 = .ok (.pop, 1) := dk_87 (dk_at dksX6_init_4 20 rfl rfl)
theorem dX6_init_114 : decode cX6_init 114 = .ok (.iinc 2 1, 3) := dk_132 2 1 (dk_at dksX6_init_4 21 rfl rfl)
theorem dX6_init_117 : decode cX6_init 117 = .ok (.goto (-53), 3) := dk_167 255 203 (dk_at dksX6_init_5 0 rfl rfl)
theorem dX6_init_120 : decode cX6_init 120 = .ok (.iconst 0, 1) := dk_3 (dk_at dksX6_init_5 3 rfl rfl)
theorem dX6_init_121 : decode cX6_init 121 = .ok (.istore_n 2, 1) := dk_61 (dk_at dksX6_init_5 4 rfl rfl)
theorem dX6_init_122 : decode cX6_init 122 = .ok (.iload_n 2, 1) := dk_28 (dk_at dksX6_init_5 5 rfl rfl)
theorem dX6_init_123 : decode cX6_init 123 = .ok (.bipush 55, 2) := dk_16 55 (dk_at dksX6_init_5 6 rfl rfl)
theorem dX6_init_125 : decode cX6_init 125 = .ok (.if_icmp .ge 16, 3) := dk_162 0 16 (dk_at dksX6_init_5 8 rfl rfl)
theorem dX6_init_128 : decode cX6_init 128 = .ok (.aload_n 0, 1) := dk_42 (dk_at dksX6_init_5 11 rfl rfl)
theorem dX6_init_129 : decode cX6_init 129 = .ok (.getfield 34, 3) := dk_180 0 34 (dk_at dksX6_init_5 12 rfl rfl)
theorem dX6_init_132 : decode cX6_init 132 = .ok (.iload_n 2, 1) := dk_28 (dk_at dksX6_init_5 15 rfl rfl)
theorem dX6_init_133 : decode cX6_init 133 = .ok (.iconst (-1), 1) := dk_2 (dk_at dksX6_init_5 16 rfl rfl)
theorem dX6_init_134 : decode cX6_init 134 = .ok (.iastore, 1) := dk_79 (dk_at dksX6_init_5 17 rfl rfl)
theorem dX6_init_135 : decode cX6_init 135 = .ok (.iinc 2 1, 3) := dk_132 2 1 (dk_at dksX6_init_5 18 rfl rfl)
theorem dX6_init_138 : decode cX6_init 138 = .ok (.goto (-16), 3) := dk_167 255 240 (dk_at dksX6_init_5 21 rfl rfl)
theorem dX6_init_141 : decode cX6_init 141 = .ok (.iconst 0, 1) := dk_3 (dk_at dksX6_init_6 0 rfl rfl)
theorem dX6_init_142 : decode cX6_init 142 = .ok (.istore_n 2, 1) := dk_61 (dk_at dksX6_init_6 1 rfl rfl)
theorem dX6_init_143 : decode cX6_init 143 = .ok (.iload_n 2, 1) := dk_28 (dk_at dksX6_init_6 2 rfl rfl)
theorem dX6_init_144 : decode cX6_init 144 = .ok (.iconst 3, 1) := dk_6 (dk_at dksX6_init_6 3 rfl rfl)
theorem dX6_init_145 : decode cX6_init 145 = .ok (.if_icmp .ge 40, 3) := dk_162 0 40 (dk_at dksX6_init_6 4 rfl rfl)
theorem dX6_init_148 : decode cX6_init 148 = .ok (.aload_n 0, 1) := dk_42 (dk_at dksX6_init_6 7 rfl rfl)
theorem dX6_init_149 : decode cX6_init 149 = .ok (.getfield 18, 3) := dk_180 0 18 (dk_at dksX6_init_6 8 rfl rfl)
theorem dX6_init_152 : decode cX6_init 152 = .ok (.iload_n 2, 1) := dk_28 (dk_at dksX6_init_6 11 rfl rfl)
theorem dX6_init_153 : decode cX6_init 153 = .ok (.aload_n 1, 1) := dk_43 (dk_at dksX6_init_6 12 rfl rfl)
theorem dX6_init_154 : decode cX6_init 154 = .ok (.ifnonnull 7, 3) := dk_199 0 7 (dk_at dksX6_init_6 13 rfl rfl)
theorem dX6_init_157 : decode cX6_init 157 = .ok (.iconst 1, 1) := dk_4 (dk_at dksX6_init_6 16 rfl rfl)
theorem dX6_init_158 : decode cX6_init 158 = .ok (.goto 9, 3) := dk_167 0 9 (dk_at dksX6_init_6 17 rfl rfl)
theorem dX6_init_161 : decode cX6_init 161 = .ok (.aload_n 1, 1) := dk_43 (dk_at dksX6_init_6 20 rfl rfl)
theorem dX6_init_162 : decode cX6_init 162 = .ok (.getfield 18, 3) := dk_180 0 18 (dk_at dksX6_init_6 21 rfl rfl)
theorem dX6_init_165 : decode cX6_init 165 = .ok (.iload_n 2, 1) := dk_28 (dk_at dksX6_init_7 0 rfl rfl)
theorem dX6_init_166 : decode cX6_init 166 = .ok (.iaload, 1) := dk_46 (dk_at dksX6_init_7 1 rfl rfl)
theorem dX6_init_167 : decode cX6_init 167 = .ok (.iastore, 1) := dk_79 (dk_at dksX6_init_7 2 rfl rfl)
theorem dX6_init_168 : decode cX6_init 168 = .ok (.aload_n 0, 1) := dk_42 (dk_at dksX6_init_7 3 rfl rfl)
theorem dX6_init_169 : decode cX6_init 169 = .ok (.iload_n 2, 1) := dk_28 (dk_at dksX6_init_7 4 rfl rfl)
theorem dX6_init_170 : decode cX6_init 170 = .ok (.aload_n 0, 1) := dk_42 (dk_at dksX6_init_7 5 rfl rfl)
theorem dX6_init_171 : decode cX6_init 171 = .ok (.getfield 18, 3) := dk_180 0 18 (dk_at dksX6_init_7 6 rfl rfl)
theorem dX6_init_174 : decode cX6_init 174 = .ok (.iload_n 2, 1) := dk_28 (dk_at dksX6_init_7 9 rfl rfl)
theorem dX6_init_175 : decode cX6_init 175 = .ok (.iaload, 1) := dk_46 (dk_at dksX6_init_7 10 rfl rfl)
theorem dX6_init_176 : decode cX6_init 176 = .ok (.invokevirtual 51, 3) := dk_182 0 51 (dk_at dksX6_init_7 11 rfl rfl)
theorem dX6_init_179 : decode cX6_init 179 = .ok (.iinc 2 1, 3) := dk_132 2 1 (dk_at dksX6_init_7 14 rfl rfl)
theorem dX6_init_182 : decode cX6_init 182 = .ok (.goto (-39), 3) := dk_167 255 217 (dk_at dksX6_init_7 17 rfl rfl)
theorem dX6_init_185 : decode cX6_init 185 = .ok (.return_, 1) := dk_177 (dk_at dksX6_init_7 20 rfl rfl)
abbrev cX6_carriesPlainly : ByteArray := prog_30_method_2_code
def yX6_carriesPlainly : MethodName := ⟨RX6, "carriesPlainly", "(II)V"⟩
def dkwX6_carriesPlainly_3 : List UInt8 := [29, 96, 3, 79, 132, 3, 1, 167, 255, 181, 177]
abbrev dktX6_carriesPlainly_3 : List UInt8 := dkwX6_carriesPlainly_3 ++ []
def dkwX6_carriesPlainly_2 : List UInt8 := [96, 29, 42, 180, 0, 18, 27, 46, 162, 0, 7, 29, 167, 0, 4, 2, 79, 42, 180, 0, 31, 7, 27, 104]
abbrev dktX6_carriesPlainly_2 : List UInt8 := dkwX6_carriesPlainly_2 ++ dktX6_carriesPlainly_3
def dkwX6_carriesPlainly_1 : List UInt8 := [167, 0, 4, 2, 79, 42, 180, 0, 25, 7, 27, 104, 29, 96, 3, 79, 42, 180, 0, 28, 7, 27, 104, 29]
abbrev dktX6_carriesPlainly_1 : List UInt8 := dkwX6_carriesPlainly_1 ++ dktX6_carriesPlainly_2
def dkwX6_carriesPlainly_0 : List UInt8 := [3, 62, 29, 7, 162, 0, 76, 42, 180, 0, 22, 7, 27, 104, 29, 96, 29, 28, 162, 0, 7, 29]
abbrev dktX6_carriesPlainly_0 : List UInt8 := dkwX6_carriesPlainly_0 ++ dktX6_carriesPlainly_1
theorem dksX6_carriesPlainly_0 : cX6_carriesPlainly.data.toList.drop 0 = dktX6_carriesPlainly_0 := by decide +kernel
theorem dksX6_carriesPlainly_1 : cX6_carriesPlainly.data.toList.drop 22 = dktX6_carriesPlainly_1 := dk_seg dksX6_carriesPlainly_0 22 rfl rfl
theorem dksX6_carriesPlainly_2 : cX6_carriesPlainly.data.toList.drop 46 = dktX6_carriesPlainly_2 := dk_seg dksX6_carriesPlainly_1 24 rfl rfl
theorem dksX6_carriesPlainly_3 : cX6_carriesPlainly.data.toList.drop 70 = dktX6_carriesPlainly_3 := dk_seg dksX6_carriesPlainly_2 24 rfl rfl
theorem dX6_carriesPlainly_0 : decode cX6_carriesPlainly 0 = .ok (.iconst 0, 1) := dk_3 (dk_at dksX6_carriesPlainly_0 0 rfl rfl)
theorem dX6_carriesPlainly_1 : decode cX6_carriesPlainly 1 = .ok (.istore_n 3, 1) := dk_62 (dk_at dksX6_carriesPlainly_0 1 rfl rfl)
theorem dX6_carriesPlainly_2 : decode cX6_carriesPlainly 2 = .ok (.iload_n 3, 1) := dk_29 (dk_at dksX6_carriesPlainly_0 2 rfl rfl)
theorem dX6_carriesPlainly_3 : decode cX6_carriesPlainly 3 = .ok (.iconst 4, 1) := dk_7 (dk_at dksX6_carriesPlainly_0 3 rfl rfl)
theorem dX6_carriesPlainly_4 : decode cX6_carriesPlainly 4 = .ok (.if_icmp .ge 76, 3) := dk_162 0 76 (dk_at dksX6_carriesPlainly_0 4 rfl rfl)
theorem dX6_carriesPlainly_7 : decode cX6_carriesPlainly 7 = .ok (.aload_n 0, 1) := dk_42 (dk_at dksX6_carriesPlainly_0 7 rfl rfl)
theorem dX6_carriesPlainly_8 : decode cX6_carriesPlainly 8 = .ok (.getfield 22, 3) := dk_180 0 22 (dk_at dksX6_carriesPlainly_0 8 rfl rfl)
theorem dX6_carriesPlainly_11 : decode cX6_carriesPlainly 11 = .ok (.iconst 4, 1) := dk_7 (dk_at dksX6_carriesPlainly_0 11 rfl rfl)
theorem dX6_carriesPlainly_12 : decode cX6_carriesPlainly 12 = .ok (.iload_n 1, 1) := dk_27 (dk_at dksX6_carriesPlainly_0 12 rfl rfl)
theorem dX6_carriesPlainly_13 : decode cX6_carriesPlainly 13 = .ok (.imul, 1) := dk_104 (dk_at dksX6_carriesPlainly_0 13 rfl rfl)
theorem dX6_carriesPlainly_14 : decode cX6_carriesPlainly 14 = .ok (.iload_n 3, 1) := dk_29 (dk_at dksX6_carriesPlainly_0 14 rfl rfl)
theorem dX6_carriesPlainly_15 : decode cX6_carriesPlainly 15 = .ok (.iadd, 1) := dk_96 (dk_at dksX6_carriesPlainly_0 15 rfl rfl)
theorem dX6_carriesPlainly_16 : decode cX6_carriesPlainly 16 = .ok (.iload_n 3, 1) := dk_29 (dk_at dksX6_carriesPlainly_0 16 rfl rfl)
theorem dX6_carriesPlainly_17 : decode cX6_carriesPlainly 17 = .ok (.iload_n 2, 1) := dk_28 (dk_at dksX6_carriesPlainly_0 17 rfl rfl)
theorem dX6_carriesPlainly_18 : decode cX6_carriesPlainly 18 = .ok (.if_icmp .ge 7, 3) := dk_162 0 7 (dk_at dksX6_carriesPlainly_0 18 rfl rfl)
theorem dX6_carriesPlainly_21 : decode cX6_carriesPlainly 21 = .ok (.iload_n 3, 1) := dk_29 (dk_at dksX6_carriesPlainly_0 21 rfl rfl)
theorem dX6_carriesPlainly_22 : decode cX6_carriesPlainly 22 = .ok (.goto 4, 3) := dk_167 0 4 (dk_at dksX6_carriesPlainly_1 0 rfl rfl)
theorem dX6_carriesPlainly_25 : decode cX6_carriesPlainly 25 = .ok (.iconst (-1), 1) := dk_2 (dk_at dksX6_carriesPlainly_1 3 rfl rfl)
theorem dX6_carriesPlainly_26 : decode cX6_carriesPlainly 26 = .ok (.iastore, 1) := dk_79 (dk_at dksX6_carriesPlainly_1 4 rfl rfl)
theorem dX6_carriesPlainly_27 : decode cX6_carriesPlainly 27 = .ok (.aload_n 0, 1) := dk_42 (dk_at dksX6_carriesPlainly_1 5 rfl rfl)
theorem dX6_carriesPlainly_28 : decode cX6_carriesPlainly 28 = .ok (.getfield 25, 3) := dk_180 0 25 (dk_at dksX6_carriesPlainly_1 6 rfl rfl)
theorem dX6_carriesPlainly_31 : decode cX6_carriesPlainly 31 = .ok (.iconst 4, 1) := dk_7 (dk_at dksX6_carriesPlainly_1 9 rfl rfl)
theorem dX6_carriesPlainly_32 : decode cX6_carriesPlainly 32 = .ok (.iload_n 1, 1) := dk_27 (dk_at dksX6_carriesPlainly_1 10 rfl rfl)
theorem dX6_carriesPlainly_33 : decode cX6_carriesPlainly 33 = .ok (.imul, 1) := dk_104 (dk_at dksX6_carriesPlainly_1 11 rfl rfl)
theorem dX6_carriesPlainly_34 : decode cX6_carriesPlainly 34 = .ok (.iload_n 3, 1) := dk_29 (dk_at dksX6_carriesPlainly_1 12 rfl rfl)
theorem dX6_carriesPlainly_35 : decode cX6_carriesPlainly 35 = .ok (.iadd, 1) := dk_96 (dk_at dksX6_carriesPlainly_1 13 rfl rfl)
theorem dX6_carriesPlainly_36 : decode cX6_carriesPlainly 36 = .ok (.iconst 0, 1) := dk_3 (dk_at dksX6_carriesPlainly_1 14 rfl rfl)
theorem dX6_carriesPlainly_37 : decode cX6_carriesPlainly 37 = .ok (.iastore, 1) := dk_79 (dk_at dksX6_carriesPlainly_1 15 rfl rfl)
theorem dX6_carriesPlainly_38 : decode cX6_carriesPlainly 38 = .ok (.aload_n 0, 1) := dk_42 (dk_at dksX6_carriesPlainly_1 16 rfl rfl)
theorem dX6_carriesPlainly_39 : decode cX6_carriesPlainly 39 = .ok (.getfield 28, 3) := dk_180 0 28 (dk_at dksX6_carriesPlainly_1 17 rfl rfl)
theorem dX6_carriesPlainly_42 : decode cX6_carriesPlainly 42 = .ok (.iconst 4, 1) := dk_7 (dk_at dksX6_carriesPlainly_1 20 rfl rfl)
theorem dX6_carriesPlainly_43 : decode cX6_carriesPlainly 43 = .ok (.iload_n 1, 1) := dk_27 (dk_at dksX6_carriesPlainly_1 21 rfl rfl)
theorem dX6_carriesPlainly_44 : decode cX6_carriesPlainly 44 = .ok (.imul, 1) := dk_104 (dk_at dksX6_carriesPlainly_1 22 rfl rfl)
theorem dX6_carriesPlainly_45 : decode cX6_carriesPlainly 45 = .ok (.iload_n 3, 1) := dk_29 (dk_at dksX6_carriesPlainly_1 23 rfl rfl)
theorem dX6_carriesPlainly_46 : decode cX6_carriesPlainly 46 = .ok (.iadd, 1) := dk_96 (dk_at dksX6_carriesPlainly_2 0 rfl rfl)
theorem dX6_carriesPlainly_47 : decode cX6_carriesPlainly 47 = .ok (.iload_n 3, 1) := dk_29 (dk_at dksX6_carriesPlainly_2 1 rfl rfl)
theorem dX6_carriesPlainly_48 : decode cX6_carriesPlainly 48 = .ok (.aload_n 0, 1) := dk_42 (dk_at dksX6_carriesPlainly_2 2 rfl rfl)
theorem dX6_carriesPlainly_49 : decode cX6_carriesPlainly 49 = .ok (.getfield 18, 3) := dk_180 0 18 (dk_at dksX6_carriesPlainly_2 3 rfl rfl)
theorem dX6_carriesPlainly_52 : decode cX6_carriesPlainly 52 = .ok (.iload_n 1, 1) := dk_27 (dk_at dksX6_carriesPlainly_2 6 rfl rfl)
theorem dX6_carriesPlainly_53 : decode cX6_carriesPlainly 53 = .ok (.iaload, 1) := dk_46 (dk_at dksX6_carriesPlainly_2 7 rfl rfl)
theorem dX6_carriesPlainly_54 : decode cX6_carriesPlainly 54 = .ok (.if_icmp .ge 7, 3) := dk_162 0 7 (dk_at dksX6_carriesPlainly_2 8 rfl rfl)
theorem dX6_carriesPlainly_57 : decode cX6_carriesPlainly 57 = .ok (.iload_n 3, 1) := dk_29 (dk_at dksX6_carriesPlainly_2 11 rfl rfl)
theorem dX6_carriesPlainly_58 : decode cX6_carriesPlainly 58 = .ok (.goto 4, 3) := dk_167 0 4 (dk_at dksX6_carriesPlainly_2 12 rfl rfl)
theorem dX6_carriesPlainly_61 : decode cX6_carriesPlainly 61 = .ok (.iconst (-1), 1) := dk_2 (dk_at dksX6_carriesPlainly_2 15 rfl rfl)
theorem dX6_carriesPlainly_62 : decode cX6_carriesPlainly 62 = .ok (.iastore, 1) := dk_79 (dk_at dksX6_carriesPlainly_2 16 rfl rfl)
theorem dX6_carriesPlainly_63 : decode cX6_carriesPlainly 63 = .ok (.aload_n 0, 1) := dk_42 (dk_at dksX6_carriesPlainly_2 17 rfl rfl)
theorem dX6_carriesPlainly_64 : decode cX6_carriesPlainly 64 = .ok (.getfield 31, 3) := dk_180 0 31 (dk_at dksX6_carriesPlainly_2 18 rfl rfl)
theorem dX6_carriesPlainly_67 : decode cX6_carriesPlainly 67 = .ok (.iconst 4, 1) := dk_7 (dk_at dksX6_carriesPlainly_2 21 rfl rfl)
theorem dX6_carriesPlainly_68 : decode cX6_carriesPlainly 68 = .ok (.iload_n 1, 1) := dk_27 (dk_at dksX6_carriesPlainly_2 22 rfl rfl)
theorem dX6_carriesPlainly_69 : decode cX6_carriesPlainly 69 = .ok (.imul, 1) := dk_104 (dk_at dksX6_carriesPlainly_2 23 rfl rfl)
theorem dX6_carriesPlainly_70 : decode cX6_carriesPlainly 70 = .ok (.iload_n 3, 1) := dk_29 (dk_at dksX6_carriesPlainly_3 0 rfl rfl)
theorem dX6_carriesPlainly_71 : decode cX6_carriesPlainly 71 = .ok (.iadd, 1) := dk_96 (dk_at dksX6_carriesPlainly_3 1 rfl rfl)
theorem dX6_carriesPlainly_72 : decode cX6_carriesPlainly 72 = .ok (.iconst 0, 1) := dk_3 (dk_at dksX6_carriesPlainly_3 2 rfl rfl)
theorem dX6_carriesPlainly_73 : decode cX6_carriesPlainly 73 = .ok (.iastore, 1) := dk_79 (dk_at dksX6_carriesPlainly_3 3 rfl rfl)
theorem dX6_carriesPlainly_74 : decode cX6_carriesPlainly 74 = .ok (.iinc 3 1, 3) := dk_132 3 1 (dk_at dksX6_carriesPlainly_3 4 rfl rfl)
theorem dX6_carriesPlainly_77 : decode cX6_carriesPlainly 77 = .ok (.goto (-75), 3) := dk_167 255 181 (dk_at dksX6_carriesPlainly_3 7 rfl rfl)
theorem dX6_carriesPlainly_80 : decode cX6_carriesPlainly 80 = .ok (.return_, 1) := dk_177 (dk_at dksX6_carriesPlainly_3 10 rfl rfl)
abbrev cX6_length : ByteArray := prog_30_method_3_code
def yX6_length : MethodName := ⟨RX6, "length", "(I)I"⟩
def dkwX6_length_0 : List UInt8 := [42, 180, 0, 12, 27, 182, 0, 41, 192, 0, 9, 182, 0, 55, 172]
abbrev dktX6_length_0 : List UInt8 := dkwX6_length_0 ++ []
theorem dksX6_length_0 : cX6_length.data.toList.drop 0 = dktX6_length_0 := by decide +kernel
theorem dX6_length_0 : decode cX6_length 0 = .ok (.aload_n 0, 1) := dk_42 (dk_at dksX6_length_0 0 rfl rfl)
theorem dX6_length_1 : decode cX6_length 1 = .ok (.getfield 12, 3) := dk_180 0 12 (dk_at dksX6_length_0 1 rfl rfl)
theorem dX6_length_4 : decode cX6_length 4 = .ok (.iload_n 1, 1) := dk_27 (dk_at dksX6_length_0 4 rfl rfl)
theorem dX6_length_5 : decode cX6_length 5 = .ok (.invokevirtual 41, 3) := dk_182 0 41 (dk_at dksX6_length_0 5 rfl rfl)
theorem dX6_length_8 : decode cX6_length 8 = .ok (.checkcast 9, 3) := dk_192 0 9 (dk_at dksX6_length_0 8 rfl rfl)
theorem dX6_length_11 : decode cX6_length 11 = .ok (.invokevirtual 55, 3) := dk_182 0 55 (dk_at dksX6_length_0 11 rfl rfl)
theorem dX6_length_14 : decode cX6_length 14 = .ok (.ireturn, 1) := dk_172 (dk_at dksX6_length_0 14 rfl rfl)
theorem q79 : (Jvm.Cond.initialized "SwapWhileModel$Version") ∈ lw_all := lw_g (lw_at lw_m1 15 rfl) rfl
theorem q242 : (Jvm.Cond.selects "SwapWhileModel$Version" ({ cls := "java/lang/Object", name := "getClass", desc := "()Ljava/lang/Class;" } : Jvm.MethodName) ({ cls := "java/lang/Object", name := "getClass", desc := "()Ljava/lang/Class;" } : Jvm.MethodName)) ∈ lw_all := lw_g (lw_at lw_m1 178 rfl) rfl
theorem q816 : (Jvm.Cond.selects "SwapWhileModel$Version" ({ cls := "java/lang/Object", name := "equals", desc := "(Ljava/lang/Object;)Z" } : Jvm.MethodName) ({ cls := "java/lang/Object", name := "equals", desc := "(Ljava/lang/Object;)Z" } : Jvm.MethodName)) ∈ lw_all := lw_g (lw_at lw_m4 32 rfl) rfl
theorem q1667 : (Jvm.Cond.instantiable "SwapWhileModel$Version" (7 : Nat)) ∈ lw_all := lw_g (lw_at lw_m7 163 rfl) rfl
theorem q1669 : (Jvm.Cond.instanceMethod ({ cls := "SwapWhileModel$Version", name := "<init>", desc := "(LSwapWhileModel$Version;)V" } : Jvm.MethodName)) ∈ lw_all := lw_g (lw_at lw_m7 165 rfl) rfl
theorem q1670 : (Jvm.Cond.code ({ cls := "SwapWhileModel$Version", name := "<init>", desc := "(LSwapWhileModel$Version;)V" } : Jvm.MethodName) prog_30_method_1_code (3 : Nat) (Option.none : Option Jvm.ClassFile.FieldType)) ∈ lw_all := lw_g (lw_at lw_m7 166 rfl) rfl
theorem q1671 : (Jvm.Cond.methodLink "SwapWhileModel$Version" (3 : Nat) ({ cls := "java/lang/Object", name := "<init>", desc := "()V" } : Jvm.MethodName)) ∈ lw_all := lw_g (lw_at lw_m7 167 rfl) rfl
theorem q1672 : (Jvm.Cond.classLink "SwapWhileModel$Version" (9 : Nat) "java/util/ArrayList") ∈ lw_all := lw_g (lw_at lw_m7 168 rfl) rfl
theorem q1673 : (Jvm.Cond.methodLink "SwapWhileModel$Version" (11 : Nat) ({ cls := "java/util/ArrayList", name := "<init>", desc := "()V" } : Jvm.MethodName)) ∈ lw_all := lw_g (lw_at lw_m7 169 rfl) rfl
theorem q1674 : (Jvm.Cond.methodLink "SwapWhileModel$Version" (37 : Nat) ({ cls := "java/util/ArrayList", name := "add", desc := "(Ljava/lang/Object;)Z" } : Jvm.MethodName)) ∈ lw_all := lw_g (lw_at lw_m7 170 rfl) rfl
theorem q1675 : (Jvm.Cond.methodLink "SwapWhileModel$Version" (41 : Nat) ({ cls := "java/util/ArrayList", name := "get", desc := "(I)Ljava/lang/Object;" } : Jvm.MethodName)) ∈ lw_all := lw_g (lw_at lw_m7 171 rfl) rfl
theorem q1676 : (Jvm.Cond.classLink "SwapWhileModel$Version" (45 : Nat) "java/util/Collection") ∈ lw_all := lw_g (lw_at lw_m7 172 rfl) rfl
theorem q1677 : (Jvm.Cond.methodLink "SwapWhileModel$Version" (47 : Nat) ({ cls := "java/util/ArrayList", name := "addAll", desc := "(Ljava/util/Collection;)Z" } : Jvm.MethodName)) ∈ lw_all := lw_g (lw_at lw_m7 173 rfl) rfl
theorem q1678 : (Jvm.Cond.methodLink "SwapWhileModel$Version" (51 : Nat) ({ cls := "SwapWhileModel$Version", name := "carriesPlainly", desc := "(II)V" } : Jvm.MethodName)) ∈ lw_all := lw_g (lw_at lw_m7 174 rfl) rfl
theorem q1679 : (Jvm.Cond.instanceMethod ({ cls := "SwapWhileModel$Version", name := "carriesPlainly", desc := "(II)V" } : Jvm.MethodName)) ∈ lw_all := lw_g (lw_at lw_m7 175 rfl) rfl
theorem q1680 : (Jvm.Cond.selects "SwapWhileModel$Version" ({ cls := "SwapWhileModel$Version", name := "carriesPlainly", desc := "(II)V" } : Jvm.MethodName) ({ cls := "SwapWhileModel$Version", name := "carriesPlainly", desc := "(II)V" } : Jvm.MethodName)) ∈ lw_all := lw_g (lw_at lw_m7 176 rfl) rfl
theorem q1681 : (Jvm.Cond.code ({ cls := "SwapWhileModel$Version", name := "carriesPlainly", desc := "(II)V" } : Jvm.MethodName) prog_30_method_2_code (4 : Nat) (Option.none : Option Jvm.ClassFile.FieldType)) ∈ lw_all := lw_g (lw_at lw_m7 177 rfl) rfl
theorem q1682 : (Jvm.Cond.fieldLink "SwapWhileModel$Version" (12 : Nat) "SwapWhileModel$Version" "functions" "Ljava/util/ArrayList;") ∈ lw_all := lw_g (lw_at lw_m7 178 rfl) rfl
theorem q1684 : (Jvm.Cond.fieldLink "SwapWhileModel$Version" (18 : Nat) "SwapWhileModel$Version" "fields" "[I") ∈ lw_all := lw_g (lw_at lw_m7 180 rfl) rfl
theorem q1686 : (Jvm.Cond.fieldLink "SwapWhileModel$Version" (22 : Nat) "SwapWhileModel$Version" "from" "[I") ∈ lw_all := lw_g (lw_at lw_m7 182 rfl) rfl
theorem q1688 : (Jvm.Cond.fieldLink "SwapWhileModel$Version" (25 : Nat) "SwapWhileModel$Version" "more" "[I") ∈ lw_all := lw_g (lw_at lw_m7 184 rfl) rfl
theorem q1690 : (Jvm.Cond.fieldLink "SwapWhileModel$Version" (28 : Nat) "SwapWhileModel$Version" "backFrom" "[I") ∈ lw_all := lw_g (lw_at lw_m7 186 rfl) rfl
theorem q1692 : (Jvm.Cond.fieldLink "SwapWhileModel$Version" (31 : Nat) "SwapWhileModel$Version" "backMore" "[I") ∈ lw_all := lw_g (lw_at lw_m7 188 rfl) rfl
theorem q1694 : (Jvm.Cond.fieldLink "SwapWhileModel$Version" (34 : Nat) "SwapWhileModel$Version" "places" "[I") ∈ lw_all := lw_g (lw_at lw_m7 190 rfl) rfl
theorem q1696 : (Jvm.Cond.laysFinal "SwapWhileModel$Version" "SwapWhileModel$Version" "functions" "Ljava/util/ArrayList;") ∈ lw_all := lw_g (lw_at lw_m7 192 rfl) rfl
theorem q1697 : (Jvm.Cond.soleField "SwapWhileModel$Version" "functions") ∈ lw_all := lw_g (lw_at lw_m7 193 rfl) rfl
theorem q1698 : (Jvm.Cond.laysFinal "SwapWhileModel$Version" "SwapWhileModel$Version" "fields" "[I") ∈ lw_all := lw_g (lw_at lw_m7 194 rfl) rfl
theorem q1699 : (Jvm.Cond.soleField "SwapWhileModel$Version" "fields") ∈ lw_all := lw_g (lw_at lw_m7 195 rfl) rfl
theorem q1700 : (Jvm.Cond.laysFinal "SwapWhileModel$Version" "SwapWhileModel$Version" "from" "[I") ∈ lw_all := lw_g (lw_at lw_m7 196 rfl) rfl
theorem q1701 : (Jvm.Cond.soleField "SwapWhileModel$Version" "from") ∈ lw_all := lw_g (lw_at lw_m7 197 rfl) rfl
theorem q1702 : (Jvm.Cond.laysFinal "SwapWhileModel$Version" "SwapWhileModel$Version" "more" "[I") ∈ lw_all := lw_g (lw_at lw_m7 198 rfl) rfl
theorem q1703 : (Jvm.Cond.soleField "SwapWhileModel$Version" "more") ∈ lw_all := lw_g (lw_at lw_m7 199 rfl) rfl
theorem q1704 : (Jvm.Cond.laysFinal "SwapWhileModel$Version" "SwapWhileModel$Version" "backFrom" "[I") ∈ lw_all := lw_g (lw_at lw_m7 200 rfl) rfl
theorem q1705 : (Jvm.Cond.soleField "SwapWhileModel$Version" "backFrom") ∈ lw_all := lw_g (lw_at lw_m7 201 rfl) rfl
theorem q1706 : (Jvm.Cond.laysFinal "SwapWhileModel$Version" "SwapWhileModel$Version" "backMore" "[I") ∈ lw_all := lw_g (lw_at lw_m7 202 rfl) rfl
theorem q1707 : (Jvm.Cond.soleField "SwapWhileModel$Version" "backMore") ∈ lw_all := lw_g (lw_at lw_m7 203 rfl) rfl
theorem q1708 : (Jvm.Cond.laysFinal "SwapWhileModel$Version" "SwapWhileModel$Version" "places" "[I") ∈ lw_all := lw_g (lw_at lw_m7 204 rfl) rfl
theorem q1709 : (Jvm.Cond.soleField "SwapWhileModel$Version" "places") ∈ lw_all := lw_g (lw_at lw_m7 205 rfl) rfl
theorem q1710 : (Jvm.Cond.superclass "SwapWhileModel$Version" "java/lang/Object") ∈ lw_all := lw_g (lw_at lw_m7 206 rfl) rfl
theorem q1794 : (Jvm.Cond.instanceMethod ({ cls := "SwapWhileModel$Version", name := "length", desc := "(I)I" } : Jvm.MethodName)) ∈ lw_all := lw_g (lw_at lw_m8 50 rfl) rfl
theorem q1795 : (Jvm.Cond.selects "SwapWhileModel$Version" ({ cls := "SwapWhileModel$Version", name := "length", desc := "(I)I" } : Jvm.MethodName) ({ cls := "SwapWhileModel$Version", name := "length", desc := "(I)I" } : Jvm.MethodName)) ∈ lw_all := lw_g (lw_at lw_m8 51 rfl) rfl
theorem q1796 : (Jvm.Cond.code ({ cls := "SwapWhileModel$Version", name := "length", desc := "(I)I" } : Jvm.MethodName) prog_30_method_3_code (2 : Nat) (Option.some Jvm.ClassFile.FieldType.int)) ∈ lw_all := lw_g (lw_at lw_m8 52 rfl) rfl
theorem q1797 : (Jvm.Cond.methodLink "SwapWhileModel$Version" (55 : Nat) ({ cls := "java/util/ArrayList", name := "size", desc := "()I" } : Jvm.MethodName)) ∈ lw_all := lw_g (lw_at lw_m8 53 rfl) rfl
theorem q2220 : (Jvm.Cond.castable "SwapWhileModel$Version" "java/lang/Object") ∈ lw_tbl := lw_at lw_m9 236 rfl
theorem in_X6 : ∀ w ∈ wsX60, w ∈ lw_all := lw_in wsX60 [1696, 1698, 1700, 1702, 1704, 1706, 1708] (by decide +kernel) (by decide +kernel)

/-! SwapWhileModel$Lane -/
set_option maxRecDepth 100000
def RX7 : String := "SwapWhileModel$Lane"
def TX7 : u_T := fun k => match k with
  | 0 => ("SwapWhileModel$Lane", "state", "C", false)
  | _ => ("SwapWhileModel$Lane", "frames", "Ljava/util/ArrayList;", true)
def tyX7 : Nat → FieldType := fun k => match k with
  | 0 => .char
  | _ => .object "java/util/ArrayList"
abbrev wsX70 : List Cond := u_ws RX7 TX7 2
theorem nmX7 : ∀ a, a < 2 → ∀ b, b < 2 → a ≠ b → (TX7 a).2.1 ≠ (TX7 b).2.1 := by decide +kernel
theorem tyX7_ok : ∀ k, k < 2 → parseFieldDescriptor (TX7 k).2.2.1 = some (tyX7 k) := by decide +kernel
abbrev cX7_init : ByteArray := prog_28_method_1_code
def yX7_init : MethodName := ⟨RX7, "<init>", "()V"⟩
def dkwX7_init_0 : List UInt8 := [42, 183, 0, 1, 42, 16, 110, 181, 0, 7, 42, 187, 0, 13, 89, 183, 0, 15, 181, 0, 16, 177]
abbrev dktX7_init_0 : List UInt8 := dkwX7_init_0 ++ []
theorem dksX7_init_0 : cX7_init.data.toList.drop 0 = dktX7_init_0 := by decide +kernel
theorem dX7_init_0 : decode cX7_init 0 = .ok (.aload_n 0, 1) := dk_42 (dk_at dksX7_init_0 0 rfl rfl)
theorem dX7_init_1 : decode cX7_init 1 = .ok (.invokespecial 1, 3) := dk_183 0 1 (dk_at dksX7_init_0 1 rfl rfl)
theorem dX7_init_4 : decode cX7_init 4 = .ok (.aload_n 0, 1) := dk_42 (dk_at dksX7_init_0 4 rfl rfl)
theorem dX7_init_5 : decode cX7_init 5 = .ok (.bipush 110, 2) := dk_16 110 (dk_at dksX7_init_0 5 rfl rfl)
theorem dX7_init_7 : decode cX7_init 7 = .ok (.putfield 7, 3) := dk_181 0 7 (dk_at dksX7_init_0 7 rfl rfl)
theorem dX7_init_10 : decode cX7_init 10 = .ok (.aload_n 0, 1) := dk_42 (dk_at dksX7_init_0 10 rfl rfl)
theorem dX7_init_11 : decode cX7_init 11 = .ok (.new 13, 3) := dk_187 0 13 (dk_at dksX7_init_0 11 rfl rfl)
theorem dX7_init_14 : decode cX7_init 14 = .ok (.dup, 1) := dk_89 (dk_at dksX7_init_0 14 rfl rfl)
theorem dX7_init_15 : decode cX7_init 15 = .ok (.invokespecial 15, 3) := dk_183 0 15 (dk_at dksX7_init_0 15 rfl rfl)
theorem dX7_init_18 : decode cX7_init 18 = .ok (.putfield 16, 3) := dk_181 0 16 (dk_at dksX7_init_0 18 rfl rfl)
theorem dX7_init_21 : decode cX7_init 21 = .ok (.return_, 1) := dk_177 (dk_at dksX7_init_0 21 rfl rfl)
abbrev cX7_isOpen : ByteArray := prog_28_method_2_code
def yX7_isOpen : MethodName := ⟨RX7, "isOpen", "()Z"⟩
def dkwX7_isOpen_0 : List UInt8 := [42, 180, 0, 7, 16, 114, 159, 0, 12, 42, 180, 0, 7, 16, 119, 160, 0, 7, 4, 167, 0, 4, 3, 172]
abbrev dktX7_isOpen_0 : List UInt8 := dkwX7_isOpen_0 ++ []
theorem dksX7_isOpen_0 : cX7_isOpen.data.toList.drop 0 = dktX7_isOpen_0 := by decide +kernel
theorem dX7_isOpen_0 : decode cX7_isOpen 0 = .ok (.aload_n 0, 1) := dk_42 (dk_at dksX7_isOpen_0 0 rfl rfl)
theorem dX7_isOpen_1 : decode cX7_isOpen 1 = .ok (.getfield 7, 3) := dk_180 0 7 (dk_at dksX7_isOpen_0 1 rfl rfl)
theorem dX7_isOpen_4 : decode cX7_isOpen 4 = .ok (.bipush 114, 2) := dk_16 114 (dk_at dksX7_isOpen_0 4 rfl rfl)
theorem dX7_isOpen_6 : decode cX7_isOpen 6 = .ok (.if_icmp .eq 12, 3) := dk_159 0 12 (dk_at dksX7_isOpen_0 6 rfl rfl)
theorem dX7_isOpen_9 : decode cX7_isOpen 9 = .ok (.aload_n 0, 1) := dk_42 (dk_at dksX7_isOpen_0 9 rfl rfl)
theorem dX7_isOpen_10 : decode cX7_isOpen 10 = .ok (.getfield 7, 3) := dk_180 0 7 (dk_at dksX7_isOpen_0 10 rfl rfl)
theorem dX7_isOpen_13 : decode cX7_isOpen 13 = .ok (.bipush 119, 2) := dk_16 119 (dk_at dksX7_isOpen_0 13 rfl rfl)
theorem dX7_isOpen_15 : decode cX7_isOpen 15 = .ok (.if_icmp .ne 7, 3) := dk_160 0 7 (dk_at dksX7_isOpen_0 15 rfl rfl)
theorem dX7_isOpen_18 : decode cX7_isOpen 18 = .ok (.iconst 1, 1) := dk_4 (dk_at dksX7_isOpen_0 18 rfl rfl)
theorem dX7_isOpen_19 : decode cX7_isOpen 19 = .ok (.goto 4, 3) := dk_167 0 4 (dk_at dksX7_isOpen_0 19 rfl rfl)
theorem dX7_isOpen_22 : decode cX7_isOpen 22 = .ok (.iconst 0, 1) := dk_3 (dk_at dksX7_isOpen_0 22 rfl rfl)
theorem dX7_isOpen_23 : decode cX7_isOpen 23 = .ok (.ireturn, 1) := dk_172 (dk_at dksX7_isOpen_0 23 rfl rfl)
abbrev cX7_ends : ByteArray := prog_28_method_3_code
def yX7_ends : MethodName := ⟨RX7, "ends", "(C)V"⟩
def dkwX7_ends_0 : List UInt8 := [42, 27, 181, 0, 7, 42, 180, 0, 16, 182, 0, 20, 177]
abbrev dktX7_ends_0 : List UInt8 := dkwX7_ends_0 ++ []
theorem dksX7_ends_0 : cX7_ends.data.toList.drop 0 = dktX7_ends_0 := by decide +kernel
theorem dX7_ends_0 : decode cX7_ends 0 = .ok (.aload_n 0, 1) := dk_42 (dk_at dksX7_ends_0 0 rfl rfl)
theorem dX7_ends_1 : decode cX7_ends 1 = .ok (.iload_n 1, 1) := dk_27 (dk_at dksX7_ends_0 1 rfl rfl)
theorem dX7_ends_2 : decode cX7_ends 2 = .ok (.putfield 7, 3) := dk_181 0 7 (dk_at dksX7_ends_0 2 rfl rfl)
theorem dX7_ends_5 : decode cX7_ends 5 = .ok (.aload_n 0, 1) := dk_42 (dk_at dksX7_ends_0 5 rfl rfl)
theorem dX7_ends_6 : decode cX7_ends 6 = .ok (.getfield 16, 3) := dk_180 0 16 (dk_at dksX7_ends_0 6 rfl rfl)
theorem dX7_ends_9 : decode cX7_ends 9 = .ok (.invokevirtual 20, 3) := dk_182 0 20 (dk_at dksX7_ends_0 9 rfl rfl)
theorem dX7_ends_12 : decode cX7_ends 12 = .ok (.return_, 1) := dk_177 (dk_at dksX7_ends_0 12 rfl rfl)
theorem q80 : (Jvm.Cond.initialized "SwapWhileModel$Lane") ∈ lw_all := lw_g (lw_at lw_m1 16 rfl) rfl
theorem q240 : (Jvm.Cond.selects "SwapWhileModel$Lane" ({ cls := "java/lang/Object", name := "getClass", desc := "()Ljava/lang/Class;" } : Jvm.MethodName) ({ cls := "java/lang/Object", name := "getClass", desc := "()Ljava/lang/Class;" } : Jvm.MethodName)) ∈ lw_all := lw_g (lw_at lw_m1 176 rfl) rfl
theorem q814 : (Jvm.Cond.selects "SwapWhileModel$Lane" ({ cls := "java/lang/Object", name := "equals", desc := "(Ljava/lang/Object;)Z" } : Jvm.MethodName) ({ cls := "java/lang/Object", name := "equals", desc := "(Ljava/lang/Object;)Z" } : Jvm.MethodName)) ∈ lw_all := lw_g (lw_at lw_m4 30 rfl) rfl
theorem q1714 : (Jvm.Cond.instantiable "SwapWhileModel$Lane" (2 : Nat)) ∈ lw_all := lw_g (lw_at lw_m7 210 rfl) rfl
theorem q1716 : (Jvm.Cond.instanceMethod ({ cls := "SwapWhileModel$Lane", name := "<init>", desc := "()V" } : Jvm.MethodName)) ∈ lw_all := lw_g (lw_at lw_m7 212 rfl) rfl
theorem q1717 : (Jvm.Cond.code ({ cls := "SwapWhileModel$Lane", name := "<init>", desc := "()V" } : Jvm.MethodName) prog_28_method_1_code (1 : Nat) (Option.none : Option Jvm.ClassFile.FieldType)) ∈ lw_all := lw_g (lw_at lw_m7 213 rfl) rfl
theorem q1718 : (Jvm.Cond.methodLink "SwapWhileModel$Lane" (1 : Nat) ({ cls := "java/lang/Object", name := "<init>", desc := "()V" } : Jvm.MethodName)) ∈ lw_all := lw_g (lw_at lw_m7 214 rfl) rfl
theorem q1719 : (Jvm.Cond.classLink "SwapWhileModel$Lane" (13 : Nat) "java/util/ArrayList") ∈ lw_all := lw_g (lw_at lw_m7 215 rfl) rfl
theorem q1720 : (Jvm.Cond.methodLink "SwapWhileModel$Lane" (15 : Nat) ({ cls := "java/util/ArrayList", name := "<init>", desc := "()V" } : Jvm.MethodName)) ∈ lw_all := lw_g (lw_at lw_m7 216 rfl) rfl
theorem q1721 : (Jvm.Cond.fieldLink "SwapWhileModel$Lane" (7 : Nat) "SwapWhileModel$Lane" "state" "C") ∈ lw_all := lw_g (lw_at lw_m7 217 rfl) rfl
theorem q1723 : (Jvm.Cond.fieldLink "SwapWhileModel$Lane" (16 : Nat) "SwapWhileModel$Lane" "frames" "Ljava/util/ArrayList;") ∈ lw_all := lw_g (lw_at lw_m7 219 rfl) rfl
theorem q1725 : (Jvm.Cond.lays "SwapWhileModel$Lane" "SwapWhileModel$Lane" "state" "C") ∈ lw_all := lw_g (lw_at lw_m7 221 rfl) rfl
theorem q1726 : (Jvm.Cond.soleField "SwapWhileModel$Lane" "state") ∈ lw_all := lw_g (lw_at lw_m7 222 rfl) rfl
theorem q1727 : (Jvm.Cond.laysFinal "SwapWhileModel$Lane" "SwapWhileModel$Lane" "frames" "Ljava/util/ArrayList;") ∈ lw_all := lw_g (lw_at lw_m7 223 rfl) rfl
theorem q1728 : (Jvm.Cond.soleField "SwapWhileModel$Lane" "frames") ∈ lw_all := lw_g (lw_at lw_m7 224 rfl) rfl
theorem q1729 : (Jvm.Cond.superclass "SwapWhileModel$Lane" "java/lang/Object") ∈ lw_all := lw_g (lw_at lw_m7 225 rfl) rfl
theorem q1881 : (Jvm.Cond.instanceMethod ({ cls := "SwapWhileModel$Lane", name := "isOpen", desc := "()Z" } : Jvm.MethodName)) ∈ lw_all := lw_g (lw_at lw_m8 137 rfl) rfl
theorem q1882 : (Jvm.Cond.selects "SwapWhileModel$Lane" ({ cls := "SwapWhileModel$Lane", name := "isOpen", desc := "()Z" } : Jvm.MethodName) ({ cls := "SwapWhileModel$Lane", name := "isOpen", desc := "()Z" } : Jvm.MethodName)) ∈ lw_all := lw_g (lw_at lw_m8 138 rfl) rfl
theorem q1883 : (Jvm.Cond.code ({ cls := "SwapWhileModel$Lane", name := "isOpen", desc := "()Z" } : Jvm.MethodName) prog_28_method_2_code (1 : Nat) (Option.some Jvm.ClassFile.FieldType.boolean)) ∈ lw_all := lw_g (lw_at lw_m8 139 rfl) rfl
theorem q1885 : (Jvm.Cond.instanceMethod ({ cls := "SwapWhileModel$Lane", name := "ends", desc := "(C)V" } : Jvm.MethodName)) ∈ lw_all := lw_g (lw_at lw_m8 141 rfl) rfl
theorem q1886 : (Jvm.Cond.selects "SwapWhileModel$Lane" ({ cls := "SwapWhileModel$Lane", name := "ends", desc := "(C)V" } : Jvm.MethodName) ({ cls := "SwapWhileModel$Lane", name := "ends", desc := "(C)V" } : Jvm.MethodName)) ∈ lw_all := lw_g (lw_at lw_m8 142 rfl) rfl
theorem q1887 : (Jvm.Cond.code ({ cls := "SwapWhileModel$Lane", name := "ends", desc := "(C)V" } : Jvm.MethodName) prog_28_method_3_code (2 : Nat) (Option.none : Option Jvm.ClassFile.FieldType)) ∈ lw_all := lw_g (lw_at lw_m8 143 rfl) rfl
theorem q1888 : (Jvm.Cond.methodLink "SwapWhileModel$Lane" (20 : Nat) ({ cls := "java/util/ArrayList", name := "clear", desc := "()V" } : Jvm.MethodName)) ∈ lw_all := lw_g (lw_at lw_m8 144 rfl) rfl
theorem q2221 : (Jvm.Cond.castable "SwapWhileModel$Lane" "java/lang/Object") ∈ lw_tbl := lw_at lw_m9 237 rfl
theorem in_X7 : ∀ w ∈ wsX70, w ∈ lw_all := lw_in wsX70 [1725, 1727] (by decide +kernel) (by decide +kernel)

/-! SwapWhileModel$Code -/
set_option maxRecDepth 100000
def RX11 : String := "SwapWhileModel$Code"
def TX11 : u_T := fun k => match k with
  | 0 => ("SwapWhileModel$Code", "kind", "C", true)
  | 1 => ("SwapWhileModel$Code", "a", "I", true)
  | 2 => ("SwapWhileModel$Code", "b", "I", true)
  | _ => ("SwapWhileModel$Code", "c", "I", true)
def tyX11 : Nat → FieldType := fun k => match k with
  | 0 => .char
  | 1 => .int
  | 2 => .int
  | _ => .int
abbrev wsX110 : List Cond := u_ws RX11 TX11 4
theorem nmX11 : ∀ a, a < 4 → ∀ b, b < 4 → a ≠ b → (TX11 a).2.1 ≠ (TX11 b).2.1 := by decide +kernel
theorem tyX11_ok : ∀ k, k < 4 → parseFieldDescriptor (TX11 k).2.2.1 = some (tyX11 k) := by decide +kernel
abbrev cX11_init : ByteArray := prog_26_method_1_code
def yX11_init : MethodName := ⟨RX11, "<init>", "(CIII)V"⟩
def dkwX11_init_1 : List UInt8 := [181, 0, 22, 177]
abbrev dktX11_init_1 : List UInt8 := dkwX11_init_1 ++ []
def dkwX11_init_0 : List UInt8 := [42, 183, 0, 3, 42, 27, 181, 0, 9, 42, 28, 181, 0, 15, 42, 29, 181, 0, 19, 42, 21, 4]
abbrev dktX11_init_0 : List UInt8 := dkwX11_init_0 ++ dktX11_init_1
theorem dksX11_init_0 : cX11_init.data.toList.drop 0 = dktX11_init_0 := by decide +kernel
theorem dksX11_init_1 : cX11_init.data.toList.drop 22 = dktX11_init_1 := dk_seg dksX11_init_0 22 rfl rfl
theorem dX11_init_0 : decode cX11_init 0 = .ok (.aload_n 0, 1) := dk_42 (dk_at dksX11_init_0 0 rfl rfl)
theorem dX11_init_1 : decode cX11_init 1 = .ok (.invokespecial 3, 3) := dk_183 0 3 (dk_at dksX11_init_0 1 rfl rfl)
theorem dX11_init_4 : decode cX11_init 4 = .ok (.aload_n 0, 1) := dk_42 (dk_at dksX11_init_0 4 rfl rfl)
theorem dX11_init_5 : decode cX11_init 5 = .ok (.iload_n 1, 1) := dk_27 (dk_at dksX11_init_0 5 rfl rfl)
theorem dX11_init_6 : decode cX11_init 6 = .ok (.putfield 9, 3) := dk_181 0 9 (dk_at dksX11_init_0 6 rfl rfl)
theorem dX11_init_9 : decode cX11_init 9 = .ok (.aload_n 0, 1) := dk_42 (dk_at dksX11_init_0 9 rfl rfl)
theorem dX11_init_10 : decode cX11_init 10 = .ok (.iload_n 2, 1) := dk_28 (dk_at dksX11_init_0 10 rfl rfl)
theorem dX11_init_11 : decode cX11_init 11 = .ok (.putfield 15, 3) := dk_181 0 15 (dk_at dksX11_init_0 11 rfl rfl)
theorem dX11_init_14 : decode cX11_init 14 = .ok (.aload_n 0, 1) := dk_42 (dk_at dksX11_init_0 14 rfl rfl)
theorem dX11_init_15 : decode cX11_init 15 = .ok (.iload_n 3, 1) := dk_29 (dk_at dksX11_init_0 15 rfl rfl)
theorem dX11_init_16 : decode cX11_init 16 = .ok (.putfield 19, 3) := dk_181 0 19 (dk_at dksX11_init_0 16 rfl rfl)
theorem dX11_init_19 : decode cX11_init 19 = .ok (.aload_n 0, 1) := dk_42 (dk_at dksX11_init_0 19 rfl rfl)
theorem dX11_init_20 : decode cX11_init 20 = .ok (.iload 4, 2) := dk_21 4 (dk_at dksX11_init_0 20 rfl rfl)
theorem dX11_init_22 : decode cX11_init 22 = .ok (.putfield 22, 3) := dk_181 0 22 (dk_at dksX11_init_1 0 rfl rfl)
theorem dX11_init_25 : decode cX11_init 25 = .ok (.return_, 1) := dk_177 (dk_at dksX11_init_1 3 rfl rfl)
abbrev cX11_objects : ByteArray := prog_26_method_4_code
def yX11_objects : MethodName := ⟨RX11, "objects", "()I"⟩
def dkwX11_objects_1 : List UInt8 := [159, 0, 12, 42, 180, 0, 9, 16, 112, 160, 0, 13, 42, 180, 0, 19, 16, 10, 108, 167, 0, 4, 2, 172]
abbrev dktX11_objects_1 : List UInt8 := dkwX11_objects_1 ++ []
def dkwX11_objects_0 : List UInt8 := [42, 180, 0, 9, 16, 110, 160, 0, 10, 42, 180, 0, 19, 167, 0, 32, 42, 180, 0, 9, 16, 103]
abbrev dktX11_objects_0 : List UInt8 := dkwX11_objects_0 ++ dktX11_objects_1
theorem dksX11_objects_0 : cX11_objects.data.toList.drop 0 = dktX11_objects_0 := by decide +kernel
theorem dksX11_objects_1 : cX11_objects.data.toList.drop 22 = dktX11_objects_1 := dk_seg dksX11_objects_0 22 rfl rfl
theorem dX11_objects_0 : decode cX11_objects 0 = .ok (.aload_n 0, 1) := dk_42 (dk_at dksX11_objects_0 0 rfl rfl)
theorem dX11_objects_1 : decode cX11_objects 1 = .ok (.getfield 9, 3) := dk_180 0 9 (dk_at dksX11_objects_0 1 rfl rfl)
theorem dX11_objects_4 : decode cX11_objects 4 = .ok (.bipush 110, 2) := dk_16 110 (dk_at dksX11_objects_0 4 rfl rfl)
theorem dX11_objects_6 : decode cX11_objects 6 = .ok (.if_icmp .ne 10, 3) := dk_160 0 10 (dk_at dksX11_objects_0 6 rfl rfl)
theorem dX11_objects_9 : decode cX11_objects 9 = .ok (.aload_n 0, 1) := dk_42 (dk_at dksX11_objects_0 9 rfl rfl)
theorem dX11_objects_10 : decode cX11_objects 10 = .ok (.getfield 19, 3) := dk_180 0 19 (dk_at dksX11_objects_0 10 rfl rfl)
theorem dX11_objects_13 : decode cX11_objects 13 = .ok (.goto 32, 3) := dk_167 0 32 (dk_at dksX11_objects_0 13 rfl rfl)
theorem dX11_objects_16 : decode cX11_objects 16 = .ok (.aload_n 0, 1) := dk_42 (dk_at dksX11_objects_0 16 rfl rfl)
theorem dX11_objects_17 : decode cX11_objects 17 = .ok (.getfield 9, 3) := dk_180 0 9 (dk_at dksX11_objects_0 17 rfl rfl)
theorem dX11_objects_20 : decode cX11_objects 20 = .ok (.bipush 103, 2) := dk_16 103 (dk_at dksX11_objects_0 20 rfl rfl)
theorem dX11_objects_22 : decode cX11_objects 22 = .ok (.if_icmp .eq 12, 3) := dk_159 0 12 (dk_at dksX11_objects_1 0 rfl rfl)
theorem dX11_objects_25 : decode cX11_objects 25 = .ok (.aload_n 0, 1) := dk_42 (dk_at dksX11_objects_1 3 rfl rfl)
theorem dX11_objects_26 : decode cX11_objects 26 = .ok (.getfield 9, 3) := dk_180 0 9 (dk_at dksX11_objects_1 4 rfl rfl)
theorem dX11_objects_29 : decode cX11_objects 29 = .ok (.bipush 112, 2) := dk_16 112 (dk_at dksX11_objects_1 7 rfl rfl)
theorem dX11_objects_31 : decode cX11_objects 31 = .ok (.if_icmp .ne 13, 3) := dk_160 0 13 (dk_at dksX11_objects_1 9 rfl rfl)
theorem dX11_objects_34 : decode cX11_objects 34 = .ok (.aload_n 0, 1) := dk_42 (dk_at dksX11_objects_1 12 rfl rfl)
theorem dX11_objects_35 : decode cX11_objects 35 = .ok (.getfield 19, 3) := dk_180 0 19 (dk_at dksX11_objects_1 13 rfl rfl)
theorem dX11_objects_38 : decode cX11_objects 38 = .ok (.bipush 10, 2) := dk_16 10 (dk_at dksX11_objects_1 16 rfl rfl)
theorem dX11_objects_40 : decode cX11_objects 40 = .ok (.idiv, 1) := dk_108 (dk_at dksX11_objects_1 18 rfl rfl)
theorem dX11_objects_41 : decode cX11_objects 41 = .ok (.goto 4, 3) := dk_167 0 4 (dk_at dksX11_objects_1 19 rfl rfl)
theorem dX11_objects_44 : decode cX11_objects 44 = .ok (.iconst (-1), 1) := dk_2 (dk_at dksX11_objects_1 22 rfl rfl)
theorem dX11_objects_45 : decode cX11_objects 45 = .ok (.ireturn, 1) := dk_172 (dk_at dksX11_objects_1 23 rfl rfl)
abbrev cX11_isSame : ByteArray := prog_26_method_3_code
def yX11_isSame : MethodName := ⟨RX11, "isSame", "(LSwapWhileModel$Code;)Z"⟩
def dkwX11_isSame_3 : List UInt8 := [172]
abbrev dktX11_isSame_3 : List UInt8 := dkwX11_isSame_3 ++ []
def dkwX11_isSame_2 : List UInt8 := [160, 0, 23, 28, 6, 161, 0, 14, 42, 180, 0, 22, 43, 180, 0, 22, 160, 0, 7, 4, 167, 0, 4, 3]
abbrev dktX11_isSame_2 : List UInt8 := dkwX11_isSame_2 ++ dktX11_isSame_3
def dkwX11_isSame_1 : List UInt8 := [180, 0, 15, 43, 180, 0, 15, 160, 0, 39, 28, 5, 161, 0, 14, 42, 180, 0, 19, 43, 180, 0, 19]
abbrev dktX11_isSame_1 : List UInt8 := dkwX11_isSame_1 ++ dktX11_isSame_2
def dkwX11_isSame_0 : List UInt8 := [42, 182, 0, 25, 61, 42, 180, 0, 9, 43, 180, 0, 9, 160, 0, 55, 28, 4, 161, 0, 14, 42]
abbrev dktX11_isSame_0 : List UInt8 := dkwX11_isSame_0 ++ dktX11_isSame_1
theorem dksX11_isSame_0 : cX11_isSame.data.toList.drop 0 = dktX11_isSame_0 := by decide +kernel
theorem dksX11_isSame_1 : cX11_isSame.data.toList.drop 22 = dktX11_isSame_1 := dk_seg dksX11_isSame_0 22 rfl rfl
theorem dksX11_isSame_2 : cX11_isSame.data.toList.drop 45 = dktX11_isSame_2 := dk_seg dksX11_isSame_1 23 rfl rfl
theorem dksX11_isSame_3 : cX11_isSame.data.toList.drop 69 = dktX11_isSame_3 := dk_seg dksX11_isSame_2 24 rfl rfl
theorem dX11_isSame_0 : decode cX11_isSame 0 = .ok (.aload_n 0, 1) := dk_42 (dk_at dksX11_isSame_0 0 rfl rfl)
theorem dX11_isSame_1 : decode cX11_isSame 1 = .ok (.invokevirtual 25, 3) := dk_182 0 25 (dk_at dksX11_isSame_0 1 rfl rfl)
theorem dX11_isSame_4 : decode cX11_isSame 4 = .ok (.istore_n 2, 1) := dk_61 (dk_at dksX11_isSame_0 4 rfl rfl)
theorem dX11_isSame_5 : decode cX11_isSame 5 = .ok (.aload_n 0, 1) := dk_42 (dk_at dksX11_isSame_0 5 rfl rfl)
theorem dX11_isSame_6 : decode cX11_isSame 6 = .ok (.getfield 9, 3) := dk_180 0 9 (dk_at dksX11_isSame_0 6 rfl rfl)
theorem dX11_isSame_9 : decode cX11_isSame 9 = .ok (.aload_n 1, 1) := dk_43 (dk_at dksX11_isSame_0 9 rfl rfl)
theorem dX11_isSame_10 : decode cX11_isSame 10 = .ok (.getfield 9, 3) := dk_180 0 9 (dk_at dksX11_isSame_0 10 rfl rfl)
theorem dX11_isSame_13 : decode cX11_isSame 13 = .ok (.if_icmp .ne 55, 3) := dk_160 0 55 (dk_at dksX11_isSame_0 13 rfl rfl)
theorem dX11_isSame_16 : decode cX11_isSame 16 = .ok (.iload_n 2, 1) := dk_28 (dk_at dksX11_isSame_0 16 rfl rfl)
theorem dX11_isSame_17 : decode cX11_isSame 17 = .ok (.iconst 1, 1) := dk_4 (dk_at dksX11_isSame_0 17 rfl rfl)
theorem dX11_isSame_18 : decode cX11_isSame 18 = .ok (.if_icmp .lt 14, 3) := dk_161 0 14 (dk_at dksX11_isSame_0 18 rfl rfl)
theorem dX11_isSame_21 : decode cX11_isSame 21 = .ok (.aload_n 0, 1) := dk_42 (dk_at dksX11_isSame_0 21 rfl rfl)
theorem dX11_isSame_22 : decode cX11_isSame 22 = .ok (.getfield 15, 3) := dk_180 0 15 (dk_at dksX11_isSame_1 0 rfl rfl)
theorem dX11_isSame_25 : decode cX11_isSame 25 = .ok (.aload_n 1, 1) := dk_43 (dk_at dksX11_isSame_1 3 rfl rfl)
theorem dX11_isSame_26 : decode cX11_isSame 26 = .ok (.getfield 15, 3) := dk_180 0 15 (dk_at dksX11_isSame_1 4 rfl rfl)
theorem dX11_isSame_29 : decode cX11_isSame 29 = .ok (.if_icmp .ne 39, 3) := dk_160 0 39 (dk_at dksX11_isSame_1 7 rfl rfl)
theorem dX11_isSame_32 : decode cX11_isSame 32 = .ok (.iload_n 2, 1) := dk_28 (dk_at dksX11_isSame_1 10 rfl rfl)
theorem dX11_isSame_33 : decode cX11_isSame 33 = .ok (.iconst 2, 1) := dk_5 (dk_at dksX11_isSame_1 11 rfl rfl)
theorem dX11_isSame_34 : decode cX11_isSame 34 = .ok (.if_icmp .lt 14, 3) := dk_161 0 14 (dk_at dksX11_isSame_1 12 rfl rfl)
theorem dX11_isSame_37 : decode cX11_isSame 37 = .ok (.aload_n 0, 1) := dk_42 (dk_at dksX11_isSame_1 15 rfl rfl)
theorem dX11_isSame_38 : decode cX11_isSame 38 = .ok (.getfield 19, 3) := dk_180 0 19 (dk_at dksX11_isSame_1 16 rfl rfl)
theorem dX11_isSame_41 : decode cX11_isSame 41 = .ok (.aload_n 1, 1) := dk_43 (dk_at dksX11_isSame_1 19 rfl rfl)
theorem dX11_isSame_42 : decode cX11_isSame 42 = .ok (.getfield 19, 3) := dk_180 0 19 (dk_at dksX11_isSame_1 20 rfl rfl)
theorem dX11_isSame_45 : decode cX11_isSame 45 = .ok (.if_icmp .ne 23, 3) := dk_160 0 23 (dk_at dksX11_isSame_2 0 rfl rfl)
theorem dX11_isSame_48 : decode cX11_isSame 48 = .ok (.iload_n 2, 1) := dk_28 (dk_at dksX11_isSame_2 3 rfl rfl)
theorem dX11_isSame_49 : decode cX11_isSame 49 = .ok (.iconst 3, 1) := dk_6 (dk_at dksX11_isSame_2 4 rfl rfl)
theorem dX11_isSame_50 : decode cX11_isSame 50 = .ok (.if_icmp .lt 14, 3) := dk_161 0 14 (dk_at dksX11_isSame_2 5 rfl rfl)
theorem dX11_isSame_53 : decode cX11_isSame 53 = .ok (.aload_n 0, 1) := dk_42 (dk_at dksX11_isSame_2 8 rfl rfl)
theorem dX11_isSame_54 : decode cX11_isSame 54 = .ok (.getfield 22, 3) := dk_180 0 22 (dk_at dksX11_isSame_2 9 rfl rfl)
theorem dX11_isSame_57 : decode cX11_isSame 57 = .ok (.aload_n 1, 1) := dk_43 (dk_at dksX11_isSame_2 12 rfl rfl)
theorem dX11_isSame_58 : decode cX11_isSame 58 = .ok (.getfield 22, 3) := dk_180 0 22 (dk_at dksX11_isSame_2 13 rfl rfl)
theorem dX11_isSame_61 : decode cX11_isSame 61 = .ok (.if_icmp .ne 7, 3) := dk_160 0 7 (dk_at dksX11_isSame_2 16 rfl rfl)
theorem dX11_isSame_64 : decode cX11_isSame 64 = .ok (.iconst 1, 1) := dk_4 (dk_at dksX11_isSame_2 19 rfl rfl)
theorem dX11_isSame_65 : decode cX11_isSame 65 = .ok (.goto 4, 3) := dk_167 0 4 (dk_at dksX11_isSame_2 20 rfl rfl)
theorem dX11_isSame_68 : decode cX11_isSame 68 = .ok (.iconst 0, 1) := dk_3 (dk_at dksX11_isSame_2 23 rfl rfl)
theorem dX11_isSame_69 : decode cX11_isSame 69 = .ok (.ireturn, 1) := dk_172 (dk_at dksX11_isSame_3 0 rfl rfl)
abbrev cX11_meanings : ByteArray := prog_26_method_2_code
def yX11_meanings : MethodName := ⟨RX11, "meanings", "()I"⟩
def dkwX11_meanings_2 : List UInt8 := [3, 172, 4, 172, 5, 172, 6, 172]
abbrev dktX11_meanings_2 : List UInt8 := dkwX11_meanings_2 ++ []
def dkwX11_meanings_1 : List UInt8 := [170, 0, 0, 0, 0, 0, 0, 114, 0, 0, 0, 97, 0, 0, 0, 119, 0, 0, 0, 112, 0, 0, 0, 114, 0, 0, 0, 114, 0, 0, 0, 114, 0, 0, 0, 114, 0, 0, 0, 114, 0, 0, 0, 114, 0, 0, 0, 114, 0, 0, 0, 114, 0, 0, 0, 112, 0, 0, 0, 112, 0, 0, 0, 114, 0, 0, 0, 114, 0, 0, 0, 112, 0, 0, 0, 110, 0, 0, 0, 114, 0, 0, 0, 114, 0, 0, 0, 110, 0, 0, 0, 112, 0, 0, 0, 114, 0, 0, 0, 114, 0, 0, 0, 114, 0, 0, 0, 108]
abbrev dktX11_meanings_1 : List UInt8 := dkwX11_meanings_1 ++ dktX11_meanings_2
def dkwX11_meanings_0 : List UInt8 := [42, 180, 0, 9]
abbrev dktX11_meanings_0 : List UInt8 := dkwX11_meanings_0 ++ dktX11_meanings_1
theorem dksX11_meanings_0 : cX11_meanings.data.toList.drop 0 = dktX11_meanings_0 := by decide +kernel
theorem dksX11_meanings_1 : cX11_meanings.data.toList.drop 4 = dktX11_meanings_1 := dk_seg dksX11_meanings_0 4 rfl rfl
theorem dksX11_meanings_2 : cX11_meanings.data.toList.drop 112 = dktX11_meanings_2 := dk_seg dksX11_meanings_1 108 rfl rfl
theorem dX11_meanings_0 : decode cX11_meanings 0 = .ok (.aload_n 0, 1) := dk_42 (dk_at dksX11_meanings_0 0 rfl rfl)
theorem dX11_meanings_1 : decode cX11_meanings 1 = .ok (.getfield 9, 3) := dk_180 0 9 (dk_at dksX11_meanings_0 1 rfl rfl)
theorem dX11_meanings_4 : decode cX11_meanings 4 = .ok (.tableswitch 114 97 119 #[112, 114, 114, 114, 114, 114, 114, 114, 114, 112, 112, 114, 114, 112, 110, 114, 114, 110, 112, 114, 114, 114, 108], 108) := by decide +kernel
theorem dX11_meanings_112 : decode cX11_meanings 112 = .ok (.iconst 0, 1) := dk_3 (dk_at dksX11_meanings_2 0 rfl rfl)
theorem dX11_meanings_113 : decode cX11_meanings 113 = .ok (.ireturn, 1) := dk_172 (dk_at dksX11_meanings_2 1 rfl rfl)
theorem dX11_meanings_114 : decode cX11_meanings 114 = .ok (.iconst 1, 1) := dk_4 (dk_at dksX11_meanings_2 2 rfl rfl)
theorem dX11_meanings_115 : decode cX11_meanings 115 = .ok (.ireturn, 1) := dk_172 (dk_at dksX11_meanings_2 3 rfl rfl)
theorem dX11_meanings_116 : decode cX11_meanings 116 = .ok (.iconst 2, 1) := dk_5 (dk_at dksX11_meanings_2 4 rfl rfl)
theorem dX11_meanings_117 : decode cX11_meanings 117 = .ok (.ireturn, 1) := dk_172 (dk_at dksX11_meanings_2 5 rfl rfl)
theorem dX11_meanings_118 : decode cX11_meanings 118 = .ok (.iconst 3, 1) := dk_6 (dk_at dksX11_meanings_2 6 rfl rfl)
theorem dX11_meanings_119 : decode cX11_meanings 119 = .ok (.ireturn, 1) := dk_172 (dk_at dksX11_meanings_2 7 rfl rfl)
theorem q91 : (Jvm.Cond.initialized "SwapWhileModel$Code") ∈ lw_all := lw_g (lw_at lw_m1 27 rfl) rfl
theorem q238 : (Jvm.Cond.selects "SwapWhileModel$Code" ({ cls := "java/lang/Object", name := "getClass", desc := "()Ljava/lang/Class;" } : Jvm.MethodName) ({ cls := "java/lang/Object", name := "getClass", desc := "()Ljava/lang/Class;" } : Jvm.MethodName)) ∈ lw_all := lw_g (lw_at lw_m1 174 rfl) rfl
theorem q812 : (Jvm.Cond.selects "SwapWhileModel$Code" ({ cls := "java/lang/Object", name := "equals", desc := "(Ljava/lang/Object;)Z" } : Jvm.MethodName) ({ cls := "java/lang/Object", name := "equals", desc := "(Ljava/lang/Object;)Z" } : Jvm.MethodName)) ∈ lw_all := lw_g (lw_at lw_m4 28 rfl) rfl
theorem q1799 : (Jvm.Cond.instantiable "SwapWhileModel$Code" (4 : Nat)) ∈ lw_all := lw_g (lw_at lw_m8 55 rfl) rfl
theorem q1801 : (Jvm.Cond.instanceMethod ({ cls := "SwapWhileModel$Code", name := "<init>", desc := "(CIII)V" } : Jvm.MethodName)) ∈ lw_all := lw_g (lw_at lw_m8 57 rfl) rfl
theorem q1802 : (Jvm.Cond.code ({ cls := "SwapWhileModel$Code", name := "<init>", desc := "(CIII)V" } : Jvm.MethodName) prog_26_method_1_code (5 : Nat) (Option.none : Option Jvm.ClassFile.FieldType)) ∈ lw_all := lw_g (lw_at lw_m8 58 rfl) rfl
theorem q1803 : (Jvm.Cond.methodLink "SwapWhileModel$Code" (3 : Nat) ({ cls := "java/lang/Object", name := "<init>", desc := "()V" } : Jvm.MethodName)) ∈ lw_all := lw_g (lw_at lw_m8 59 rfl) rfl
theorem q1804 : (Jvm.Cond.fieldLink "SwapWhileModel$Code" (9 : Nat) "SwapWhileModel$Code" "kind" "C") ∈ lw_all := lw_g (lw_at lw_m8 60 rfl) rfl
theorem q1806 : (Jvm.Cond.fieldLink "SwapWhileModel$Code" (15 : Nat) "SwapWhileModel$Code" "a" "I") ∈ lw_all := lw_g (lw_at lw_m8 62 rfl) rfl
theorem q1808 : (Jvm.Cond.fieldLink "SwapWhileModel$Code" (19 : Nat) "SwapWhileModel$Code" "b" "I") ∈ lw_all := lw_g (lw_at lw_m8 64 rfl) rfl
theorem q1810 : (Jvm.Cond.fieldLink "SwapWhileModel$Code" (22 : Nat) "SwapWhileModel$Code" "c" "I") ∈ lw_all := lw_g (lw_at lw_m8 66 rfl) rfl
theorem q1812 : (Jvm.Cond.laysFinal "SwapWhileModel$Code" "SwapWhileModel$Code" "kind" "C") ∈ lw_all := lw_g (lw_at lw_m8 68 rfl) rfl
theorem q1813 : (Jvm.Cond.soleField "SwapWhileModel$Code" "kind") ∈ lw_all := lw_g (lw_at lw_m8 69 rfl) rfl
theorem q1814 : (Jvm.Cond.laysFinal "SwapWhileModel$Code" "SwapWhileModel$Code" "a" "I") ∈ lw_all := lw_g (lw_at lw_m8 70 rfl) rfl
theorem q1815 : (Jvm.Cond.soleField "SwapWhileModel$Code" "a") ∈ lw_all := lw_g (lw_at lw_m8 71 rfl) rfl
theorem q1816 : (Jvm.Cond.laysFinal "SwapWhileModel$Code" "SwapWhileModel$Code" "b" "I") ∈ lw_all := lw_g (lw_at lw_m8 72 rfl) rfl
theorem q1817 : (Jvm.Cond.soleField "SwapWhileModel$Code" "b") ∈ lw_all := lw_g (lw_at lw_m8 73 rfl) rfl
theorem q1818 : (Jvm.Cond.laysFinal "SwapWhileModel$Code" "SwapWhileModel$Code" "c" "I") ∈ lw_all := lw_g (lw_at lw_m8 74 rfl) rfl
theorem q1819 : (Jvm.Cond.soleField "SwapWhileModel$Code" "c") ∈ lw_all := lw_g (lw_at lw_m8 75 rfl) rfl
theorem q1820 : (Jvm.Cond.superclass "SwapWhileModel$Code" "java/lang/Object") ∈ lw_all := lw_g (lw_at lw_m8 76 rfl) rfl
theorem q1857 : (Jvm.Cond.instanceMethod ({ cls := "SwapWhileModel$Code", name := "objects", desc := "()I" } : Jvm.MethodName)) ∈ lw_all := lw_g (lw_at lw_m8 113 rfl) rfl
theorem q1858 : (Jvm.Cond.selects "SwapWhileModel$Code" ({ cls := "SwapWhileModel$Code", name := "objects", desc := "()I" } : Jvm.MethodName) ({ cls := "SwapWhileModel$Code", name := "objects", desc := "()I" } : Jvm.MethodName)) ∈ lw_all := lw_g (lw_at lw_m8 114 rfl) rfl
theorem q1859 : (Jvm.Cond.code ({ cls := "SwapWhileModel$Code", name := "objects", desc := "()I" } : Jvm.MethodName) prog_26_method_4_code (1 : Nat) (Option.some Jvm.ClassFile.FieldType.int)) ∈ lw_all := lw_g (lw_at lw_m8 115 rfl) rfl
theorem q1861 : (Jvm.Cond.instanceMethod ({ cls := "SwapWhileModel$Code", name := "isSame", desc := "(LSwapWhileModel$Code;)Z" } : Jvm.MethodName)) ∈ lw_all := lw_g (lw_at lw_m8 117 rfl) rfl
theorem q1862 : (Jvm.Cond.selects "SwapWhileModel$Code" ({ cls := "SwapWhileModel$Code", name := "isSame", desc := "(LSwapWhileModel$Code;)Z" } : Jvm.MethodName) ({ cls := "SwapWhileModel$Code", name := "isSame", desc := "(LSwapWhileModel$Code;)Z" } : Jvm.MethodName)) ∈ lw_all := lw_g (lw_at lw_m8 118 rfl) rfl
theorem q1863 : (Jvm.Cond.code ({ cls := "SwapWhileModel$Code", name := "isSame", desc := "(LSwapWhileModel$Code;)Z" } : Jvm.MethodName) prog_26_method_3_code (3 : Nat) (Option.some Jvm.ClassFile.FieldType.boolean)) ∈ lw_all := lw_g (lw_at lw_m8 119 rfl) rfl
theorem q1864 : (Jvm.Cond.methodLink "SwapWhileModel$Code" (25 : Nat) ({ cls := "SwapWhileModel$Code", name := "meanings", desc := "()I" } : Jvm.MethodName)) ∈ lw_all := lw_g (lw_at lw_m8 120 rfl) rfl
theorem q1865 : (Jvm.Cond.instanceMethod ({ cls := "SwapWhileModel$Code", name := "meanings", desc := "()I" } : Jvm.MethodName)) ∈ lw_all := lw_g (lw_at lw_m8 121 rfl) rfl
theorem q1866 : (Jvm.Cond.selects "SwapWhileModel$Code" ({ cls := "SwapWhileModel$Code", name := "meanings", desc := "()I" } : Jvm.MethodName) ({ cls := "SwapWhileModel$Code", name := "meanings", desc := "()I" } : Jvm.MethodName)) ∈ lw_all := lw_g (lw_at lw_m8 122 rfl) rfl
theorem q1867 : (Jvm.Cond.code ({ cls := "SwapWhileModel$Code", name := "meanings", desc := "()I" } : Jvm.MethodName) prog_26_method_2_code (1 : Nat) (Option.some Jvm.ClassFile.FieldType.int)) ∈ lw_all := lw_g (lw_at lw_m8 123 rfl) rfl
theorem q2230 : (Jvm.Cond.castable "SwapWhileModel$Code" "java/lang/Object") ∈ lw_tbl := lw_at lw_m10 6 rfl
theorem in_X11 : ∀ w ∈ wsX110, w ∈ lw_all := lw_in wsX110 [1812, 1814, 1816, 1818] (by decide +kernel) (by decide +kernel)

/-! SwapWhileModel$Frame -/
set_option maxRecDepth 100000
def RX14 : String := "SwapWhileModel$Frame"
def TX14 : u_T := fun k => match k with
  | 0 => ("SwapWhileModel$Frame", "version", "I", false)
  | 1 => ("SwapWhileModel$Frame", "function", "I", true)
  | 2 => ("SwapWhileModel$Frame", "place", "I", false)
  | 3 => ("SwapWhileModel$Frame", "locals", "[I", true)
  | _ => ("SwapWhileModel$Frame", "result", "I", true)
def tyX14 : Nat → FieldType := fun k => match k with
  | 0 => .int
  | 1 => .int
  | 2 => .int
  | 3 => .array .int
  | _ => .int
abbrev wsX140 : List Cond := u_ws RX14 TX14 5
theorem nmX14 : ∀ a, a < 5 → ∀ b, b < 5 → a ≠ b → (TX14 a).2.1 ≠ (TX14 b).2.1 := by decide +kernel
theorem tyX14_ok : ∀ k, k < 5 → parseFieldDescriptor (TX14 k).2.2.1 = some (tyX14 k) := by decide +kernel
abbrev cX14_init : ByteArray := prog_27_method_1_code
def yX14_init : MethodName := ⟨RX14, "<init>", "(IIII)V"⟩
def dkwX14_init_1 : List UInt8 := [180, 0, 9, 3, 29, 79, 42, 21, 4, 181, 0, 22, 177]
abbrev dktX14_init_1 : List UInt8 := dkwX14_init_1 ++ []
def dkwX14_init_0 : List UInt8 := [42, 183, 0, 3, 42, 7, 188, 10, 181, 0, 9, 42, 27, 181, 0, 15, 42, 28, 181, 0, 19, 42]
abbrev dktX14_init_0 : List UInt8 := dkwX14_init_0 ++ dktX14_init_1
theorem dksX14_init_0 : cX14_init.data.toList.drop 0 = dktX14_init_0 := by decide +kernel
theorem dksX14_init_1 : cX14_init.data.toList.drop 22 = dktX14_init_1 := dk_seg dksX14_init_0 22 rfl rfl
theorem dX14_init_0 : decode cX14_init 0 = .ok (.aload_n 0, 1) := dk_42 (dk_at dksX14_init_0 0 rfl rfl)
theorem dX14_init_1 : decode cX14_init 1 = .ok (.invokespecial 3, 3) := dk_183 0 3 (dk_at dksX14_init_0 1 rfl rfl)
theorem dX14_init_4 : decode cX14_init 4 = .ok (.aload_n 0, 1) := dk_42 (dk_at dksX14_init_0 4 rfl rfl)
theorem dX14_init_5 : decode cX14_init 5 = .ok (.iconst 4, 1) := dk_7 (dk_at dksX14_init_0 5 rfl rfl)
theorem dX14_init_6 : decode cX14_init 6 = .ok (.newarray .int, 2) := dk_188_10 (dk_at dksX14_init_0 6 rfl rfl)
theorem dX14_init_8 : decode cX14_init 8 = .ok (.putfield 9, 3) := dk_181 0 9 (dk_at dksX14_init_0 8 rfl rfl)
theorem dX14_init_11 : decode cX14_init 11 = .ok (.aload_n 0, 1) := dk_42 (dk_at dksX14_init_0 11 rfl rfl)
theorem dX14_init_12 : decode cX14_init 12 = .ok (.iload_n 1, 1) := dk_27 (dk_at dksX14_init_0 12 rfl rfl)
theorem dX14_init_13 : decode cX14_init 13 = .ok (.putfield 15, 3) := dk_181 0 15 (dk_at dksX14_init_0 13 rfl rfl)
theorem dX14_init_16 : decode cX14_init 16 = .ok (.aload_n 0, 1) := dk_42 (dk_at dksX14_init_0 16 rfl rfl)
theorem dX14_init_17 : decode cX14_init 17 = .ok (.iload_n 2, 1) := dk_28 (dk_at dksX14_init_0 17 rfl rfl)
theorem dX14_init_18 : decode cX14_init 18 = .ok (.putfield 19, 3) := dk_181 0 19 (dk_at dksX14_init_0 18 rfl rfl)
theorem dX14_init_21 : decode cX14_init 21 = .ok (.aload_n 0, 1) := dk_42 (dk_at dksX14_init_0 21 rfl rfl)
theorem dX14_init_22 : decode cX14_init 22 = .ok (.getfield 9, 3) := dk_180 0 9 (dk_at dksX14_init_1 0 rfl rfl)
theorem dX14_init_25 : decode cX14_init 25 = .ok (.iconst 0, 1) := dk_3 (dk_at dksX14_init_1 3 rfl rfl)
theorem dX14_init_26 : decode cX14_init 26 = .ok (.iload_n 3, 1) := dk_29 (dk_at dksX14_init_1 4 rfl rfl)
theorem dX14_init_27 : decode cX14_init 27 = .ok (.iastore, 1) := dk_79 (dk_at dksX14_init_1 5 rfl rfl)
theorem dX14_init_28 : decode cX14_init 28 = .ok (.aload_n 0, 1) := dk_42 (dk_at dksX14_init_1 6 rfl rfl)
theorem dX14_init_29 : decode cX14_init 29 = .ok (.iload 4, 2) := dk_21 4 (dk_at dksX14_init_1 7 rfl rfl)
theorem dX14_init_31 : decode cX14_init 31 = .ok (.putfield 22, 3) := dk_181 0 22 (dk_at dksX14_init_1 9 rfl rfl)
theorem dX14_init_34 : decode cX14_init 34 = .ok (.return_, 1) := dk_177 (dk_at dksX14_init_1 12 rfl rfl)
theorem q100 : (Jvm.Cond.initialized "SwapWhileModel$Frame") ∈ lw_all := lw_g (lw_at lw_m1 36 rfl) rfl
theorem q239 : (Jvm.Cond.selects "SwapWhileModel$Frame" ({ cls := "java/lang/Object", name := "getClass", desc := "()Ljava/lang/Class;" } : Jvm.MethodName) ({ cls := "java/lang/Object", name := "getClass", desc := "()Ljava/lang/Class;" } : Jvm.MethodName)) ∈ lw_all := lw_g (lw_at lw_m1 175 rfl) rfl
theorem q813 : (Jvm.Cond.selects "SwapWhileModel$Frame" ({ cls := "java/lang/Object", name := "equals", desc := "(Ljava/lang/Object;)Z" } : Jvm.MethodName) ({ cls := "java/lang/Object", name := "equals", desc := "(Ljava/lang/Object;)Z" } : Jvm.MethodName)) ∈ lw_all := lw_g (lw_at lw_m4 29 rfl) rfl
theorem q1890 : (Jvm.Cond.instantiable "SwapWhileModel$Frame" (5 : Nat)) ∈ lw_all := lw_g (lw_at lw_m8 146 rfl) rfl
theorem q1892 : (Jvm.Cond.instanceMethod ({ cls := "SwapWhileModel$Frame", name := "<init>", desc := "(IIII)V" } : Jvm.MethodName)) ∈ lw_all := lw_g (lw_at lw_m8 148 rfl) rfl
theorem q1893 : (Jvm.Cond.code ({ cls := "SwapWhileModel$Frame", name := "<init>", desc := "(IIII)V" } : Jvm.MethodName) prog_27_method_1_code (5 : Nat) (Option.none : Option Jvm.ClassFile.FieldType)) ∈ lw_all := lw_g (lw_at lw_m8 149 rfl) rfl
theorem q1894 : (Jvm.Cond.methodLink "SwapWhileModel$Frame" (3 : Nat) ({ cls := "java/lang/Object", name := "<init>", desc := "()V" } : Jvm.MethodName)) ∈ lw_all := lw_g (lw_at lw_m8 150 rfl) rfl
theorem q1895 : (Jvm.Cond.fieldLink "SwapWhileModel$Frame" (15 : Nat) "SwapWhileModel$Frame" "version" "I") ∈ lw_all := lw_g (lw_at lw_m8 151 rfl) rfl
theorem q1897 : (Jvm.Cond.fieldLink "SwapWhileModel$Frame" (19 : Nat) "SwapWhileModel$Frame" "function" "I") ∈ lw_all := lw_g (lw_at lw_m8 153 rfl) rfl
theorem q1900 : (Jvm.Cond.fieldLink "SwapWhileModel$Frame" (9 : Nat) "SwapWhileModel$Frame" "locals" "[I") ∈ lw_all := lw_g (lw_at lw_m8 156 rfl) rfl
theorem q1902 : (Jvm.Cond.fieldLink "SwapWhileModel$Frame" (22 : Nat) "SwapWhileModel$Frame" "result" "I") ∈ lw_all := lw_g (lw_at lw_m8 158 rfl) rfl
theorem q1904 : (Jvm.Cond.lays "SwapWhileModel$Frame" "SwapWhileModel$Frame" "version" "I") ∈ lw_all := lw_g (lw_at lw_m8 160 rfl) rfl
theorem q1905 : (Jvm.Cond.soleField "SwapWhileModel$Frame" "version") ∈ lw_all := lw_g (lw_at lw_m8 161 rfl) rfl
theorem q1906 : (Jvm.Cond.laysFinal "SwapWhileModel$Frame" "SwapWhileModel$Frame" "function" "I") ∈ lw_all := lw_g (lw_at lw_m8 162 rfl) rfl
theorem q1907 : (Jvm.Cond.soleField "SwapWhileModel$Frame" "function") ∈ lw_all := lw_g (lw_at lw_m8 163 rfl) rfl
theorem q1908 : (Jvm.Cond.lays "SwapWhileModel$Frame" "SwapWhileModel$Frame" "place" "I") ∈ lw_all := lw_g (lw_at lw_m8 164 rfl) rfl
theorem q1909 : (Jvm.Cond.soleField "SwapWhileModel$Frame" "place") ∈ lw_all := lw_g (lw_at lw_m8 165 rfl) rfl
theorem q1910 : (Jvm.Cond.laysFinal "SwapWhileModel$Frame" "SwapWhileModel$Frame" "locals" "[I") ∈ lw_all := lw_g (lw_at lw_m8 166 rfl) rfl
theorem q1911 : (Jvm.Cond.soleField "SwapWhileModel$Frame" "locals") ∈ lw_all := lw_g (lw_at lw_m8 167 rfl) rfl
theorem q1912 : (Jvm.Cond.laysFinal "SwapWhileModel$Frame" "SwapWhileModel$Frame" "result" "I") ∈ lw_all := lw_g (lw_at lw_m8 168 rfl) rfl
theorem q1913 : (Jvm.Cond.soleField "SwapWhileModel$Frame" "result") ∈ lw_all := lw_g (lw_at lw_m8 169 rfl) rfl
theorem q1914 : (Jvm.Cond.superclass "SwapWhileModel$Frame" "java/lang/Object") ∈ lw_all := lw_g (lw_at lw_m8 170 rfl) rfl
theorem q2236 : (Jvm.Cond.castable "SwapWhileModel$Frame" "java/lang/Object") ∈ lw_tbl := lw_at lw_m10 12 rfl
theorem in_X14 : ∀ w ∈ wsX140, w ∈ lw_all := lw_in wsX140 [1904, 1906, 1908, 1910, 1912] (by decide +kernel) (by decide +kernel)

/-! SwapWhileModel$Thing -/
set_option maxRecDepth 100000
def RX17 : String := "SwapWhileModel$Thing"
def TX17 : u_T := fun k => match k with
  | 0 => ("SwapWhileModel$Thing", "kind", "I", true)
  | 1 => ("SwapWhileModel$Thing", "version", "I", false)
  | _ => ("SwapWhileModel$Thing", "fields", "[I", false)
def tyX17 : Nat → FieldType := fun k => match k with
  | 0 => .int
  | 1 => .int
  | _ => .array .int
abbrev wsX170 : List Cond := u_ws RX17 TX17 3
theorem nmX17 : ∀ a, a < 3 → ∀ b, b < 3 → a ≠ b → (TX17 a).2.1 ≠ (TX17 b).2.1 := by decide +kernel
theorem tyX17_ok : ∀ k, k < 3 → parseFieldDescriptor (TX17 k).2.2.1 = some (tyX17 k) := by decide +kernel
abbrev cX17_init : ByteArray := prog_29_method_1_code
def yX17_init : MethodName := ⟨RX17, "<init>", "(II[I)V"⟩
def dkwX17_init_0 : List UInt8 := [42, 183, 0, 1, 42, 27, 181, 0, 7, 42, 28, 181, 0, 13, 42, 45, 181, 0, 16, 177]
abbrev dktX17_init_0 : List UInt8 := dkwX17_init_0 ++ []
theorem dksX17_init_0 : cX17_init.data.toList.drop 0 = dktX17_init_0 := by decide +kernel
theorem dX17_init_0 : decode cX17_init 0 = .ok (.aload_n 0, 1) := dk_42 (dk_at dksX17_init_0 0 rfl rfl)
theorem dX17_init_1 : decode cX17_init 1 = .ok (.invokespecial 1, 3) := dk_183 0 1 (dk_at dksX17_init_0 1 rfl rfl)
theorem dX17_init_4 : decode cX17_init 4 = .ok (.aload_n 0, 1) := dk_42 (dk_at dksX17_init_0 4 rfl rfl)
theorem dX17_init_5 : decode cX17_init 5 = .ok (.iload_n 1, 1) := dk_27 (dk_at dksX17_init_0 5 rfl rfl)
theorem dX17_init_6 : decode cX17_init 6 = .ok (.putfield 7, 3) := dk_181 0 7 (dk_at dksX17_init_0 6 rfl rfl)
theorem dX17_init_9 : decode cX17_init 9 = .ok (.aload_n 0, 1) := dk_42 (dk_at dksX17_init_0 9 rfl rfl)
theorem dX17_init_10 : decode cX17_init 10 = .ok (.iload_n 2, 1) := dk_28 (dk_at dksX17_init_0 10 rfl rfl)
theorem dX17_init_11 : decode cX17_init 11 = .ok (.putfield 13, 3) := dk_181 0 13 (dk_at dksX17_init_0 11 rfl rfl)
theorem dX17_init_14 : decode cX17_init 14 = .ok (.aload_n 0, 1) := dk_42 (dk_at dksX17_init_0 14 rfl rfl)
theorem dX17_init_15 : decode cX17_init 15 = .ok (.aload_n 3, 1) := dk_45 (dk_at dksX17_init_0 15 rfl rfl)
theorem dX17_init_16 : decode cX17_init 16 = .ok (.putfield 16, 3) := dk_181 0 16 (dk_at dksX17_init_0 16 rfl rfl)
theorem dX17_init_19 : decode cX17_init 19 = .ok (.return_, 1) := dk_177 (dk_at dksX17_init_0 19 rfl rfl)
theorem q108 : (Jvm.Cond.initialized "SwapWhileModel$Thing") ∈ lw_all := lw_g (lw_at lw_m1 44 rfl) rfl
theorem q241 : (Jvm.Cond.selects "SwapWhileModel$Thing" ({ cls := "java/lang/Object", name := "getClass", desc := "()Ljava/lang/Class;" } : Jvm.MethodName) ({ cls := "java/lang/Object", name := "getClass", desc := "()Ljava/lang/Class;" } : Jvm.MethodName)) ∈ lw_all := lw_g (lw_at lw_m1 177 rfl) rfl
theorem q815 : (Jvm.Cond.selects "SwapWhileModel$Thing" ({ cls := "java/lang/Object", name := "equals", desc := "(Ljava/lang/Object;)Z" } : Jvm.MethodName) ({ cls := "java/lang/Object", name := "equals", desc := "(Ljava/lang/Object;)Z" } : Jvm.MethodName)) ∈ lw_all := lw_g (lw_at lw_m4 31 rfl) rfl
theorem q1987 : (Jvm.Cond.instantiable "SwapWhileModel$Thing" (3 : Nat)) ∈ lw_all := lw_g (lw_at lw_m9 3 rfl) rfl
theorem q1989 : (Jvm.Cond.instanceMethod ({ cls := "SwapWhileModel$Thing", name := "<init>", desc := "(II[I)V" } : Jvm.MethodName)) ∈ lw_all := lw_g (lw_at lw_m9 5 rfl) rfl
theorem q1990 : (Jvm.Cond.code ({ cls := "SwapWhileModel$Thing", name := "<init>", desc := "(II[I)V" } : Jvm.MethodName) prog_29_method_1_code (4 : Nat) (Option.none : Option Jvm.ClassFile.FieldType)) ∈ lw_all := lw_g (lw_at lw_m9 6 rfl) rfl
theorem q1991 : (Jvm.Cond.methodLink "SwapWhileModel$Thing" (1 : Nat) ({ cls := "java/lang/Object", name := "<init>", desc := "()V" } : Jvm.MethodName)) ∈ lw_all := lw_g (lw_at lw_m9 7 rfl) rfl
theorem q1992 : (Jvm.Cond.fieldLink "SwapWhileModel$Thing" (7 : Nat) "SwapWhileModel$Thing" "kind" "I") ∈ lw_all := lw_g (lw_at lw_m9 8 rfl) rfl
theorem q1994 : (Jvm.Cond.fieldLink "SwapWhileModel$Thing" (13 : Nat) "SwapWhileModel$Thing" "version" "I") ∈ lw_all := lw_g (lw_at lw_m9 10 rfl) rfl
theorem q1996 : (Jvm.Cond.fieldLink "SwapWhileModel$Thing" (16 : Nat) "SwapWhileModel$Thing" "fields" "[I") ∈ lw_all := lw_g (lw_at lw_m9 12 rfl) rfl
theorem q1998 : (Jvm.Cond.laysFinal "SwapWhileModel$Thing" "SwapWhileModel$Thing" "kind" "I") ∈ lw_all := lw_g (lw_at lw_m9 14 rfl) rfl
theorem q1999 : (Jvm.Cond.soleField "SwapWhileModel$Thing" "kind") ∈ lw_all := lw_g (lw_at lw_m9 15 rfl) rfl
theorem q2000 : (Jvm.Cond.lays "SwapWhileModel$Thing" "SwapWhileModel$Thing" "version" "I") ∈ lw_all := lw_g (lw_at lw_m9 16 rfl) rfl
theorem q2001 : (Jvm.Cond.soleField "SwapWhileModel$Thing" "version") ∈ lw_all := lw_g (lw_at lw_m9 17 rfl) rfl
theorem q2002 : (Jvm.Cond.lays "SwapWhileModel$Thing" "SwapWhileModel$Thing" "fields" "[I") ∈ lw_all := lw_g (lw_at lw_m9 18 rfl) rfl
theorem q2003 : (Jvm.Cond.soleField "SwapWhileModel$Thing" "fields") ∈ lw_all := lw_g (lw_at lw_m9 19 rfl) rfl
theorem q2004 : (Jvm.Cond.superclass "SwapWhileModel$Thing" "java/lang/Object") ∈ lw_all := lw_g (lw_at lw_m9 20 rfl) rfl
theorem q2242 : (Jvm.Cond.castable "SwapWhileModel$Thing" "java/lang/Object") ∈ lw_tbl := lw_at lw_m10 18 rfl
theorem in_X17 : ∀ w ∈ wsX170, w ∈ lw_all := lw_in wsX170 [1998, 2000, 2002] (by decide +kernel) (by decide +kernel)

/-! SwapWhileModel$Change -/
set_option maxRecDepth 100000
def RX18 : String := "SwapWhileModel$Change"
def TX18 : u_T := fun k => match k with
  | 0 => ("SwapWhileModel$Change", "number", "I", true)
  | 1 => ("SwapWhileModel$Change", "mode", "C", true)
  | 2 => ("SwapWhileModel$Change", "isBack", "Z", true)
  | 3 => ("SwapWhileModel$Change", "isAtOnce", "Z", true)
  | 4 => ("SwapWhileModel$Change", "until", "J", true)
  | _ => ("SwapWhileModel$Change", "state", "C", false)
def tyX18 : Nat → FieldType := fun k => match k with
  | 0 => .int
  | 1 => .char
  | 2 => .boolean
  | 3 => .boolean
  | 4 => .long
  | _ => .char
abbrev wsX180 : List Cond := u_ws RX18 TX18 6
theorem nmX18 : ∀ a, a < 6 → ∀ b, b < 6 → a ≠ b → (TX18 a).2.1 ≠ (TX18 b).2.1 := by decide +kernel
theorem tyX18_ok : ∀ k, k < 6 → parseFieldDescriptor (TX18 k).2.2.1 = some (tyX18 k) := by decide +kernel
abbrev cX18_init : ByteArray := prog_25_method_1_code
def yX18_init : MethodName := ⟨RX18, "<init>", "(ICZZJ)V"⟩
def dkwX18_init_1 : List UInt8 := [181, 0, 20, 42, 21, 4, 181, 0, 24, 42, 22, 5, 181, 0, 27, 177]
abbrev dktX18_init_1 : List UInt8 := dkwX18_init_1 ++ []
def dkwX18_init_0 : List UInt8 := [42, 183, 0, 1, 42, 16, 113, 181, 0, 7, 42, 27, 181, 0, 13, 42, 28, 181, 0, 17, 42, 29]
abbrev dktX18_init_0 : List UInt8 := dkwX18_init_0 ++ dktX18_init_1
theorem dksX18_init_0 : cX18_init.data.toList.drop 0 = dktX18_init_0 := by decide +kernel
theorem dksX18_init_1 : cX18_init.data.toList.drop 22 = dktX18_init_1 := dk_seg dksX18_init_0 22 rfl rfl
theorem dX18_init_0 : decode cX18_init 0 = .ok (.aload_n 0, 1) := dk_42 (dk_at dksX18_init_0 0 rfl rfl)
theorem dX18_init_1 : decode cX18_init 1 = .ok (.invokespecial 1, 3) := dk_183 0 1 (dk_at dksX18_init_0 1 rfl rfl)
theorem dX18_init_4 : decode cX18_init 4 = .ok (.aload_n 0, 1) := dk_42 (dk_at dksX18_init_0 4 rfl rfl)
theorem dX18_init_5 : decode cX18_init 5 = .ok (.bipush 113, 2) := dk_16 113 (dk_at dksX18_init_0 5 rfl rfl)
theorem dX18_init_7 : decode cX18_init 7 = .ok (.putfield 7, 3) := dk_181 0 7 (dk_at dksX18_init_0 7 rfl rfl)
theorem dX18_init_10 : decode cX18_init 10 = .ok (.aload_n 0, 1) := dk_42 (dk_at dksX18_init_0 10 rfl rfl)
theorem dX18_init_11 : decode cX18_init 11 = .ok (.iload_n 1, 1) := dk_27 (dk_at dksX18_init_0 11 rfl rfl)
theorem dX18_init_12 : decode cX18_init 12 = .ok (.putfield 13, 3) := dk_181 0 13 (dk_at dksX18_init_0 12 rfl rfl)
theorem dX18_init_15 : decode cX18_init 15 = .ok (.aload_n 0, 1) := dk_42 (dk_at dksX18_init_0 15 rfl rfl)
theorem dX18_init_16 : decode cX18_init 16 = .ok (.iload_n 2, 1) := dk_28 (dk_at dksX18_init_0 16 rfl rfl)
theorem dX18_init_17 : decode cX18_init 17 = .ok (.putfield 17, 3) := dk_181 0 17 (dk_at dksX18_init_0 17 rfl rfl)
theorem dX18_init_20 : decode cX18_init 20 = .ok (.aload_n 0, 1) := dk_42 (dk_at dksX18_init_0 20 rfl rfl)
theorem dX18_init_21 : decode cX18_init 21 = .ok (.iload_n 3, 1) := dk_29 (dk_at dksX18_init_0 21 rfl rfl)
theorem dX18_init_22 : decode cX18_init 22 = .ok (.putfield 20, 3) := dk_181 0 20 (dk_at dksX18_init_1 0 rfl rfl)
theorem dX18_init_25 : decode cX18_init 25 = .ok (.aload_n 0, 1) := dk_42 (dk_at dksX18_init_1 3 rfl rfl)
theorem dX18_init_26 : decode cX18_init 26 = .ok (.iload 4, 2) := dk_21 4 (dk_at dksX18_init_1 4 rfl rfl)
theorem dX18_init_28 : decode cX18_init 28 = .ok (.putfield 24, 3) := dk_181 0 24 (dk_at dksX18_init_1 6 rfl rfl)
theorem dX18_init_31 : decode cX18_init 31 = .ok (.aload_n 0, 1) := dk_42 (dk_at dksX18_init_1 9 rfl rfl)
theorem dX18_init_32 : decode cX18_init 32 = .ok (.lload 5, 2) := dk_22 5 (dk_at dksX18_init_1 10 rfl rfl)
theorem dX18_init_34 : decode cX18_init 34 = .ok (.putfield 27, 3) := dk_181 0 27 (dk_at dksX18_init_1 12 rfl rfl)
theorem dX18_init_37 : decode cX18_init 37 = .ok (.return_, 1) := dk_177 (dk_at dksX18_init_1 15 rfl rfl)
theorem q110 : (Jvm.Cond.initialized "SwapWhileModel$Change") ∈ lw_all := lw_g (lw_at lw_m1 46 rfl) rfl
theorem q237 : (Jvm.Cond.selects "SwapWhileModel$Change" ({ cls := "java/lang/Object", name := "getClass", desc := "()Ljava/lang/Class;" } : Jvm.MethodName) ({ cls := "java/lang/Object", name := "getClass", desc := "()Ljava/lang/Class;" } : Jvm.MethodName)) ∈ lw_all := lw_g (lw_at lw_m1 173 rfl) rfl
theorem q811 : (Jvm.Cond.selects "SwapWhileModel$Change" ({ cls := "java/lang/Object", name := "equals", desc := "(Ljava/lang/Object;)Z" } : Jvm.MethodName) ({ cls := "java/lang/Object", name := "equals", desc := "(Ljava/lang/Object;)Z" } : Jvm.MethodName)) ∈ lw_all := lw_g (lw_at lw_m4 27 rfl) rfl
theorem q2045 : (Jvm.Cond.instantiable "SwapWhileModel$Change" (6 : Nat)) ∈ lw_all := lw_g (lw_at lw_m9 61 rfl) rfl
theorem q2047 : (Jvm.Cond.instanceMethod ({ cls := "SwapWhileModel$Change", name := "<init>", desc := "(ICZZJ)V" } : Jvm.MethodName)) ∈ lw_all := lw_g (lw_at lw_m9 63 rfl) rfl
theorem q2048 : (Jvm.Cond.code ({ cls := "SwapWhileModel$Change", name := "<init>", desc := "(ICZZJ)V" } : Jvm.MethodName) prog_25_method_1_code (7 : Nat) (Option.none : Option Jvm.ClassFile.FieldType)) ∈ lw_all := lw_g (lw_at lw_m9 64 rfl) rfl
theorem q2049 : (Jvm.Cond.methodLink "SwapWhileModel$Change" (1 : Nat) ({ cls := "java/lang/Object", name := "<init>", desc := "()V" } : Jvm.MethodName)) ∈ lw_all := lw_g (lw_at lw_m9 65 rfl) rfl
theorem q2050 : (Jvm.Cond.fieldLink "SwapWhileModel$Change" (13 : Nat) "SwapWhileModel$Change" "number" "I") ∈ lw_all := lw_g (lw_at lw_m9 66 rfl) rfl
theorem q2052 : (Jvm.Cond.fieldLink "SwapWhileModel$Change" (17 : Nat) "SwapWhileModel$Change" "mode" "C") ∈ lw_all := lw_g (lw_at lw_m9 68 rfl) rfl
theorem q2054 : (Jvm.Cond.fieldLink "SwapWhileModel$Change" (20 : Nat) "SwapWhileModel$Change" "isBack" "Z") ∈ lw_all := lw_g (lw_at lw_m9 70 rfl) rfl
theorem q2056 : (Jvm.Cond.fieldLink "SwapWhileModel$Change" (24 : Nat) "SwapWhileModel$Change" "isAtOnce" "Z") ∈ lw_all := lw_g (lw_at lw_m9 72 rfl) rfl
theorem q2058 : (Jvm.Cond.fieldLink "SwapWhileModel$Change" (27 : Nat) "SwapWhileModel$Change" "until" "J") ∈ lw_all := lw_g (lw_at lw_m9 74 rfl) rfl
theorem q2060 : (Jvm.Cond.fieldLink "SwapWhileModel$Change" (7 : Nat) "SwapWhileModel$Change" "state" "C") ∈ lw_all := lw_g (lw_at lw_m9 76 rfl) rfl
theorem q2062 : (Jvm.Cond.laysFinal "SwapWhileModel$Change" "SwapWhileModel$Change" "number" "I") ∈ lw_all := lw_g (lw_at lw_m9 78 rfl) rfl
theorem q2063 : (Jvm.Cond.soleField "SwapWhileModel$Change" "number") ∈ lw_all := lw_g (lw_at lw_m9 79 rfl) rfl
theorem q2064 : (Jvm.Cond.laysFinal "SwapWhileModel$Change" "SwapWhileModel$Change" "mode" "C") ∈ lw_all := lw_g (lw_at lw_m9 80 rfl) rfl
theorem q2065 : (Jvm.Cond.soleField "SwapWhileModel$Change" "mode") ∈ lw_all := lw_g (lw_at lw_m9 81 rfl) rfl
theorem q2066 : (Jvm.Cond.laysFinal "SwapWhileModel$Change" "SwapWhileModel$Change" "isBack" "Z") ∈ lw_all := lw_g (lw_at lw_m9 82 rfl) rfl
theorem q2067 : (Jvm.Cond.soleField "SwapWhileModel$Change" "isBack") ∈ lw_all := lw_g (lw_at lw_m9 83 rfl) rfl
theorem q2068 : (Jvm.Cond.laysFinal "SwapWhileModel$Change" "SwapWhileModel$Change" "isAtOnce" "Z") ∈ lw_all := lw_g (lw_at lw_m9 84 rfl) rfl
theorem q2069 : (Jvm.Cond.soleField "SwapWhileModel$Change" "isAtOnce") ∈ lw_all := lw_g (lw_at lw_m9 85 rfl) rfl
theorem q2070 : (Jvm.Cond.laysFinal "SwapWhileModel$Change" "SwapWhileModel$Change" "until" "J") ∈ lw_all := lw_g (lw_at lw_m9 86 rfl) rfl
theorem q2071 : (Jvm.Cond.soleField "SwapWhileModel$Change" "until") ∈ lw_all := lw_g (lw_at lw_m9 87 rfl) rfl
theorem q2072 : (Jvm.Cond.lays "SwapWhileModel$Change" "SwapWhileModel$Change" "state" "C") ∈ lw_all := lw_g (lw_at lw_m9 88 rfl) rfl
theorem q2073 : (Jvm.Cond.soleField "SwapWhileModel$Change" "state") ∈ lw_all := lw_g (lw_at lw_m9 89 rfl) rfl
theorem q2074 : (Jvm.Cond.superclass "SwapWhileModel$Change" "java/lang/Object") ∈ lw_all := lw_g (lw_at lw_m9 90 rfl) rfl
theorem q2244 : (Jvm.Cond.castable "SwapWhileModel$Change" "java/lang/Object") ∈ lw_tbl := lw_at lw_m10 20 rfl
theorem in_X18 : ∀ w ∈ wsX180, w ∈ lw_all := lw_in wsX180 [2062, 2064, 2066, 2068, 2070, 2072] (by decide +kernel) (by decide +kernel)
