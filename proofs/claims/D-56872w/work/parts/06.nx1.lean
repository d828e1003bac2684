/-! SwapWhile -/
set_option maxRecDepth 100000
def RX1 : String := "SwapWhile"
def TX1 : u_T := fun k => match k with
  | 0 => ("SwapWhile", "versions", "Ljava/util/List;", true)
  | 1 => ("SwapWhile", "things", "Ljava/util/List;", true)
  | 2 => ("SwapWhile", "strands", "[LSwapWhile$Strand;", true)
  | 3 => ("SwapWhile", "changes", "Ljava/util/List;", true)
  | 4 => ("SwapWhile", "queue", "Ljava/util/List;", true)
  | 5 => ("SwapWhile", "puts", "Ljava/util/List;", true)
  | 6 => ("SwapWhile", "table", "[I", true)
  | 7 => ("SwapWhile", "draft", "LSwapWhile$Version;", false)
  | 8 => ("SwapWhile", "present", "I", false)
  | 9 => ("SwapWhile", "limit", "I", false)
  | 10 => ("SwapWhile", "isWatched", "Z", false)
  | _ => ("SwapWhile", "steps", "J", false)
def tyX1 : Nat → FieldType := fun k => match k with
  | 0 => .object "java/util/List"
  | 1 => .object "java/util/List"
  | 2 => .array (.object "SwapWhile$Strand")
  | 3 => .object "java/util/List"
  | 4 => .object "java/util/List"
  | 5 => .object "java/util/List"
  | 6 => .array .int
  | 7 => .object "SwapWhile$Version"
  | 8 => .int
  | 9 => .int
  | 10 => .boolean
  | _ => .long
abbrev wsX10 : List Cond := u_ws RX1 TX1 12
theorem nmX1 : ∀ a, a < 12 → ∀ b, b < 12 → a ≠ b → (TX1 a).2.1 ≠ (TX1 b).2.1 := by decide +kernel
theorem tyX1_ok : ∀ k, k < 12 → parseFieldDescriptor (TX1 k).2.2.1 = some (tyX1 k) := by decide +kernel
abbrev cX1_init : ByteArray := prog_1_method_6_code
def yX1_init : MethodName := ⟨RX1, "<init>", "()V"⟩
def dkwX1_init_6 : List UInt8 := [183, 0, 64, 181, 0, 67, 177]
abbrev dktX1_init_6 : List UInt8 := dkwX1_init_6 ++ []
def dkwX1_init_5 : List UInt8 := [185, 0, 54, 2, 0, 87, 42, 187, 0, 51, 89, 42, 180, 0, 22, 3, 185, 0, 60, 2, 0, 192, 0, 51]
abbrev dktX1_init_5 : List UInt8 := dkwX1_init_5 ++ dktX1_init_6
def dkwX1_init_4 : List UInt8 := [183, 0, 21, 181, 0, 44, 42, 7, 188, 10, 181, 0, 47, 42, 180, 0, 22, 187, 0, 51, 89, 183, 0, 53]
abbrev dktX1_init_4 : List UInt8 := dkwX1_init_4 ++ dktX1_init_5
def dkwX1_init_3 : List UInt8 := [183, 0, 21, 181, 0, 38, 42, 187, 0, 19, 89, 183, 0, 21, 181, 0, 41, 42, 187, 0, 19, 89]
abbrev dktX1_init_3 : List UInt8 := dkwX1_init_3 ++ dktX1_init_4
def dkwX1_init_2 : List UInt8 := [183, 0, 33, 83, 89, 5, 187, 0, 31, 89, 183, 0, 33, 83, 181, 0, 34, 42, 187, 0, 19, 89]
abbrev dktX1_init_2 : List UInt8 := dkwX1_init_2 ++ dktX1_init_3
def dkwX1_init_1 : List UInt8 := [181, 0, 28, 42, 6, 189, 0, 31, 89, 3, 187, 0, 31, 89, 183, 0, 33, 83, 89, 4, 187, 0, 31, 89]
abbrev dktX1_init_1 : List UInt8 := dkwX1_init_1 ++ dktX1_init_2
def dkwX1_init_0 : List UInt8 := [42, 183, 0, 16, 42, 187, 0, 19, 89, 183, 0, 21, 181, 0, 22, 42, 187, 0, 19, 89, 183, 0, 21]
abbrev dktX1_init_0 : List UInt8 := dkwX1_init_0 ++ dktX1_init_1
theorem dksX1_init_0 : cX1_init.data.toList.drop 0 = dktX1_init_0 := by decide +kernel
theorem dksX1_init_1 : cX1_init.data.toList.drop 23 = dktX1_init_1 := dk_seg dksX1_init_0 23 rfl rfl
theorem dksX1_init_2 : cX1_init.data.toList.drop 47 = dktX1_init_2 := dk_seg dksX1_init_1 24 rfl rfl
theorem dksX1_init_3 : cX1_init.data.toList.drop 69 = dktX1_init_3 := dk_seg dksX1_init_2 22 rfl rfl
theorem dksX1_init_4 : cX1_init.data.toList.drop 91 = dktX1_init_4 := dk_seg dksX1_init_3 22 rfl rfl
theorem dksX1_init_5 : cX1_init.data.toList.drop 115 = dktX1_init_5 := dk_seg dksX1_init_4 24 rfl rfl
theorem dksX1_init_6 : cX1_init.data.toList.drop 139 = dktX1_init_6 := dk_seg dksX1_init_5 24 rfl rfl
theorem dX1_init_0 : decode cX1_init 0 = .ok (.aload_n 0, 1) := dk_42 (dk_at dksX1_init_0 0 rfl rfl)
theorem dX1_init_1 : decode cX1_init 1 = .ok (.invokespecial 16, 3) := dk_183 0 16 (dk_at dksX1_init_0 1 rfl rfl)
theorem dX1_init_4 : decode cX1_init 4 = .ok (.aload_n 0, 1) := dk_42 (dk_at dksX1_init_0 4 rfl rfl)
theorem dX1_init_5 : decode cX1_init 5 = .ok (.new 19, 3) := dk_187 0 19 (dk_at dksX1_init_0 5 rfl rfl)
theorem dX1_init_8 : decode cX1_init 8 = .ok (.dup, 1) := dk_89 (dk_at dksX1_init_0 8 rfl rfl)
theorem dX1_init_9 : decode cX1_init 9 = .ok (.invokespecial 21, 3) := dk_183 0 21 (dk_at dksX1_init_0 9 rfl rfl)
theorem dX1_init_12 : decode cX1_init 12 = .ok (.putfield 22, 3) := dk_181 0 22 (dk_at dksX1_init_0 12 rfl rfl)
theorem dX1_init_15 : decode cX1_init 15 = .ok (.aload_n 0, 1) := dk_42 (dk_at dksX1_init_0 15 rfl rfl)
theorem dX1_init_16 : decode cX1_init 16 = .ok (.new 19, 3) := dk_187 0 19 (dk_at dksX1_init_0 16 rfl rfl)
theorem dX1_init_19 : decode cX1_init 19 = .ok (.dup, 1) := dk_89 (dk_at dksX1_init_0 19 rfl rfl)
theorem dX1_init_20 : decode cX1_init 20 = .ok (.invokespecial 21, 3) := dk_183 0 21 (dk_at dksX1_init_0 20 rfl rfl)
theorem dX1_init_23 : decode cX1_init 23 = .ok (.putfield 28, 3) := dk_181 0 28 (dk_at dksX1_init_1 0 rfl rfl)
theorem dX1_init_26 : decode cX1_init 26 = .ok (.aload_n 0, 1) := dk_42 (dk_at dksX1_init_1 3 rfl rfl)
theorem dX1_init_27 : decode cX1_init 27 = .ok (.iconst 3, 1) := dk_6 (dk_at dksX1_init_1 4 rfl rfl)
theorem dX1_init_28 : decode cX1_init 28 = .ok (.anewarray 31, 3) := dk_189 0 31 (dk_at dksX1_init_1 5 rfl rfl)
theorem dX1_init_31 : decode cX1_init 31 = .ok (.dup, 1) := dk_89 (dk_at dksX1_init_1 8 rfl rfl)
theorem dX1_init_32 : decode cX1_init 32 = .ok (.iconst 0, 1) := dk_3 (dk_at dksX1_init_1 9 rfl rfl)
theorem dX1_init_33 : decode cX1_init 33 = .ok (.new 31, 3) := dk_187 0 31 (dk_at dksX1_init_1 10 rfl rfl)
theorem dX1_init_36 : decode cX1_init 36 = .ok (.dup, 1) := dk_89 (dk_at dksX1_init_1 13 rfl rfl)
theorem dX1_init_37 : decode cX1_init 37 = .ok (.invokespecial 33, 3) := dk_183 0 33 (dk_at dksX1_init_1 14 rfl rfl)
theorem dX1_init_40 : decode cX1_init 40 = .ok (.aastore, 1) := dk_83 (dk_at dksX1_init_1 17 rfl rfl)
theorem dX1_init_41 : decode cX1_init 41 = .ok (.dup, 1) := dk_89 (dk_at dksX1_init_1 18 rfl rfl)
theorem dX1_init_42 : decode cX1_init 42 = .ok (.iconst 1, 1) := dk_4 (dk_at dksX1_init_1 19 rfl rfl)
theorem dX1_init_43 : decode cX1_init 43 = .ok (.new 31, 3) := dk_187 0 31 (dk_at dksX1_init_1 20 rfl rfl)
theorem dX1_init_46 : decode cX1_init 46 = .ok (.dup, 1) := dk_89 (dk_at dksX1_init_1 23 rfl rfl)
theorem dX1_init_47 : decode cX1_init 47 = .ok (.invokespecial 33, 3) := dk_183 0 33 (dk_at dksX1_init_2 0 rfl rfl)
theorem dX1_init_50 : decode cX1_init 50 = .ok (.aastore, 1) := dk_83 (dk_at dksX1_init_2 3 rfl rfl)
theorem dX1_init_51 : decode cX1_init 51 = .ok (.dup, 1) := dk_89 (dk_at dksX1_init_2 4 rfl rfl)
theorem dX1_init_52 : decode cX1_init 52 = .ok (.iconst 2, 1) := dk_5 (dk_at dksX1_init_2 5 rfl rfl)
theorem dX1_init_53 : decode cX1_init 53 = .ok (.new 31, 3) := dk_187 0 31 (dk_at dksX1_init_2 6 rfl rfl)
theorem dX1_init_56 : decode cX1_init 56 = .ok (.dup, 1) := dk_89 (dk_at dksX1_init_2 9 rfl rfl)
theorem dX1_init_57 : decode cX1_init 57 = .ok (.invokespecial 33, 3) := dk_183 0 33 (dk_at dksX1_init_2 10 rfl rfl)
theorem dX1_init_60 : decode cX1_init 60 = .ok (.aastore, 1) := dk_83 (dk_at dksX1_init_2 13 rfl rfl)
theorem dX1_init_61 : decode cX1_init 61 = .ok (.putfield 34, 3) := dk_181 0 34 (dk_at dksX1_init_2 14 rfl rfl)
theorem dX1_init_64 : decode cX1_init 64 = .ok (.aload_n 0, 1) := dk_42 (dk_at dksX1_init_2 17 rfl rfl)
theorem dX1_init_65 : decode cX1_init 65 = .ok (.new 19, 3) := dk_187 0 19 (dk_at dksX1_init_2 18 rfl rfl)
theorem dX1_init_68 : decode cX1_init 68 = .ok (.dup, 1) := dk_89 (dk_at dksX1_init_2 21 rfl rfl)
theorem dX1_init_69 : decode cX1_init 69 = .ok (.invokespecial 21, 3) := dk_183 0 21 (dk_at dksX1_init_3 0 rfl rfl)
theorem dX1_init_72 : decode cX1_init 72 = .ok (.putfield 38, 3) := dk_181 0 38 (dk_at dksX1_init_3 3 rfl rfl)
theorem dX1_init_75 : decode cX1_init 75 = .ok (.aload_n 0, 1) := dk_42 (dk_at dksX1_init_3 6 rfl rfl)
theorem dX1_init_76 : decode cX1_init 76 = .ok (.new 19, 3) := dk_187 0 19 (dk_at dksX1_init_3 7 rfl rfl)
theorem dX1_init_79 : decode cX1_init 79 = .ok (.dup, 1) := dk_89 (dk_at dksX1_init_3 10 rfl rfl)
theorem dX1_init_80 : decode cX1_init 80 = .ok (.invokespecial 21, 3) := dk_183 0 21 (dk_at dksX1_init_3 11 rfl rfl)
theorem dX1_init_83 : decode cX1_init 83 = .ok (.putfield 41, 3) := dk_181 0 41 (dk_at dksX1_init_3 14 rfl rfl)
theorem dX1_init_86 : decode cX1_init 86 = .ok (.aload_n 0, 1) := dk_42 (dk_at dksX1_init_3 17 rfl rfl)
theorem dX1_init_87 : decode cX1_init 87 = .ok (.new 19, 3) := dk_187 0 19 (dk_at dksX1_init_3 18 rfl rfl)
theorem dX1_init_90 : decode cX1_init 90 = .ok (.dup, 1) := dk_89 (dk_at dksX1_init_3 21 rfl rfl)
theorem dX1_init_91 : decode cX1_init 91 = .ok (.invokespecial 21, 3) := dk_183 0 21 (dk_at dksX1_init_4 0 rfl rfl)
theorem dX1_init_94 : decode cX1_init 94 = .ok (.putfield 44, 3) := dk_181 0 44 (dk_at dksX1_init_4 3 rfl rfl)
theorem dX1_init_97 : decode cX1_init 97 = .ok (.aload_n 0, 1) := dk_42 (dk_at dksX1_init_4 6 rfl rfl)
theorem dX1_init_98 : decode cX1_init 98 = .ok (.iconst 4, 1) := dk_7 (dk_at dksX1_init_4 7 rfl rfl)
theorem dX1_init_99 : decode cX1_init 99 = .ok (.newarray .int, 2) := dk_188_10 (dk_at dksX1_init_4 8 rfl rfl)
theorem dX1_init_101 : decode cX1_init 101 = .ok (.putfield 47, 3) := dk_181 0 47 (dk_at dksX1_init_4 10 rfl rfl)
theorem dX1_init_104 : decode cX1_init 104 = .ok (.aload_n 0, 1) := dk_42 (dk_at dksX1_init_4 13 rfl rfl)
theorem dX1_init_105 : decode cX1_init 105 = .ok (.getfield 22, 3) := dk_180 0 22 (dk_at dksX1_init_4 14 rfl rfl)
theorem dX1_init_108 : decode cX1_init 108 = .ok (.new 51, 3) := dk_187 0 51 (dk_at dksX1_init_4 17 rfl rfl)
theorem dX1_init_111 : decode cX1_init 111 = .ok (.dup, 1) := dk_89 (dk_at dksX1_init_4 20 rfl rfl)
theorem dX1_init_112 : decode cX1_init 112 = .ok (.invokespecial 53, 3) := dk_183 0 53 (dk_at dksX1_init_4 21 rfl rfl)
theorem dX1_init_115 : decode cX1_init 115 = .ok (.invokeinterface 54 2, 5) := by decide +kernel
theorem dX1_init_120 : decode cX1_init 120 = .ok (.pop, 1) := dk_87 (dk_at dksX1_init_5 5 rfl rfl)
theorem dX1_init_121 : decode cX1_init 121 = .ok (.aload_n 0, 1) := dk_42 (dk_at dksX1_init_5 6 rfl rfl)
theorem dX1_init_122 : decode cX1_init 122 = .ok (.new 51, 3) := dk_187 0 51 (dk_at dksX1_init_5 7 rfl rfl)
theorem dX1_init_125 : decode cX1_init 125 = .ok (.dup, 1) := dk_89 (dk_at dksX1_init_5 10 rfl rfl)
theorem dX1_init_126 : decode cX1_init 126 = .ok (.aload_n 0, 1) := dk_42 (dk_at dksX1_init_5 11 rfl rfl)
theorem dX1_init_127 : decode cX1_init 127 = .ok (.getfield 22, 3) := dk_180 0 22 (dk_at dksX1_init_5 12 rfl rfl)
theorem dX1_init_130 : decode cX1_init 130 = .ok (.iconst 0, 1) := dk_3 (dk_at dksX1_init_5 15 rfl rfl)
theorem dX1_init_131 : decode cX1_init 131 = .ok (.invokeinterface 60 2, 5) := by decide +kernel
theorem dX1_init_136 : decode cX1_init 136 = .ok (.checkcast 51, 3) := dk_192 0 51 (dk_at dksX1_init_5 21 rfl rfl)
theorem dX1_init_139 : decode cX1_init 139 = .ok (.invokespecial 64, 3) := dk_183 0 64 (dk_at dksX1_init_6 0 rfl rfl)
theorem dX1_init_142 : decode cX1_init 142 = .ok (.putfield 67, 3) := dk_181 0 67 (dk_at dksX1_init_6 3 rfl rfl)
theorem dX1_init_145 : decode cX1_init 145 = .ok (.return_, 1) := dk_177 (dk_at dksX1_init_6 6 rfl rfl)
abbrev cX1_queued : ByteArray := prog_1_method_49_code
def yX1_queued : MethodName := ⟨RX1, "queued", "()I"⟩
def dkwX1_queued_0 : List UInt8 := [42, 180, 0, 41, 185, 0, 71, 1, 0, 172]
abbrev dktX1_queued_0 : List UInt8 := dkwX1_queued_0 ++ []
theorem dksX1_queued_0 : cX1_queued.data.toList.drop 0 = dktX1_queued_0 := by decide +kernel
theorem dX1_queued_0 : decode cX1_queued 0 = .ok (.aload_n 0, 1) := dk_42 (dk_at dksX1_queued_0 0 rfl rfl)
theorem dX1_queued_1 : decode cX1_queued 1 = .ok (.getfield 41, 3) := dk_180 0 41 (dk_at dksX1_queued_0 1 rfl rfl)
theorem dX1_queued_4 : decode cX1_queued 4 = .ok (.invokeinterface 71 1, 5) := by decide +kernel
theorem dX1_queued_9 : decode cX1_queued 9 = .ok (.ireturn, 1) := dk_172 (dk_at dksX1_queued_0 9 rfl rfl)
abbrev cX1_present : ByteArray := prog_1_method_50_code
def yX1_present : MethodName := ⟨RX1, "present", "()I"⟩
theorem dX1_present_0 : decode cX1_present 0 = .ok (.aload_n 0, 1) := by decide +kernel
theorem dX1_present_1 : decode cX1_present 1 = .ok (.getfield 158, 3) := by decide +kernel
theorem dX1_present_4 : decode cX1_present 4 = .ok (.ireturn, 1) := by decide +kernel
abbrev cX1_versions : ByteArray := prog_1_method_51_code
def yX1_versions : MethodName := ⟨RX1, "versions", "()I"⟩
def dkwX1_versions_0 : List UInt8 := [42, 180, 0, 22, 185, 0, 71, 1, 0, 172]
abbrev dktX1_versions_0 : List UInt8 := dkwX1_versions_0 ++ []
theorem dksX1_versions_0 : cX1_versions.data.toList.drop 0 = dktX1_versions_0 := by decide +kernel
theorem dX1_versions_0 : decode cX1_versions 0 = .ok (.aload_n 0, 1) := dk_42 (dk_at dksX1_versions_0 0 rfl rfl)
theorem dX1_versions_1 : decode cX1_versions 1 = .ok (.getfield 22, 3) := dk_180 0 22 (dk_at dksX1_versions_0 1 rfl rfl)
theorem dX1_versions_4 : decode cX1_versions 4 = .ok (.invokeinterface 71 1, 5) := by decide +kernel
theorem dX1_versions_9 : decode cX1_versions 9 = .ok (.ireturn, 1) := dk_172 (dk_at dksX1_versions_0 9 rfl rfl)
abbrev cX1_watch : ByteArray := prog_1_method_53_code
def yX1_watch : MethodName := ⟨RX1, "watch", "(I)Z"⟩
def dkwX1_watch_0 : List UInt8 := [42, 180, 1, 75, 61, 42, 4, 181, 1, 75, 42, 27, 181, 1, 78, 28, 172]
abbrev dktX1_watch_0 : List UInt8 := dkwX1_watch_0 ++ []
theorem dksX1_watch_0 : cX1_watch.data.toList.drop 0 = dktX1_watch_0 := by decide +kernel
theorem dX1_watch_0 : decode cX1_watch 0 = .ok (.aload_n 0, 1) := dk_42 (dk_at dksX1_watch_0 0 rfl rfl)
theorem dX1_watch_1 : decode cX1_watch 1 = .ok (.getfield 331, 3) := dk_180 1 75 (dk_at dksX1_watch_0 1 rfl rfl)
theorem dX1_watch_4 : decode cX1_watch 4 = .ok (.istore_n 2, 1) := dk_61 (dk_at dksX1_watch_0 4 rfl rfl)
theorem dX1_watch_5 : decode cX1_watch 5 = .ok (.aload_n 0, 1) := dk_42 (dk_at dksX1_watch_0 5 rfl rfl)
theorem dX1_watch_6 : decode cX1_watch 6 = .ok (.iconst 1, 1) := dk_4 (dk_at dksX1_watch_0 6 rfl rfl)
theorem dX1_watch_7 : decode cX1_watch 7 = .ok (.putfield 331, 3) := dk_181 1 75 (dk_at dksX1_watch_0 7 rfl rfl)
theorem dX1_watch_10 : decode cX1_watch 10 = .ok (.aload_n 0, 1) := dk_42 (dk_at dksX1_watch_0 10 rfl rfl)
theorem dX1_watch_11 : decode cX1_watch 11 = .ok (.iload_n 1, 1) := dk_27 (dk_at dksX1_watch_0 11 rfl rfl)
theorem dX1_watch_12 : decode cX1_watch 12 = .ok (.putfield 334, 3) := dk_181 1 78 (dk_at dksX1_watch_0 12 rfl rfl)
theorem dX1_watch_15 : decode cX1_watch 15 = .ok (.iload_n 2, 1) := dk_28 (dk_at dksX1_watch_0 15 rfl rfl)
theorem dX1_watch_16 : decode cX1_watch 16 = .ok (.ireturn, 1) := dk_172 (dk_at dksX1_watch_0 16 rfl rfl)
abbrev cX1_isWatched : ByteArray := prog_1_method_54_code
def yX1_isWatched : MethodName := ⟨RX1, "isWatched", "()Z"⟩
theorem dX1_isWatched_0 : decode cX1_isWatched 0 = .ok (.aload_n 0, 1) := by decide +kernel
theorem dX1_isWatched_1 : decode cX1_isWatched 1 = .ok (.getfield 331, 3) := by decide +kernel
theorem dX1_isWatched_4 : decode cX1_isWatched 4 = .ok (.ireturn, 1) := by decide +kernel
abbrev cX1_objects : ByteArray := prog_1_method_55_code
def yX1_objects : MethodName := ⟨RX1, "objects", "()I"⟩
def dkwX1_objects_0 : List UInt8 := [42, 180, 0, 28, 185, 0, 71, 1, 0, 172]
abbrev dktX1_objects_0 : List UInt8 := dkwX1_objects_0 ++ []
theorem dksX1_objects_0 : cX1_objects.data.toList.drop 0 = dktX1_objects_0 := by decide +kernel
theorem dX1_objects_0 : decode cX1_objects 0 = .ok (.aload_n 0, 1) := dk_42 (dk_at dksX1_objects_0 0 rfl rfl)
theorem dX1_objects_1 : decode cX1_objects 1 = .ok (.getfield 28, 3) := dk_180 0 28 (dk_at dksX1_objects_0 1 rfl rfl)
theorem dX1_objects_4 : decode cX1_objects 4 = .ok (.invokeinterface 71 1, 5) := by decide +kernel
theorem dX1_objects_9 : decode cX1_objects 9 = .ok (.ireturn, 1) := dk_172 (dk_at dksX1_objects_0 9 rfl rfl)
abbrev cX1_puts : ByteArray := prog_1_method_61_code
def yX1_puts : MethodName := ⟨RX1, "puts", "()I"⟩
def dkwX1_puts_0 : List UInt8 := [42, 180, 0, 44, 185, 0, 71, 1, 0, 172]
abbrev dktX1_puts_0 : List UInt8 := dkwX1_puts_0 ++ []
theorem dksX1_puts_0 : cX1_puts.data.toList.drop 0 = dktX1_puts_0 := by decide +kernel
theorem dX1_puts_0 : decode cX1_puts 0 = .ok (.aload_n 0, 1) := dk_42 (dk_at dksX1_puts_0 0 rfl rfl)
theorem dX1_puts_1 : decode cX1_puts 1 = .ok (.getfield 44, 3) := dk_180 0 44 (dk_at dksX1_puts_0 1 rfl rfl)
theorem dX1_puts_4 : decode cX1_puts 4 = .ok (.invokeinterface 71 1, 5) := by decide +kernel
theorem dX1_puts_9 : decode cX1_puts 9 = .ok (.ireturn, 1) := dk_172 (dk_at dksX1_puts_0 9 rfl rfl)
abbrev cX1_steps : ByteArray := prog_1_method_65_code
def yX1_steps : MethodName := ⟨RX1, "steps", "()J"⟩
theorem dX1_steps_0 : decode cX1_steps 0 = .ok (.aload_n 0, 1) := by decide +kernel
theorem dX1_steps_1 : decode cX1_steps 1 = .ok (.getfield 291, 3) := by decide +kernel
theorem dX1_steps_4 : decode cX1_steps 4 = .ok (.lreturn, 1) := by decide +kernel
abbrev cX1_add : ByteArray := prog_1_method_11_code
def yX1_add : MethodName := ⟨RX1, "add", "(ICIII)I"⟩
def dkwX1_add_4 : List UInt8 := [185, 0, 54, 2, 0, 87, 25, 7, 185, 0, 71, 1, 0, 172]
abbrev dktX1_add_4 : List UInt8 := dkwX1_add_4 ++ []
def dkwX1_add_3 : List UInt8 := [167, 0, 4, 3, 184, 0, 99, 25, 7, 187, 0, 102, 89, 25, 6, 29, 21, 4, 21, 5, 183, 0, 104]
abbrev dktX1_add_3 : List UInt8 := dkwX1_add_3 ++ dktX1_add_4
def dkwX1_add_2 : List UInt8 := [185, 0, 60, 2, 0, 192, 0, 55, 58, 7, 25, 7, 185, 0, 71, 1, 0, 16, 10, 162, 0, 7, 4]
abbrev dktX1_add_2 : List UInt8 := dkwX1_add_2 ++ dktX1_add_3
def dkwX1_add_1 : List UInt8 := [182, 0, 93, 153, 0, 7, 4, 167, 0, 4, 3, 184, 0, 79, 42, 180, 0, 67, 180, 0, 96, 27]
abbrev dktX1_add_1 : List UInt8 := dkwX1_add_1 ++ dktX1_add_2
def dkwX1_add_0 : List UInt8 := [27, 184, 0, 83, 28, 184, 0, 87, 58, 6, 25, 6, 198, 0, 20, 25, 6, 29, 21, 4, 21, 5]
abbrev dktX1_add_0 : List UInt8 := dkwX1_add_0 ++ dktX1_add_1
theorem dksX1_add_0 : cX1_add.data.toList.drop 0 = dktX1_add_0 := by decide +kernel
theorem dksX1_add_1 : cX1_add.data.toList.drop 22 = dktX1_add_1 := dk_seg dksX1_add_0 22 rfl rfl
theorem dksX1_add_2 : cX1_add.data.toList.drop 44 = dktX1_add_2 := dk_seg dksX1_add_1 22 rfl rfl
theorem dksX1_add_3 : cX1_add.data.toList.drop 67 = dktX1_add_3 := dk_seg dksX1_add_2 23 rfl rfl
theorem dksX1_add_4 : cX1_add.data.toList.drop 90 = dktX1_add_4 := dk_seg dksX1_add_3 23 rfl rfl
theorem dX1_add_0 : decode cX1_add 0 = .ok (.iload_n 1, 1) := dk_27 (dk_at dksX1_add_0 0 rfl rfl)
theorem dX1_add_1 : decode cX1_add 1 = .ok (.invokestatic 83, 3) := dk_184 0 83 (dk_at dksX1_add_0 1 rfl rfl)
theorem dX1_add_4 : decode cX1_add 4 = .ok (.iload_n 2, 1) := dk_28 (dk_at dksX1_add_0 4 rfl rfl)
theorem dX1_add_5 : decode cX1_add 5 = .ok (.invokestatic 87, 3) := dk_184 0 87 (dk_at dksX1_add_0 5 rfl rfl)
theorem dX1_add_8 : decode cX1_add 8 = .ok (.astore 6, 2) := dk_58 6 (dk_at dksX1_add_0 8 rfl rfl)
theorem dX1_add_10 : decode cX1_add 10 = .ok (.aload 6, 2) := dk_25 6 (dk_at dksX1_add_0 10 rfl rfl)
theorem dX1_add_12 : decode cX1_add 12 = .ok (.ifnull 20, 3) := dk_198 0 20 (dk_at dksX1_add_0 12 rfl rfl)
theorem dX1_add_15 : decode cX1_add 15 = .ok (.aload 6, 2) := dk_25 6 (dk_at dksX1_add_0 15 rfl rfl)
theorem dX1_add_17 : decode cX1_add 17 = .ok (.iload_n 3, 1) := dk_29 (dk_at dksX1_add_0 17 rfl rfl)
theorem dX1_add_18 : decode cX1_add 18 = .ok (.iload 4, 2) := dk_21 4 (dk_at dksX1_add_0 18 rfl rfl)
theorem dX1_add_20 : decode cX1_add 20 = .ok (.iload 5, 2) := dk_21 5 (dk_at dksX1_add_0 20 rfl rfl)
theorem dX1_add_22 : decode cX1_add 22 = .ok (.invokevirtual 93, 3) := dk_182 0 93 (dk_at dksX1_add_1 0 rfl rfl)
theorem dX1_add_25 : decode cX1_add 25 = .ok (.ifCond .eq 7, 3) := dk_153 0 7 (dk_at dksX1_add_1 3 rfl rfl)
theorem dX1_add_28 : decode cX1_add 28 = .ok (.iconst 1, 1) := dk_4 (dk_at dksX1_add_1 6 rfl rfl)
theorem dX1_add_29 : decode cX1_add 29 = .ok (.goto 4, 3) := dk_167 0 4 (dk_at dksX1_add_1 7 rfl rfl)
theorem dX1_add_32 : decode cX1_add 32 = .ok (.iconst 0, 1) := dk_3 (dk_at dksX1_add_1 10 rfl rfl)
theorem dX1_add_33 : decode cX1_add 33 = .ok (.invokestatic 79, 3) := dk_184 0 79 (dk_at dksX1_add_1 11 rfl rfl)
theorem dX1_add_36 : decode cX1_add 36 = .ok (.aload_n 0, 1) := dk_42 (dk_at dksX1_add_1 14 rfl rfl)
theorem dX1_add_37 : decode cX1_add 37 = .ok (.getfield 67, 3) := dk_180 0 67 (dk_at dksX1_add_1 15 rfl rfl)
theorem dX1_add_40 : decode cX1_add 40 = .ok (.getfield 96, 3) := dk_180 0 96 (dk_at dksX1_add_1 18 rfl rfl)
theorem dX1_add_43 : decode cX1_add 43 = .ok (.iload_n 1, 1) := dk_27 (dk_at dksX1_add_1 21 rfl rfl)
theorem dX1_add_44 : decode cX1_add 44 = .ok (.invokeinterface 60 2, 5) := by decide +kernel
theorem dX1_add_49 : decode cX1_add 49 = .ok (.checkcast 55, 3) := dk_192 0 55 (dk_at dksX1_add_2 5 rfl rfl)
theorem dX1_add_52 : decode cX1_add 52 = .ok (.astore 7, 2) := dk_58 7 (dk_at dksX1_add_2 8 rfl rfl)
theorem dX1_add_54 : decode cX1_add 54 = .ok (.aload 7, 2) := dk_25 7 (dk_at dksX1_add_2 10 rfl rfl)
theorem dX1_add_56 : decode cX1_add 56 = .ok (.invokeinterface 71 1, 5) := by decide +kernel
theorem dX1_add_61 : decode cX1_add 61 = .ok (.bipush 10, 2) := dk_16 10 (dk_at dksX1_add_2 17 rfl rfl)
theorem dX1_add_63 : decode cX1_add 63 = .ok (.if_icmp .ge 7, 3) := dk_162 0 7 (dk_at dksX1_add_2 19 rfl rfl)
theorem dX1_add_66 : decode cX1_add 66 = .ok (.iconst 1, 1) := dk_4 (dk_at dksX1_add_2 22 rfl rfl)
theorem dX1_add_67 : decode cX1_add 67 = .ok (.goto 4, 3) := dk_167 0 4 (dk_at dksX1_add_3 0 rfl rfl)
theorem dX1_add_70 : decode cX1_add 70 = .ok (.iconst 0, 1) := dk_3 (dk_at dksX1_add_3 3 rfl rfl)
theorem dX1_add_71 : decode cX1_add 71 = .ok (.invokestatic 99, 3) := dk_184 0 99 (dk_at dksX1_add_3 4 rfl rfl)
theorem dX1_add_74 : decode cX1_add 74 = .ok (.aload 7, 2) := dk_25 7 (dk_at dksX1_add_3 7 rfl rfl)
theorem dX1_add_76 : decode cX1_add 76 = .ok (.new 102, 3) := dk_187 0 102 (dk_at dksX1_add_3 9 rfl rfl)
theorem dX1_add_79 : decode cX1_add 79 = .ok (.dup, 1) := dk_89 (dk_at dksX1_add_3 12 rfl rfl)
theorem dX1_add_80 : decode cX1_add 80 = .ok (.aload 6, 2) := dk_25 6 (dk_at dksX1_add_3 13 rfl rfl)
theorem dX1_add_82 : decode cX1_add 82 = .ok (.iload_n 3, 1) := dk_29 (dk_at dksX1_add_3 15 rfl rfl)
theorem dX1_add_83 : decode cX1_add 83 = .ok (.iload 4, 2) := dk_21 4 (dk_at dksX1_add_3 16 rfl rfl)
theorem dX1_add_85 : decode cX1_add 85 = .ok (.iload 5, 2) := dk_21 5 (dk_at dksX1_add_3 18 rfl rfl)
theorem dX1_add_87 : decode cX1_add 87 = .ok (.invokespecial 104, 3) := dk_183 0 104 (dk_at dksX1_add_3 20 rfl rfl)
theorem dX1_add_90 : decode cX1_add 90 = .ok (.invokeinterface 54 2, 5) := by decide +kernel
theorem dX1_add_95 : decode cX1_add 95 = .ok (.pop, 1) := dk_87 (dk_at dksX1_add_4 5 rfl rfl)
theorem dX1_add_96 : decode cX1_add 96 = .ok (.aload 7, 2) := dk_25 7 (dk_at dksX1_add_4 6 rfl rfl)
theorem dX1_add_98 : decode cX1_add 98 = .ok (.invokeinterface 71 1, 5) := by decide +kernel
theorem dX1_add_103 : decode cX1_add 103 = .ok (.ireturn, 1) := dk_172 (dk_at dksX1_add_4 13 rfl rfl)
abbrev cX1_requireFunction : ByteArray := prog_1_method_8_code
def yX1_requireFunction : MethodName := ⟨RX1, "requireFunction", "(I)V"⟩
def dkwX1_requireFunction_0 : List UInt8 := [26, 3, 7, 184, 0, 75, 184, 0, 79, 177]
abbrev dktX1_requireFunction_0 : List UInt8 := dkwX1_requireFunction_0 ++ []
theorem dksX1_requireFunction_0 : cX1_requireFunction.data.toList.drop 0 = dktX1_requireFunction_0 := by decide +kernel
theorem dX1_requireFunction_0 : decode cX1_requireFunction 0 = .ok (.iload_n 0, 1) := dk_26 (dk_at dksX1_requireFunction_0 0 rfl rfl)
theorem dX1_requireFunction_1 : decode cX1_requireFunction 1 = .ok (.iconst 0, 1) := dk_3 (dk_at dksX1_requireFunction_0 1 rfl rfl)
theorem dX1_requireFunction_2 : decode cX1_requireFunction 2 = .ok (.iconst 4, 1) := dk_7 (dk_at dksX1_requireFunction_0 2 rfl rfl)
theorem dX1_requireFunction_3 : decode cX1_requireFunction 3 = .ok (.invokestatic 75, 3) := dk_184 0 75 (dk_at dksX1_requireFunction_0 3 rfl rfl)
theorem dX1_requireFunction_6 : decode cX1_requireFunction 6 = .ok (.invokestatic 79, 3) := dk_184 0 79 (dk_at dksX1_requireFunction_0 6 rfl rfl)
theorem dX1_requireFunction_9 : decode cX1_requireFunction 9 = .ok (.return_, 1) := dk_177 (dk_at dksX1_requireFunction_0 9 rfl rfl)
abbrev cX1_isIn : ByteArray := prog_1_method_1_code
def yX1_isIn : MethodName := ⟨RX1, "isIn", "(III)Z"⟩
def dkwX1_isIn_0 : List UInt8 := [26, 27, 161, 0, 12, 26, 28, 163, 0, 7, 4, 167, 0, 4, 3, 172]
abbrev dktX1_isIn_0 : List UInt8 := dkwX1_isIn_0 ++ []
theorem dksX1_isIn_0 : cX1_isIn.data.toList.drop 0 = dktX1_isIn_0 := by decide +kernel
theorem dX1_isIn_0 : decode cX1_isIn 0 = .ok (.iload_n 0, 1) := dk_26 (dk_at dksX1_isIn_0 0 rfl rfl)
theorem dX1_isIn_1 : decode cX1_isIn 1 = .ok (.iload_n 1, 1) := dk_27 (dk_at dksX1_isIn_0 1 rfl rfl)
theorem dX1_isIn_2 : decode cX1_isIn 2 = .ok (.if_icmp .lt 12, 3) := dk_161 0 12 (dk_at dksX1_isIn_0 2 rfl rfl)
theorem dX1_isIn_5 : decode cX1_isIn 5 = .ok (.iload_n 0, 1) := dk_26 (dk_at dksX1_isIn_0 5 rfl rfl)
theorem dX1_isIn_6 : decode cX1_isIn 6 = .ok (.iload_n 2, 1) := dk_28 (dk_at dksX1_isIn_0 6 rfl rfl)
theorem dX1_isIn_7 : decode cX1_isIn 7 = .ok (.if_icmp .gt 7, 3) := dk_163 0 7 (dk_at dksX1_isIn_0 7 rfl rfl)
theorem dX1_isIn_10 : decode cX1_isIn 10 = .ok (.iconst 1, 1) := dk_4 (dk_at dksX1_isIn_0 10 rfl rfl)
theorem dX1_isIn_11 : decode cX1_isIn 11 = .ok (.goto 4, 3) := dk_167 0 4 (dk_at dksX1_isIn_0 11 rfl rfl)
theorem dX1_isIn_14 : decode cX1_isIn 14 = .ok (.iconst 0, 1) := dk_3 (dk_at dksX1_isIn_0 14 rfl rfl)
theorem dX1_isIn_15 : decode cX1_isIn 15 = .ok (.ireturn, 1) := dk_172 (dk_at dksX1_isIn_0 15 rfl rfl)
abbrev cX1_requireValid : ByteArray := prog_1_method_3_code
def yX1_requireValid : MethodName := ⟨RX1, "requireValid", "(Z)V"⟩
def dkwX1_requireValid_0 : List UInt8 := [26, 154, 0, 11, 187, 0, 7, 89, 183, 0, 9, 191, 177]
abbrev dktX1_requireValid_0 : List UInt8 := dkwX1_requireValid_0 ++ []
theorem dksX1_requireValid_0 : cX1_requireValid.data.toList.drop 0 = dktX1_requireValid_0 := by decide +kernel
theorem dX1_requireValid_0 : decode cX1_requireValid 0 = .ok (.iload_n 0, 1) := dk_26 (dk_at dksX1_requireValid_0 0 rfl rfl)
theorem dX1_requireValid_1 : decode cX1_requireValid 1 = .ok (.ifCond .ne 11, 3) := dk_154 0 11 (dk_at dksX1_requireValid_0 1 rfl rfl)
theorem dX1_requireValid_4 : decode cX1_requireValid 4 = .ok (.new 7, 3) := dk_187 0 7 (dk_at dksX1_requireValid_0 4 rfl rfl)
theorem dX1_requireValid_7 : decode cX1_requireValid 7 = .ok (.dup, 1) := dk_89 (dk_at dksX1_requireValid_0 7 rfl rfl)
theorem dX1_requireValid_8 : decode cX1_requireValid 8 = .ok (.invokespecial 9, 3) := dk_183 0 9 (dk_at dksX1_requireValid_0 8 rfl rfl)
theorem dX1_requireValid_11 : decode cX1_requireValid 11 = .ok (.athrow, 1) := dk_191 (dk_at dksX1_requireValid_0 11 rfl rfl)
theorem dX1_requireValid_12 : decode cX1_requireValid 12 = .ok (.return_, 1) := dk_177 (dk_at dksX1_requireValid_0 12 rfl rfl)
abbrev cX1_requireState : ByteArray := prog_1_method_4_code
def yX1_requireState : MethodName := ⟨RX1, "requireState", "(Z)V"⟩
def dkwX1_requireState_0 : List UInt8 := [26, 154, 0, 11, 187, 0, 10, 89, 183, 0, 12, 191, 177]
abbrev dktX1_requireState_0 : List UInt8 := dkwX1_requireState_0 ++ []
theorem dksX1_requireState_0 : cX1_requireState.data.toList.drop 0 = dktX1_requireState_0 := by decide +kernel
theorem dX1_requireState_0 : decode cX1_requireState 0 = .ok (.iload_n 0, 1) := dk_26 (dk_at dksX1_requireState_0 0 rfl rfl)
theorem dX1_requireState_1 : decode cX1_requireState 1 = .ok (.ifCond .ne 11, 3) := dk_154 0 11 (dk_at dksX1_requireState_0 1 rfl rfl)
theorem dX1_requireState_4 : decode cX1_requireState 4 = .ok (.new 10, 3) := dk_187 0 10 (dk_at dksX1_requireState_0 4 rfl rfl)
theorem dX1_requireState_7 : decode cX1_requireState 7 = .ok (.dup, 1) := dk_89 (dk_at dksX1_requireState_0 7 rfl rfl)
theorem dX1_requireState_8 : decode cX1_requireState 8 = .ok (.invokespecial 12, 3) := dk_183 0 12 (dk_at dksX1_requireState_0 8 rfl rfl)
theorem dX1_requireState_11 : decode cX1_requireState 11 = .ok (.athrow, 1) := dk_191 (dk_at dksX1_requireState_0 11 rfl rfl)
theorem dX1_requireState_12 : decode cX1_requireState 12 = .ok (.return_, 1) := dk_177 (dk_at dksX1_requireState_0 12 rfl rfl)
abbrev cX1_empty : ByteArray := prog_1_method_12_code
def yX1_empty : MethodName := ⟨RX1, "empty", "(I)I"⟩
def dkwX1_empty_2 : List UInt8 := [185, 0, 107, 1, 0, 28, 172]
abbrev dktX1_empty_2 : List UInt8 := dkwX1_empty_2 ++ []
def dkwX1_empty_1 : List UInt8 := [185, 0, 71, 1, 0, 61, 42, 180, 0, 67, 180, 0, 96, 27, 185, 0, 60, 2, 0, 192, 0, 55]
abbrev dktX1_empty_1 : List UInt8 := dkwX1_empty_1 ++ dktX1_empty_2
def dkwX1_empty_0 : List UInt8 := [27, 184, 0, 83, 42, 180, 0, 67, 180, 0, 96, 27, 185, 0, 60, 2, 0, 192, 0, 55]
abbrev dktX1_empty_0 : List UInt8 := dkwX1_empty_0 ++ dktX1_empty_1
theorem dksX1_empty_0 : cX1_empty.data.toList.drop 0 = dktX1_empty_0 := by decide +kernel
theorem dksX1_empty_1 : cX1_empty.data.toList.drop 20 = dktX1_empty_1 := dk_seg dksX1_empty_0 20 rfl rfl
theorem dksX1_empty_2 : cX1_empty.data.toList.drop 42 = dktX1_empty_2 := dk_seg dksX1_empty_1 22 rfl rfl
theorem dX1_empty_0 : decode cX1_empty 0 = .ok (.iload_n 1, 1) := dk_27 (dk_at dksX1_empty_0 0 rfl rfl)
theorem dX1_empty_1 : decode cX1_empty 1 = .ok (.invokestatic 83, 3) := dk_184 0 83 (dk_at dksX1_empty_0 1 rfl rfl)
theorem dX1_empty_4 : decode cX1_empty 4 = .ok (.aload_n 0, 1) := dk_42 (dk_at dksX1_empty_0 4 rfl rfl)
theorem dX1_empty_5 : decode cX1_empty 5 = .ok (.getfield 67, 3) := dk_180 0 67 (dk_at dksX1_empty_0 5 rfl rfl)
theorem dX1_empty_8 : decode cX1_empty 8 = .ok (.getfield 96, 3) := dk_180 0 96 (dk_at dksX1_empty_0 8 rfl rfl)
theorem dX1_empty_11 : decode cX1_empty 11 = .ok (.iload_n 1, 1) := dk_27 (dk_at dksX1_empty_0 11 rfl rfl)
theorem dX1_empty_12 : decode cX1_empty 12 = .ok (.invokeinterface 60 2, 5) := by decide +kernel
theorem dX1_empty_17 : decode cX1_empty 17 = .ok (.checkcast 55, 3) := dk_192 0 55 (dk_at dksX1_empty_0 17 rfl rfl)
theorem dX1_empty_20 : decode cX1_empty 20 = .ok (.invokeinterface 71 1, 5) := by decide +kernel
theorem dX1_empty_25 : decode cX1_empty 25 = .ok (.istore_n 2, 1) := dk_61 (dk_at dksX1_empty_1 5 rfl rfl)
theorem dX1_empty_26 : decode cX1_empty 26 = .ok (.aload_n 0, 1) := dk_42 (dk_at dksX1_empty_1 6 rfl rfl)
theorem dX1_empty_27 : decode cX1_empty 27 = .ok (.getfield 67, 3) := dk_180 0 67 (dk_at dksX1_empty_1 7 rfl rfl)
theorem dX1_empty_30 : decode cX1_empty 30 = .ok (.getfield 96, 3) := dk_180 0 96 (dk_at dksX1_empty_1 10 rfl rfl)
theorem dX1_empty_33 : decode cX1_empty 33 = .ok (.iload_n 1, 1) := dk_27 (dk_at dksX1_empty_1 13 rfl rfl)
theorem dX1_empty_34 : decode cX1_empty 34 = .ok (.invokeinterface 60 2, 5) := by decide +kernel
theorem dX1_empty_39 : decode cX1_empty 39 = .ok (.checkcast 55, 3) := dk_192 0 55 (dk_at dksX1_empty_1 19 rfl rfl)
theorem dX1_empty_42 : decode cX1_empty 42 = .ok (.invokeinterface 107 1, 5) := by decide +kernel
theorem dX1_empty_47 : decode cX1_empty 47 = .ok (.iload_n 2, 1) := dk_28 (dk_at dksX1_empty_2 5 rfl rfl)
theorem dX1_empty_48 : decode cX1_empty 48 = .ok (.ireturn, 1) := dk_172 (dk_at dksX1_empty_2 6 rfl rfl)
abbrev cX1_setFields : ByteArray := prog_1_method_13_code
def yX1_setFields : MethodName := ⟨RX1, "setFields", "(II)I"⟩
def dkwX1_setFields_1 : List UInt8 := [180, 0, 67, 27, 28, 42, 182, 0, 116, 180, 0, 113, 27, 46, 182, 0, 120, 29, 172]
abbrev dktX1_setFields_1 : List UInt8 := dkwX1_setFields_1 ++ []
def dkwX1_setFields_0 : List UInt8 := [27, 184, 0, 110, 28, 4, 7, 184, 0, 75, 184, 0, 79, 42, 180, 0, 67, 180, 0, 113, 27, 46, 62, 42]
abbrev dktX1_setFields_0 : List UInt8 := dkwX1_setFields_0 ++ dktX1_setFields_1
theorem dksX1_setFields_0 : cX1_setFields.data.toList.drop 0 = dktX1_setFields_0 := by decide +kernel
theorem dksX1_setFields_1 : cX1_setFields.data.toList.drop 24 = dktX1_setFields_1 := dk_seg dksX1_setFields_0 24 rfl rfl
theorem dX1_setFields_0 : decode cX1_setFields 0 = .ok (.iload_n 1, 1) := dk_27 (dk_at dksX1_setFields_0 0 rfl rfl)
theorem dX1_setFields_1 : decode cX1_setFields 1 = .ok (.invokestatic 110, 3) := dk_184 0 110 (dk_at dksX1_setFields_0 1 rfl rfl)
theorem dX1_setFields_4 : decode cX1_setFields 4 = .ok (.iload_n 2, 1) := dk_28 (dk_at dksX1_setFields_0 4 rfl rfl)
theorem dX1_setFields_5 : decode cX1_setFields 5 = .ok (.iconst 1, 1) := dk_4 (dk_at dksX1_setFields_0 5 rfl rfl)
theorem dX1_setFields_6 : decode cX1_setFields 6 = .ok (.iconst 4, 1) := dk_7 (dk_at dksX1_setFields_0 6 rfl rfl)
theorem dX1_setFields_7 : decode cX1_setFields 7 = .ok (.invokestatic 75, 3) := dk_184 0 75 (dk_at dksX1_setFields_0 7 rfl rfl)
theorem dX1_setFields_10 : decode cX1_setFields 10 = .ok (.invokestatic 79, 3) := dk_184 0 79 (dk_at dksX1_setFields_0 10 rfl rfl)
theorem dX1_setFields_13 : decode cX1_setFields 13 = .ok (.aload_n 0, 1) := dk_42 (dk_at dksX1_setFields_0 13 rfl rfl)
theorem dX1_setFields_14 : decode cX1_setFields 14 = .ok (.getfield 67, 3) := dk_180 0 67 (dk_at dksX1_setFields_0 14 rfl rfl)
theorem dX1_setFields_17 : decode cX1_setFields 17 = .ok (.getfield 113, 3) := dk_180 0 113 (dk_at dksX1_setFields_0 17 rfl rfl)
theorem dX1_setFields_20 : decode cX1_setFields 20 = .ok (.iload_n 1, 1) := dk_27 (dk_at dksX1_setFields_0 20 rfl rfl)
theorem dX1_setFields_21 : decode cX1_setFields 21 = .ok (.iaload, 1) := dk_46 (dk_at dksX1_setFields_0 21 rfl rfl)
theorem dX1_setFields_22 : decode cX1_setFields 22 = .ok (.istore_n 3, 1) := dk_62 (dk_at dksX1_setFields_0 22 rfl rfl)
theorem dX1_setFields_23 : decode cX1_setFields 23 = .ok (.aload_n 0, 1) := dk_42 (dk_at dksX1_setFields_0 23 rfl rfl)
theorem dX1_setFields_24 : decode cX1_setFields 24 = .ok (.getfield 67, 3) := dk_180 0 67 (dk_at dksX1_setFields_1 0 rfl rfl)
theorem dX1_setFields_27 : decode cX1_setFields 27 = .ok (.iload_n 1, 1) := dk_27 (dk_at dksX1_setFields_1 3 rfl rfl)
theorem dX1_setFields_28 : decode cX1_setFields 28 = .ok (.iload_n 2, 1) := dk_28 (dk_at dksX1_setFields_1 4 rfl rfl)
theorem dX1_setFields_29 : decode cX1_setFields 29 = .ok (.aload_n 0, 1) := dk_42 (dk_at dksX1_setFields_1 5 rfl rfl)
theorem dX1_setFields_30 : decode cX1_setFields 30 = .ok (.invokevirtual 116, 3) := dk_182 0 116 (dk_at dksX1_setFields_1 6 rfl rfl)
theorem dX1_setFields_33 : decode cX1_setFields 33 = .ok (.getfield 113, 3) := dk_180 0 113 (dk_at dksX1_setFields_1 9 rfl rfl)
theorem dX1_setFields_36 : decode cX1_setFields 36 = .ok (.iload_n 1, 1) := dk_27 (dk_at dksX1_setFields_1 12 rfl rfl)
theorem dX1_setFields_37 : decode cX1_setFields 37 = .ok (.iaload, 1) := dk_46 (dk_at dksX1_setFields_1 13 rfl rfl)
theorem dX1_setFields_38 : decode cX1_setFields 38 = .ok (.invokevirtual 120, 3) := dk_182 0 120 (dk_at dksX1_setFields_1 14 rfl rfl)
theorem dX1_setFields_41 : decode cX1_setFields 41 = .ok (.iload_n 3, 1) := dk_29 (dk_at dksX1_setFields_1 17 rfl rfl)
theorem dX1_setFields_42 : decode cX1_setFields 42 = .ok (.ireturn, 1) := dk_172 (dk_at dksX1_setFields_1 18 rfl rfl)
abbrev cX1_requireKind : ByteArray := prog_1_method_9_code
def yX1_requireKind : MethodName := ⟨RX1, "requireKind", "(I)V"⟩
def dkwX1_requireKind_0 : List UInt8 := [26, 3, 5, 184, 0, 75, 184, 0, 79, 177]
abbrev dktX1_requireKind_0 : List UInt8 := dkwX1_requireKind_0 ++ []
theorem dksX1_requireKind_0 : cX1_requireKind.data.toList.drop 0 = dktX1_requireKind_0 := by decide +kernel
theorem dX1_requireKind_0 : decode cX1_requireKind 0 = .ok (.iload_n 0, 1) := dk_26 (dk_at dksX1_requireKind_0 0 rfl rfl)
theorem dX1_requireKind_1 : decode cX1_requireKind 1 = .ok (.iconst 0, 1) := dk_3 (dk_at dksX1_requireKind_0 1 rfl rfl)
theorem dX1_requireKind_2 : decode cX1_requireKind 2 = .ok (.iconst 2, 1) := dk_5 (dk_at dksX1_requireKind_0 2 rfl rfl)
theorem dX1_requireKind_3 : decode cX1_requireKind 3 = .ok (.invokestatic 75, 3) := dk_184 0 75 (dk_at dksX1_requireKind_0 3 rfl rfl)
theorem dX1_requireKind_6 : decode cX1_requireKind 6 = .ok (.invokestatic 79, 3) := dk_184 0 79 (dk_at dksX1_requireKind_0 6 rfl rfl)
theorem dX1_requireKind_9 : decode cX1_requireKind 9 = .ok (.return_, 1) := dk_177 (dk_at dksX1_requireKind_0 9 rfl rfl)
abbrev cX1_latest : ByteArray := prog_1_method_7_code
def yX1_latest : MethodName := ⟨RX1, "latest", "()LSwapWhile$Version;"⟩
def dkwX1_latest_0 : List UInt8 := [42, 180, 0, 22, 42, 180, 0, 22, 185, 0, 71, 1, 0, 4, 100, 185, 0, 60, 2, 0, 192, 0, 51, 176]
abbrev dktX1_latest_0 : List UInt8 := dkwX1_latest_0 ++ []
theorem dksX1_latest_0 : cX1_latest.data.toList.drop 0 = dktX1_latest_0 := by decide +kernel
theorem dX1_latest_0 : decode cX1_latest 0 = .ok (.aload_n 0, 1) := dk_42 (dk_at dksX1_latest_0 0 rfl rfl)
theorem dX1_latest_1 : decode cX1_latest 1 = .ok (.getfield 22, 3) := dk_180 0 22 (dk_at dksX1_latest_0 1 rfl rfl)
theorem dX1_latest_4 : decode cX1_latest 4 = .ok (.aload_n 0, 1) := dk_42 (dk_at dksX1_latest_0 4 rfl rfl)
theorem dX1_latest_5 : decode cX1_latest 5 = .ok (.getfield 22, 3) := dk_180 0 22 (dk_at dksX1_latest_0 5 rfl rfl)
theorem dX1_latest_8 : decode cX1_latest 8 = .ok (.invokeinterface 71 1, 5) := by decide +kernel
theorem dX1_latest_13 : decode cX1_latest 13 = .ok (.iconst 1, 1) := dk_4 (dk_at dksX1_latest_0 13 rfl rfl)
theorem dX1_latest_14 : decode cX1_latest 14 = .ok (.isub, 1) := dk_100 (dk_at dksX1_latest_0 14 rfl rfl)
theorem dX1_latest_15 : decode cX1_latest 15 = .ok (.invokeinterface 60 2, 5) := by decide +kernel
theorem dX1_latest_20 : decode cX1_latest 20 = .ok (.checkcast 51, 3) := dk_192 0 51 (dk_at dksX1_latest_0 20 rfl rfl)
theorem dX1_latest_23 : decode cX1_latest 23 = .ok (.areturn, 1) := dk_176 (dk_at dksX1_latest_0 23 rfl rfl)
abbrev cX1_setCarry : ByteArray := prog_1_method_14_code
def yX1_setCarry : MethodName := ⟨RX1, "setCarry", "(IZIII)I"⟩
def dkwX1_setCarry_5 : List UInt8 := [29, 21, 4, 79, 25, 8, 180, 0, 136, 29, 21, 5, 79, 21, 9, 172]
abbrev dktX1_setCarry_5 : List UInt8 := dkwX1_setCarry_5 ++ []
def dkwX1_setCarry_4 : List UInt8 := [180, 0, 67, 180, 0, 128, 27, 50, 58, 8, 25, 8, 180, 0, 131, 29, 46, 54, 9, 25, 8, 180, 0, 131]
abbrev dktX1_setCarry_4 : List UInt8 := dkwX1_setCarry_4 ++ dktX1_setCarry_5
def dkwX1_setCarry_3 : List UInt8 := [167, 0, 4, 3, 184, 0, 79, 28, 153, 0, 15, 42, 180, 0, 67, 180, 0, 124, 27, 50, 167, 0, 12, 42]
abbrev dktX1_setCarry_3 : List UInt8 := dkwX1_setCarry_3 ++ dktX1_setCarry_4
def dkwX1_setCarry_2 : List UInt8 := [21, 4, 2, 28, 153, 0, 8, 21, 6, 167, 0, 5, 21, 7, 4, 100, 184, 0, 75, 153, 0, 7, 4]
abbrev dktX1_setCarry_2 : List UInt8 := dkwX1_setCarry_2 ++ dktX1_setCarry_3
def dkwX1_setCarry_1 : List UInt8 := [54, 7, 29, 3, 28, 153, 0, 8, 21, 7, 167, 0, 5, 21, 6, 4, 100, 184, 0, 75, 153, 0, 29]
abbrev dktX1_setCarry_1 : List UInt8 := dkwX1_setCarry_1 ++ dktX1_setCarry_2
def dkwX1_setCarry_0 : List UInt8 := [27, 184, 0, 110, 42, 180, 0, 67, 180, 0, 113, 27, 46, 54, 6, 42, 182, 0, 116, 180, 0, 113, 27, 46]
abbrev dktX1_setCarry_0 : List UInt8 := dkwX1_setCarry_0 ++ dktX1_setCarry_1
theorem dksX1_setCarry_0 : cX1_setCarry.data.toList.drop 0 = dktX1_setCarry_0 := by decide +kernel
theorem dksX1_setCarry_1 : cX1_setCarry.data.toList.drop 24 = dktX1_setCarry_1 := dk_seg dksX1_setCarry_0 24 rfl rfl
theorem dksX1_setCarry_2 : cX1_setCarry.data.toList.drop 47 = dktX1_setCarry_2 := dk_seg dksX1_setCarry_1 23 rfl rfl
theorem dksX1_setCarry_3 : cX1_setCarry.data.toList.drop 70 = dktX1_setCarry_3 := dk_seg dksX1_setCarry_2 23 rfl rfl
theorem dksX1_setCarry_4 : cX1_setCarry.data.toList.drop 94 = dktX1_setCarry_4 := dk_seg dksX1_setCarry_3 24 rfl rfl
theorem dksX1_setCarry_5 : cX1_setCarry.data.toList.drop 118 = dktX1_setCarry_5 := dk_seg dksX1_setCarry_4 24 rfl rfl
theorem dX1_setCarry_0 : decode cX1_setCarry 0 = .ok (.iload_n 1, 1) := dk_27 (dk_at dksX1_setCarry_0 0 rfl rfl)
theorem dX1_setCarry_1 : decode cX1_setCarry 1 = .ok (.invokestatic 110, 3) := dk_184 0 110 (dk_at dksX1_setCarry_0 1 rfl rfl)
theorem dX1_setCarry_4 : decode cX1_setCarry 4 = .ok (.aload_n 0, 1) := dk_42 (dk_at dksX1_setCarry_0 4 rfl rfl)
theorem dX1_setCarry_5 : decode cX1_setCarry 5 = .ok (.getfield 67, 3) := dk_180 0 67 (dk_at dksX1_setCarry_0 5 rfl rfl)
theorem dX1_setCarry_8 : decode cX1_setCarry 8 = .ok (.getfield 113, 3) := dk_180 0 113 (dk_at dksX1_setCarry_0 8 rfl rfl)
theorem dX1_setCarry_11 : decode cX1_setCarry 11 = .ok (.iload_n 1, 1) := dk_27 (dk_at dksX1_setCarry_0 11 rfl rfl)
theorem dX1_setCarry_12 : decode cX1_setCarry 12 = .ok (.iaload, 1) := dk_46 (dk_at dksX1_setCarry_0 12 rfl rfl)
theorem dX1_setCarry_13 : decode cX1_setCarry 13 = .ok (.istore 6, 2) := dk_54 6 (dk_at dksX1_setCarry_0 13 rfl rfl)
theorem dX1_setCarry_15 : decode cX1_setCarry 15 = .ok (.aload_n 0, 1) := dk_42 (dk_at dksX1_setCarry_0 15 rfl rfl)
theorem dX1_setCarry_16 : decode cX1_setCarry 16 = .ok (.invokevirtual 116, 3) := dk_182 0 116 (dk_at dksX1_setCarry_0 16 rfl rfl)
theorem dX1_setCarry_19 : decode cX1_setCarry 19 = .ok (.getfield 113, 3) := dk_180 0 113 (dk_at dksX1_setCarry_0 19 rfl rfl)
theorem dX1_setCarry_22 : decode cX1_setCarry 22 = .ok (.iload_n 1, 1) := dk_27 (dk_at dksX1_setCarry_0 22 rfl rfl)
theorem dX1_setCarry_23 : decode cX1_setCarry 23 = .ok (.iaload, 1) := dk_46 (dk_at dksX1_setCarry_0 23 rfl rfl)
theorem dX1_setCarry_24 : decode cX1_setCarry 24 = .ok (.istore 7, 2) := dk_54 7 (dk_at dksX1_setCarry_1 0 rfl rfl)
theorem dX1_setCarry_26 : decode cX1_setCarry 26 = .ok (.iload_n 3, 1) := dk_29 (dk_at dksX1_setCarry_1 2 rfl rfl)
theorem dX1_setCarry_27 : decode cX1_setCarry 27 = .ok (.iconst 0, 1) := dk_3 (dk_at dksX1_setCarry_1 3 rfl rfl)
theorem dX1_setCarry_28 : decode cX1_setCarry 28 = .ok (.iload_n 2, 1) := dk_28 (dk_at dksX1_setCarry_1 4 rfl rfl)
theorem dX1_setCarry_29 : decode cX1_setCarry 29 = .ok (.ifCond .eq 8, 3) := dk_153 0 8 (dk_at dksX1_setCarry_1 5 rfl rfl)
theorem dX1_setCarry_32 : decode cX1_setCarry 32 = .ok (.iload 7, 2) := dk_21 7 (dk_at dksX1_setCarry_1 8 rfl rfl)
theorem dX1_setCarry_34 : decode cX1_setCarry 34 = .ok (.goto 5, 3) := dk_167 0 5 (dk_at dksX1_setCarry_1 10 rfl rfl)
theorem dX1_setCarry_37 : decode cX1_setCarry 37 = .ok (.iload 6, 2) := dk_21 6 (dk_at dksX1_setCarry_1 13 rfl rfl)
theorem dX1_setCarry_39 : decode cX1_setCarry 39 = .ok (.iconst 1, 1) := dk_4 (dk_at dksX1_setCarry_1 15 rfl rfl)
theorem dX1_setCarry_40 : decode cX1_setCarry 40 = .ok (.isub, 1) := dk_100 (dk_at dksX1_setCarry_1 16 rfl rfl)
theorem dX1_setCarry_41 : decode cX1_setCarry 41 = .ok (.invokestatic 75, 3) := dk_184 0 75 (dk_at dksX1_setCarry_1 17 rfl rfl)
theorem dX1_setCarry_44 : decode cX1_setCarry 44 = .ok (.ifCond .eq 29, 3) := dk_153 0 29 (dk_at dksX1_setCarry_1 20 rfl rfl)
theorem dX1_setCarry_47 : decode cX1_setCarry 47 = .ok (.iload 4, 2) := dk_21 4 (dk_at dksX1_setCarry_2 0 rfl rfl)
theorem dX1_setCarry_49 : decode cX1_setCarry 49 = .ok (.iconst (-1), 1) := dk_2 (dk_at dksX1_setCarry_2 2 rfl rfl)
theorem dX1_setCarry_50 : decode cX1_setCarry 50 = .ok (.iload_n 2, 1) := dk_28 (dk_at dksX1_setCarry_2 3 rfl rfl)
theorem dX1_setCarry_51 : decode cX1_setCarry 51 = .ok (.ifCond .eq 8, 3) := dk_153 0 8 (dk_at dksX1_setCarry_2 4 rfl rfl)
theorem dX1_setCarry_54 : decode cX1_setCarry 54 = .ok (.iload 6, 2) := dk_21 6 (dk_at dksX1_setCarry_2 7 rfl rfl)
theorem dX1_setCarry_56 : decode cX1_setCarry 56 = .ok (.goto 5, 3) := dk_167 0 5 (dk_at dksX1_setCarry_2 9 rfl rfl)
theorem dX1_setCarry_59 : decode cX1_setCarry 59 = .ok (.iload 7, 2) := dk_21 7 (dk_at dksX1_setCarry_2 12 rfl rfl)
theorem dX1_setCarry_61 : decode cX1_setCarry 61 = .ok (.iconst 1, 1) := dk_4 (dk_at dksX1_setCarry_2 14 rfl rfl)
theorem dX1_setCarry_62 : decode cX1_setCarry 62 = .ok (.isub, 1) := dk_100 (dk_at dksX1_setCarry_2 15 rfl rfl)
theorem dX1_setCarry_63 : decode cX1_setCarry 63 = .ok (.invokestatic 75, 3) := dk_184 0 75 (dk_at dksX1_setCarry_2 16 rfl rfl)
theorem dX1_setCarry_66 : decode cX1_setCarry 66 = .ok (.ifCond .eq 7, 3) := dk_153 0 7 (dk_at dksX1_setCarry_2 19 rfl rfl)
theorem dX1_setCarry_69 : decode cX1_setCarry 69 = .ok (.iconst 1, 1) := dk_4 (dk_at dksX1_setCarry_2 22 rfl rfl)
theorem dX1_setCarry_70 : decode cX1_setCarry 70 = .ok (.goto 4, 3) := dk_167 0 4 (dk_at dksX1_setCarry_3 0 rfl rfl)
theorem dX1_setCarry_73 : decode cX1_setCarry 73 = .ok (.iconst 0, 1) := dk_3 (dk_at dksX1_setCarry_3 3 rfl rfl)
theorem dX1_setCarry_74 : decode cX1_setCarry 74 = .ok (.invokestatic 79, 3) := dk_184 0 79 (dk_at dksX1_setCarry_3 4 rfl rfl)
theorem dX1_setCarry_77 : decode cX1_setCarry 77 = .ok (.iload_n 2, 1) := dk_28 (dk_at dksX1_setCarry_3 7 rfl rfl)
theorem dX1_setCarry_78 : decode cX1_setCarry 78 = .ok (.ifCond .eq 15, 3) := dk_153 0 15 (dk_at dksX1_setCarry_3 8 rfl rfl)
theorem dX1_setCarry_81 : decode cX1_setCarry 81 = .ok (.aload_n 0, 1) := dk_42 (dk_at dksX1_setCarry_3 11 rfl rfl)
theorem dX1_setCarry_82 : decode cX1_setCarry 82 = .ok (.getfield 67, 3) := dk_180 0 67 (dk_at dksX1_setCarry_3 12 rfl rfl)
theorem dX1_setCarry_85 : decode cX1_setCarry 85 = .ok (.getfield 124, 3) := dk_180 0 124 (dk_at dksX1_setCarry_3 15 rfl rfl)
theorem dX1_setCarry_88 : decode cX1_setCarry 88 = .ok (.iload_n 1, 1) := dk_27 (dk_at dksX1_setCarry_3 18 rfl rfl)
theorem dX1_setCarry_89 : decode cX1_setCarry 89 = .ok (.aaload, 1) := dk_50 (dk_at dksX1_setCarry_3 19 rfl rfl)
theorem dX1_setCarry_90 : decode cX1_setCarry 90 = .ok (.goto 12, 3) := dk_167 0 12 (dk_at dksX1_setCarry_3 20 rfl rfl)
theorem dX1_setCarry_93 : decode cX1_setCarry 93 = .ok (.aload_n 0, 1) := dk_42 (dk_at dksX1_setCarry_3 23 rfl rfl)
theorem dX1_setCarry_94 : decode cX1_setCarry 94 = .ok (.getfield 67, 3) := dk_180 0 67 (dk_at dksX1_setCarry_4 0 rfl rfl)
theorem dX1_setCarry_97 : decode cX1_setCarry 97 = .ok (.getfield 128, 3) := dk_180 0 128 (dk_at dksX1_setCarry_4 3 rfl rfl)
theorem dX1_setCarry_100 : decode cX1_setCarry 100 = .ok (.iload_n 1, 1) := dk_27 (dk_at dksX1_setCarry_4 6 rfl rfl)
theorem dX1_setCarry_101 : decode cX1_setCarry 101 = .ok (.aaload, 1) := dk_50 (dk_at dksX1_setCarry_4 7 rfl rfl)
theorem dX1_setCarry_102 : decode cX1_setCarry 102 = .ok (.astore 8, 2) := dk_58 8 (dk_at dksX1_setCarry_4 8 rfl rfl)
theorem dX1_setCarry_104 : decode cX1_setCarry 104 = .ok (.aload 8, 2) := dk_25 8 (dk_at dksX1_setCarry_4 10 rfl rfl)
theorem dX1_setCarry_106 : decode cX1_setCarry 106 = .ok (.getfield 131, 3) := dk_180 0 131 (dk_at dksX1_setCarry_4 12 rfl rfl)
theorem dX1_setCarry_109 : decode cX1_setCarry 109 = .ok (.iload_n 3, 1) := dk_29 (dk_at dksX1_setCarry_4 15 rfl rfl)
theorem dX1_setCarry_110 : decode cX1_setCarry 110 = .ok (.iaload, 1) := dk_46 (dk_at dksX1_setCarry_4 16 rfl rfl)
theorem dX1_setCarry_111 : decode cX1_setCarry 111 = .ok (.istore 9, 2) := dk_54 9 (dk_at dksX1_setCarry_4 17 rfl rfl)
theorem dX1_setCarry_113 : decode cX1_setCarry 113 = .ok (.aload 8, 2) := dk_25 8 (dk_at dksX1_setCarry_4 19 rfl rfl)
theorem dX1_setCarry_115 : decode cX1_setCarry 115 = .ok (.getfield 131, 3) := dk_180 0 131 (dk_at dksX1_setCarry_4 21 rfl rfl)
theorem dX1_setCarry_118 : decode cX1_setCarry 118 = .ok (.iload_n 3, 1) := dk_29 (dk_at dksX1_setCarry_5 0 rfl rfl)
theorem dX1_setCarry_119 : decode cX1_setCarry 119 = .ok (.iload 4, 2) := dk_21 4 (dk_at dksX1_setCarry_5 1 rfl rfl)
theorem dX1_setCarry_121 : decode cX1_setCarry 121 = .ok (.iastore, 1) := dk_79 (dk_at dksX1_setCarry_5 3 rfl rfl)
theorem dX1_setCarry_122 : decode cX1_setCarry 122 = .ok (.aload 8, 2) := dk_25 8 (dk_at dksX1_setCarry_5 4 rfl rfl)
theorem dX1_setCarry_124 : decode cX1_setCarry 124 = .ok (.getfield 136, 3) := dk_180 0 136 (dk_at dksX1_setCarry_5 6 rfl rfl)
theorem dX1_setCarry_127 : decode cX1_setCarry 127 = .ok (.iload_n 3, 1) := dk_29 (dk_at dksX1_setCarry_5 9 rfl rfl)
theorem dX1_setCarry_128 : decode cX1_setCarry 128 = .ok (.iload 5, 2) := dk_21 5 (dk_at dksX1_setCarry_5 10 rfl rfl)
theorem dX1_setCarry_130 : decode cX1_setCarry 130 = .ok (.iastore, 1) := dk_79 (dk_at dksX1_setCarry_5 12 rfl rfl)
theorem dX1_setCarry_131 : decode cX1_setCarry 131 = .ok (.iload 9, 2) := dk_21 9 (dk_at dksX1_setCarry_5 13 rfl rfl)
theorem dX1_setCarry_133 : decode cX1_setCarry 133 = .ok (.ireturn, 1) := dk_172 (dk_at dksX1_setCarry_5 15 rfl rfl)
abbrev cX1_map : ByteArray := prog_1_method_15_code
def yX1_map : MethodName := ⟨RX1, "map", "(III)I"⟩
def dkwX1_map_3 : List UInt8 := [180, 0, 139, 27, 50, 28, 29, 79, 42, 180, 0, 67, 27, 182, 0, 143, 172]
abbrev dktX1_map_3 : List UInt8 := dkwX1_map_3 ++ []
def dkwX1_map_2 : List UInt8 := [185, 0, 60, 2, 0, 192, 0, 55, 185, 0, 71, 1, 0, 184, 0, 75, 184, 0, 79, 42, 180, 0, 67]
abbrev dktX1_map_2 : List UInt8 := dkwX1_map_2 ++ dktX1_map_3
def dkwX1_map_1 : List UInt8 := [185, 0, 71, 1, 0, 184, 0, 75, 184, 0, 79, 29, 2, 42, 180, 0, 67, 180, 0, 96, 27]
abbrev dktX1_map_1 : List UInt8 := dkwX1_map_1 ++ dktX1_map_2
def dkwX1_map_0 : List UInt8 := [27, 184, 0, 83, 28, 3, 42, 182, 0, 116, 180, 0, 96, 27, 185, 0, 60, 2, 0, 192, 0, 55]
abbrev dktX1_map_0 : List UInt8 := dkwX1_map_0 ++ dktX1_map_1
theorem dksX1_map_0 : cX1_map.data.toList.drop 0 = dktX1_map_0 := by decide +kernel
theorem dksX1_map_1 : cX1_map.data.toList.drop 22 = dktX1_map_1 := dk_seg dksX1_map_0 22 rfl rfl
theorem dksX1_map_2 : cX1_map.data.toList.drop 43 = dktX1_map_2 := dk_seg dksX1_map_1 21 rfl rfl
theorem dksX1_map_3 : cX1_map.data.toList.drop 66 = dktX1_map_3 := dk_seg dksX1_map_2 23 rfl rfl
theorem dX1_map_0 : decode cX1_map 0 = .ok (.iload_n 1, 1) := dk_27 (dk_at dksX1_map_0 0 rfl rfl)
theorem dX1_map_1 : decode cX1_map 1 = .ok (.invokestatic 83, 3) := dk_184 0 83 (dk_at dksX1_map_0 1 rfl rfl)
theorem dX1_map_4 : decode cX1_map 4 = .ok (.iload_n 2, 1) := dk_28 (dk_at dksX1_map_0 4 rfl rfl)
theorem dX1_map_5 : decode cX1_map 5 = .ok (.iconst 0, 1) := dk_3 (dk_at dksX1_map_0 5 rfl rfl)
theorem dX1_map_6 : decode cX1_map 6 = .ok (.aload_n 0, 1) := dk_42 (dk_at dksX1_map_0 6 rfl rfl)
theorem dX1_map_7 : decode cX1_map 7 = .ok (.invokevirtual 116, 3) := dk_182 0 116 (dk_at dksX1_map_0 7 rfl rfl)
theorem dX1_map_10 : decode cX1_map 10 = .ok (.getfield 96, 3) := dk_180 0 96 (dk_at dksX1_map_0 10 rfl rfl)
theorem dX1_map_13 : decode cX1_map 13 = .ok (.iload_n 1, 1) := dk_27 (dk_at dksX1_map_0 13 rfl rfl)
theorem dX1_map_14 : decode cX1_map 14 = .ok (.invokeinterface 60 2, 5) := by decide +kernel
theorem dX1_map_19 : decode cX1_map 19 = .ok (.checkcast 55, 3) := dk_192 0 55 (dk_at dksX1_map_0 19 rfl rfl)
theorem dX1_map_22 : decode cX1_map 22 = .ok (.invokeinterface 71 1, 5) := by decide +kernel
theorem dX1_map_27 : decode cX1_map 27 = .ok (.invokestatic 75, 3) := dk_184 0 75 (dk_at dksX1_map_1 5 rfl rfl)
theorem dX1_map_30 : decode cX1_map 30 = .ok (.invokestatic 79, 3) := dk_184 0 79 (dk_at dksX1_map_1 8 rfl rfl)
theorem dX1_map_33 : decode cX1_map 33 = .ok (.iload_n 3, 1) := dk_29 (dk_at dksX1_map_1 11 rfl rfl)
theorem dX1_map_34 : decode cX1_map 34 = .ok (.iconst (-1), 1) := dk_2 (dk_at dksX1_map_1 12 rfl rfl)
theorem dX1_map_35 : decode cX1_map 35 = .ok (.aload_n 0, 1) := dk_42 (dk_at dksX1_map_1 13 rfl rfl)
theorem dX1_map_36 : decode cX1_map 36 = .ok (.getfield 67, 3) := dk_180 0 67 (dk_at dksX1_map_1 14 rfl rfl)
theorem dX1_map_39 : decode cX1_map 39 = .ok (.getfield 96, 3) := dk_180 0 96 (dk_at dksX1_map_1 17 rfl rfl)
theorem dX1_map_42 : decode cX1_map 42 = .ok (.iload_n 1, 1) := dk_27 (dk_at dksX1_map_1 20 rfl rfl)
theorem dX1_map_43 : decode cX1_map 43 = .ok (.invokeinterface 60 2, 5) := by decide +kernel
theorem dX1_map_48 : decode cX1_map 48 = .ok (.checkcast 55, 3) := dk_192 0 55 (dk_at dksX1_map_2 5 rfl rfl)
theorem dX1_map_51 : decode cX1_map 51 = .ok (.invokeinterface 71 1, 5) := by decide +kernel
theorem dX1_map_56 : decode cX1_map 56 = .ok (.invokestatic 75, 3) := dk_184 0 75 (dk_at dksX1_map_2 13 rfl rfl)
theorem dX1_map_59 : decode cX1_map 59 = .ok (.invokestatic 79, 3) := dk_184 0 79 (dk_at dksX1_map_2 16 rfl rfl)
theorem dX1_map_62 : decode cX1_map 62 = .ok (.aload_n 0, 1) := dk_42 (dk_at dksX1_map_2 19 rfl rfl)
theorem dX1_map_63 : decode cX1_map 63 = .ok (.getfield 67, 3) := dk_180 0 67 (dk_at dksX1_map_2 20 rfl rfl)
theorem dX1_map_66 : decode cX1_map 66 = .ok (.getfield 139, 3) := dk_180 0 139 (dk_at dksX1_map_3 0 rfl rfl)
theorem dX1_map_69 : decode cX1_map 69 = .ok (.iload_n 1, 1) := dk_27 (dk_at dksX1_map_3 3 rfl rfl)
theorem dX1_map_70 : decode cX1_map 70 = .ok (.aaload, 1) := dk_50 (dk_at dksX1_map_3 4 rfl rfl)
theorem dX1_map_71 : decode cX1_map 71 = .ok (.iload_n 2, 1) := dk_28 (dk_at dksX1_map_3 5 rfl rfl)
theorem dX1_map_72 : decode cX1_map 72 = .ok (.iload_n 3, 1) := dk_29 (dk_at dksX1_map_3 6 rfl rfl)
theorem dX1_map_73 : decode cX1_map 73 = .ok (.iastore, 1) := dk_79 (dk_at dksX1_map_3 7 rfl rfl)
theorem dX1_map_74 : decode cX1_map 74 = .ok (.aload_n 0, 1) := dk_42 (dk_at dksX1_map_3 8 rfl rfl)
theorem dX1_map_75 : decode cX1_map 75 = .ok (.getfield 67, 3) := dk_180 0 67 (dk_at dksX1_map_3 9 rfl rfl)
theorem dX1_map_78 : decode cX1_map 78 = .ok (.iload_n 1, 1) := dk_27 (dk_at dksX1_map_3 12 rfl rfl)
theorem dX1_map_79 : decode cX1_map 79 = .ok (.invokevirtual 143, 3) := dk_182 0 143 (dk_at dksX1_map_3 13 rfl rfl)
theorem dX1_map_82 : decode cX1_map 82 = .ok (.ireturn, 1) := dk_172 (dk_at dksX1_map_3 16 rfl rfl)
abbrev cX1_publish : ByteArray := prog_1_method_16_code
def yX1_publish : MethodName := ⟨RX1, "publish", "()I"⟩
def dkwX1_publish_2 : List UInt8 := [89, 42, 180, 0, 67, 183, 0, 64, 181, 0, 67, 42, 180, 0, 22, 185, 0, 71, 1, 0, 4, 100, 172]
abbrev dktX1_publish_2 : List UInt8 := dkwX1_publish_2 ++ []
def dkwX1_publish_1 : List UInt8 := [180, 0, 67, 182, 0, 147, 42, 180, 0, 22, 42, 180, 0, 67, 185, 0, 54, 2, 0, 87, 42, 187, 0, 51]
abbrev dktX1_publish_1 : List UInt8 := dkwX1_publish_1 ++ dktX1_publish_2
def dkwX1_publish_0 : List UInt8 := [42, 180, 0, 22, 185, 0, 71, 1, 0, 16, 6, 162, 0, 7, 4, 167, 0, 4, 3, 184, 0, 99, 42]
abbrev dktX1_publish_0 : List UInt8 := dkwX1_publish_0 ++ dktX1_publish_1
theorem dksX1_publish_0 : cX1_publish.data.toList.drop 0 = dktX1_publish_0 := by decide +kernel
theorem dksX1_publish_1 : cX1_publish.data.toList.drop 23 = dktX1_publish_1 := dk_seg dksX1_publish_0 23 rfl rfl
theorem dksX1_publish_2 : cX1_publish.data.toList.drop 47 = dktX1_publish_2 := dk_seg dksX1_publish_1 24 rfl rfl
theorem dX1_publish_0 : decode cX1_publish 0 = .ok (.aload_n 0, 1) := dk_42 (dk_at dksX1_publish_0 0 rfl rfl)
theorem dX1_publish_1 : decode cX1_publish 1 = .ok (.getfield 22, 3) := dk_180 0 22 (dk_at dksX1_publish_0 1 rfl rfl)
theorem dX1_publish_4 : decode cX1_publish 4 = .ok (.invokeinterface 71 1, 5) := by decide +kernel
theorem dX1_publish_9 : decode cX1_publish 9 = .ok (.bipush 6, 2) := dk_16 6 (dk_at dksX1_publish_0 9 rfl rfl)
theorem dX1_publish_11 : decode cX1_publish 11 = .ok (.if_icmp .ge 7, 3) := dk_162 0 7 (dk_at dksX1_publish_0 11 rfl rfl)
theorem dX1_publish_14 : decode cX1_publish 14 = .ok (.iconst 1, 1) := dk_4 (dk_at dksX1_publish_0 14 rfl rfl)
theorem dX1_publish_15 : decode cX1_publish 15 = .ok (.goto 4, 3) := dk_167 0 4 (dk_at dksX1_publish_0 15 rfl rfl)
theorem dX1_publish_18 : decode cX1_publish 18 = .ok (.iconst 0, 1) := dk_3 (dk_at dksX1_publish_0 18 rfl rfl)
theorem dX1_publish_19 : decode cX1_publish 19 = .ok (.invokestatic 99, 3) := dk_184 0 99 (dk_at dksX1_publish_0 19 rfl rfl)
theorem dX1_publish_22 : decode cX1_publish 22 = .ok (.aload_n 0, 1) := dk_42 (dk_at dksX1_publish_0 22 rfl rfl)
theorem dX1_publish_23 : decode cX1_publish 23 = .ok (.getfield 67, 3) := dk_180 0 67 (dk_at dksX1_publish_1 0 rfl rfl)
theorem dX1_publish_26 : decode cX1_publish 26 = .ok (.invokevirtual 147, 3) := dk_182 0 147 (dk_at dksX1_publish_1 3 rfl rfl)
theorem dX1_publish_29 : decode cX1_publish 29 = .ok (.aload_n 0, 1) := dk_42 (dk_at dksX1_publish_1 6 rfl rfl)
theorem dX1_publish_30 : decode cX1_publish 30 = .ok (.getfield 22, 3) := dk_180 0 22 (dk_at dksX1_publish_1 7 rfl rfl)
theorem dX1_publish_33 : decode cX1_publish 33 = .ok (.aload_n 0, 1) := dk_42 (dk_at dksX1_publish_1 10 rfl rfl)
theorem dX1_publish_34 : decode cX1_publish 34 = .ok (.getfield 67, 3) := dk_180 0 67 (dk_at dksX1_publish_1 11 rfl rfl)
theorem dX1_publish_37 : decode cX1_publish 37 = .ok (.invokeinterface 54 2, 5) := by decide +kernel
theorem dX1_publish_42 : decode cX1_publish 42 = .ok (.pop, 1) := dk_87 (dk_at dksX1_publish_1 19 rfl rfl)
theorem dX1_publish_43 : decode cX1_publish 43 = .ok (.aload_n 0, 1) := dk_42 (dk_at dksX1_publish_1 20 rfl rfl)
theorem dX1_publish_44 : decode cX1_publish 44 = .ok (.new 51, 3) := dk_187 0 51 (dk_at dksX1_publish_1 21 rfl rfl)
theorem dX1_publish_47 : decode cX1_publish 47 = .ok (.dup, 1) := dk_89 (dk_at dksX1_publish_2 0 rfl rfl)
theorem dX1_publish_48 : decode cX1_publish 48 = .ok (.aload_n 0, 1) := dk_42 (dk_at dksX1_publish_2 1 rfl rfl)
theorem dX1_publish_49 : decode cX1_publish 49 = .ok (.getfield 67, 3) := dk_180 0 67 (dk_at dksX1_publish_2 2 rfl rfl)
theorem dX1_publish_52 : decode cX1_publish 52 = .ok (.invokespecial 64, 3) := dk_183 0 64 (dk_at dksX1_publish_2 5 rfl rfl)
theorem dX1_publish_55 : decode cX1_publish 55 = .ok (.putfield 67, 3) := dk_181 0 67 (dk_at dksX1_publish_2 8 rfl rfl)
theorem dX1_publish_58 : decode cX1_publish 58 = .ok (.aload_n 0, 1) := dk_42 (dk_at dksX1_publish_2 11 rfl rfl)
theorem dX1_publish_59 : decode cX1_publish 59 = .ok (.getfield 22, 3) := dk_180 0 22 (dk_at dksX1_publish_2 12 rfl rfl)
theorem dX1_publish_62 : decode cX1_publish 62 = .ok (.invokeinterface 71 1, 5) := by decide +kernel
theorem dX1_publish_67 : decode cX1_publish 67 = .ok (.iconst 1, 1) := dk_4 (dk_at dksX1_publish_2 20 rfl rfl)
theorem dX1_publish_68 : decode cX1_publish 68 = .ok (.isub, 1) := dk_100 (dk_at dksX1_publish_2 21 rfl rfl)
theorem dX1_publish_69 : decode cX1_publish 69 = .ok (.ireturn, 1) := dk_172 (dk_at dksX1_publish_2 22 rfl rfl)
abbrev cX1_isTouched : ByteArray := prog_1_method_17_code
def yX1_isTouched : MethodName := ⟨RX1, "isTouched", "(II)Z"⟩
def dkwX1_isTouched_2 : List UInt8 := [182, 0, 154, 172]
abbrev dktX1_isTouched_2 : List UInt8 := dkwX1_isTouched_2 ++ []
def dkwX1_isTouched_1 : List UInt8 := [4, 96, 185, 0, 60, 2, 0, 192, 0, 51, 42, 180, 0, 22, 27, 185, 0, 60, 2, 0, 192, 0, 51, 28]
abbrev dktX1_isTouched_1 : List UInt8 := dkwX1_isTouched_1 ++ dktX1_isTouched_2
def dkwX1_isTouched_0 : List UInt8 := [27, 42, 180, 0, 22, 185, 0, 71, 1, 0, 4, 100, 184, 0, 150, 28, 184, 0, 83, 42, 180, 0, 22, 27]
abbrev dktX1_isTouched_0 : List UInt8 := dkwX1_isTouched_0 ++ dktX1_isTouched_1
theorem dksX1_isTouched_0 : cX1_isTouched.data.toList.drop 0 = dktX1_isTouched_0 := by decide +kernel
theorem dksX1_isTouched_1 : cX1_isTouched.data.toList.drop 24 = dktX1_isTouched_1 := dk_seg dksX1_isTouched_0 24 rfl rfl
theorem dksX1_isTouched_2 : cX1_isTouched.data.toList.drop 48 = dktX1_isTouched_2 := dk_seg dksX1_isTouched_1 24 rfl rfl
theorem dX1_isTouched_0 : decode cX1_isTouched 0 = .ok (.iload_n 1, 1) := dk_27 (dk_at dksX1_isTouched_0 0 rfl rfl)
theorem dX1_isTouched_1 : decode cX1_isTouched 1 = .ok (.aload_n 0, 1) := dk_42 (dk_at dksX1_isTouched_0 1 rfl rfl)
theorem dX1_isTouched_2 : decode cX1_isTouched 2 = .ok (.getfield 22, 3) := dk_180 0 22 (dk_at dksX1_isTouched_0 2 rfl rfl)
theorem dX1_isTouched_5 : decode cX1_isTouched 5 = .ok (.invokeinterface 71 1, 5) := by decide +kernel
theorem dX1_isTouched_10 : decode cX1_isTouched 10 = .ok (.iconst 1, 1) := dk_4 (dk_at dksX1_isTouched_0 10 rfl rfl)
theorem dX1_isTouched_11 : decode cX1_isTouched 11 = .ok (.isub, 1) := dk_100 (dk_at dksX1_isTouched_0 11 rfl rfl)
theorem dX1_isTouched_12 : decode cX1_isTouched 12 = .ok (.invokestatic 150, 3) := dk_184 0 150 (dk_at dksX1_isTouched_0 12 rfl rfl)
theorem dX1_isTouched_15 : decode cX1_isTouched 15 = .ok (.iload_n 2, 1) := dk_28 (dk_at dksX1_isTouched_0 15 rfl rfl)
theorem dX1_isTouched_16 : decode cX1_isTouched 16 = .ok (.invokestatic 83, 3) := dk_184 0 83 (dk_at dksX1_isTouched_0 16 rfl rfl)
theorem dX1_isTouched_19 : decode cX1_isTouched 19 = .ok (.aload_n 0, 1) := dk_42 (dk_at dksX1_isTouched_0 19 rfl rfl)
theorem dX1_isTouched_20 : decode cX1_isTouched 20 = .ok (.getfield 22, 3) := dk_180 0 22 (dk_at dksX1_isTouched_0 20 rfl rfl)
theorem dX1_isTouched_23 : decode cX1_isTouched 23 = .ok (.iload_n 1, 1) := dk_27 (dk_at dksX1_isTouched_0 23 rfl rfl)
theorem dX1_isTouched_24 : decode cX1_isTouched 24 = .ok (.iconst 1, 1) := dk_4 (dk_at dksX1_isTouched_1 0 rfl rfl)
theorem dX1_isTouched_25 : decode cX1_isTouched 25 = .ok (.iadd, 1) := dk_96 (dk_at dksX1_isTouched_1 1 rfl rfl)
theorem dX1_isTouched_26 : decode cX1_isTouched 26 = .ok (.invokeinterface 60 2, 5) := by decide +kernel
theorem dX1_isTouched_31 : decode cX1_isTouched 31 = .ok (.checkcast 51, 3) := dk_192 0 51 (dk_at dksX1_isTouched_1 7 rfl rfl)
theorem dX1_isTouched_34 : decode cX1_isTouched 34 = .ok (.aload_n 0, 1) := dk_42 (dk_at dksX1_isTouched_1 10 rfl rfl)
theorem dX1_isTouched_35 : decode cX1_isTouched 35 = .ok (.getfield 22, 3) := dk_180 0 22 (dk_at dksX1_isTouched_1 11 rfl rfl)
theorem dX1_isTouched_38 : decode cX1_isTouched 38 = .ok (.iload_n 1, 1) := dk_27 (dk_at dksX1_isTouched_1 14 rfl rfl)
theorem dX1_isTouched_39 : decode cX1_isTouched 39 = .ok (.invokeinterface 60 2, 5) := by decide +kernel
theorem dX1_isTouched_44 : decode cX1_isTouched 44 = .ok (.checkcast 51, 3) := dk_192 0 51 (dk_at dksX1_isTouched_1 20 rfl rfl)
theorem dX1_isTouched_47 : decode cX1_isTouched 47 = .ok (.iload_n 2, 1) := dk_28 (dk_at dksX1_isTouched_1 23 rfl rfl)
theorem dX1_isTouched_48 : decode cX1_isTouched 48 = .ok (.invokevirtual 154, 3) := dk_182 0 154 (dk_at dksX1_isTouched_2 0 rfl rfl)
theorem dX1_isTouched_51 : decode cX1_isTouched 51 = .ok (.ireturn, 1) := dk_172 (dk_at dksX1_isTouched_2 3 rfl rfl)
abbrev cX1_requireIndex : ByteArray := prog_1_method_2_code
def yX1_requireIndex : MethodName := ⟨RX1, "requireIndex", "(II)V"⟩
def dkwX1_requireIndex_0 : List UInt8 := [26, 155, 0, 8, 26, 27, 161, 0, 11, 187, 0, 1, 89, 183, 0, 3, 191, 177]
abbrev dktX1_requireIndex_0 : List UInt8 := dkwX1_requireIndex_0 ++ []
theorem dksX1_requireIndex_0 : cX1_requireIndex.data.toList.drop 0 = dktX1_requireIndex_0 := by decide +kernel
theorem dX1_requireIndex_0 : decode cX1_requireIndex 0 = .ok (.iload_n 0, 1) := dk_26 (dk_at dksX1_requireIndex_0 0 rfl rfl)
theorem dX1_requireIndex_1 : decode cX1_requireIndex 1 = .ok (.ifCond .lt 8, 3) := dk_155 0 8 (dk_at dksX1_requireIndex_0 1 rfl rfl)
theorem dX1_requireIndex_4 : decode cX1_requireIndex 4 = .ok (.iload_n 0, 1) := dk_26 (dk_at dksX1_requireIndex_0 4 rfl rfl)
theorem dX1_requireIndex_5 : decode cX1_requireIndex 5 = .ok (.iload_n 1, 1) := dk_27 (dk_at dksX1_requireIndex_0 5 rfl rfl)
theorem dX1_requireIndex_6 : decode cX1_requireIndex 6 = .ok (.if_icmp .lt 11, 3) := dk_161 0 11 (dk_at dksX1_requireIndex_0 6 rfl rfl)
theorem dX1_requireIndex_9 : decode cX1_requireIndex 9 = .ok (.new 1, 3) := dk_187 0 1 (dk_at dksX1_requireIndex_0 9 rfl rfl)
theorem dX1_requireIndex_12 : decode cX1_requireIndex 12 = .ok (.dup, 1) := dk_89 (dk_at dksX1_requireIndex_0 12 rfl rfl)
theorem dX1_requireIndex_13 : decode cX1_requireIndex 13 = .ok (.invokespecial 3, 3) := dk_183 0 3 (dk_at dksX1_requireIndex_0 13 rfl rfl)
theorem dX1_requireIndex_16 : decode cX1_requireIndex 16 = .ok (.athrow, 1) := dk_191 (dk_at dksX1_requireIndex_0 16 rfl rfl)
theorem dX1_requireIndex_17 : decode cX1_requireIndex 17 = .ok (.return_, 1) := dk_177 (dk_at dksX1_requireIndex_0 17 rfl rfl)
abbrev cX1_start : ByteArray := prog_1_method_30_code
def yX1_start : MethodName := ⟨RX1, "start", "(II)I"⟩
def dkwX1_start_2 : List UInt8 := [180, 0, 158, 28, 3, 3, 183, 1, 57, 185, 0, 54, 2, 0, 87, 42, 182, 1, 38, 21, 4, 172]
abbrev dktX1_start_2 : List UInt8 := dkwX1_start_2 ++ []
def dkwX1_start_1 : List UInt8 := [184, 0, 99, 42, 180, 0, 158, 54, 4, 45, 16, 114, 182, 1, 54, 45, 180, 0, 198, 187, 0, 181, 89, 42]
abbrev dktX1_start_1 : List UInt8 := dkwX1_start_1 ++ dktX1_start_2
def dkwX1_start_0 : List UInt8 := [42, 27, 182, 1, 47, 78, 28, 184, 0, 83, 45, 182, 1, 51, 154, 0, 7, 4, 167, 0, 4, 3]
abbrev dktX1_start_0 : List UInt8 := dkwX1_start_0 ++ dktX1_start_1
theorem dksX1_start_0 : cX1_start.data.toList.drop 0 = dktX1_start_0 := by decide +kernel
theorem dksX1_start_1 : cX1_start.data.toList.drop 22 = dktX1_start_1 := dk_seg dksX1_start_0 22 rfl rfl
theorem dksX1_start_2 : cX1_start.data.toList.drop 46 = dktX1_start_2 := dk_seg dksX1_start_1 24 rfl rfl
theorem dX1_start_0 : decode cX1_start 0 = .ok (.aload_n 0, 1) := dk_42 (dk_at dksX1_start_0 0 rfl rfl)
theorem dX1_start_1 : decode cX1_start 1 = .ok (.iload_n 1, 1) := dk_27 (dk_at dksX1_start_0 1 rfl rfl)
theorem dX1_start_2 : decode cX1_start 2 = .ok (.invokevirtual 303, 3) := dk_182 1 47 (dk_at dksX1_start_0 2 rfl rfl)
theorem dX1_start_5 : decode cX1_start 5 = .ok (.astore_n 3, 1) := dk_78 (dk_at dksX1_start_0 5 rfl rfl)
theorem dX1_start_6 : decode cX1_start 6 = .ok (.iload_n 2, 1) := dk_28 (dk_at dksX1_start_0 6 rfl rfl)
theorem dX1_start_7 : decode cX1_start 7 = .ok (.invokestatic 83, 3) := dk_184 0 83 (dk_at dksX1_start_0 7 rfl rfl)
theorem dX1_start_10 : decode cX1_start 10 = .ok (.aload_n 3, 1) := dk_45 (dk_at dksX1_start_0 10 rfl rfl)
theorem dX1_start_11 : decode cX1_start 11 = .ok (.invokevirtual 307, 3) := dk_182 1 51 (dk_at dksX1_start_0 11 rfl rfl)
theorem dX1_start_14 : decode cX1_start 14 = .ok (.ifCond .ne 7, 3) := dk_154 0 7 (dk_at dksX1_start_0 14 rfl rfl)
theorem dX1_start_17 : decode cX1_start 17 = .ok (.iconst 1, 1) := dk_4 (dk_at dksX1_start_0 17 rfl rfl)
theorem dX1_start_18 : decode cX1_start 18 = .ok (.goto 4, 3) := dk_167 0 4 (dk_at dksX1_start_0 18 rfl rfl)
theorem dX1_start_21 : decode cX1_start 21 = .ok (.iconst 0, 1) := dk_3 (dk_at dksX1_start_0 21 rfl rfl)
theorem dX1_start_22 : decode cX1_start 22 = .ok (.invokestatic 99, 3) := dk_184 0 99 (dk_at dksX1_start_1 0 rfl rfl)
theorem dX1_start_25 : decode cX1_start 25 = .ok (.aload_n 0, 1) := dk_42 (dk_at dksX1_start_1 3 rfl rfl)
theorem dX1_start_26 : decode cX1_start 26 = .ok (.getfield 158, 3) := dk_180 0 158 (dk_at dksX1_start_1 4 rfl rfl)
theorem dX1_start_29 : decode cX1_start 29 = .ok (.istore 4, 2) := dk_54 4 (dk_at dksX1_start_1 7 rfl rfl)
theorem dX1_start_31 : decode cX1_start 31 = .ok (.aload_n 3, 1) := dk_45 (dk_at dksX1_start_1 9 rfl rfl)
theorem dX1_start_32 : decode cX1_start 32 = .ok (.bipush 114, 2) := dk_16 114 (dk_at dksX1_start_1 10 rfl rfl)
theorem dX1_start_34 : decode cX1_start 34 = .ok (.invokevirtual 310, 3) := dk_182 1 54 (dk_at dksX1_start_1 12 rfl rfl)
theorem dX1_start_37 : decode cX1_start 37 = .ok (.aload_n 3, 1) := dk_45 (dk_at dksX1_start_1 15 rfl rfl)
theorem dX1_start_38 : decode cX1_start 38 = .ok (.getfield 198, 3) := dk_180 0 198 (dk_at dksX1_start_1 16 rfl rfl)
theorem dX1_start_41 : decode cX1_start 41 = .ok (.new 181, 3) := dk_187 0 181 (dk_at dksX1_start_1 19 rfl rfl)
theorem dX1_start_44 : decode cX1_start 44 = .ok (.dup, 1) := dk_89 (dk_at dksX1_start_1 22 rfl rfl)
theorem dX1_start_45 : decode cX1_start 45 = .ok (.aload_n 0, 1) := dk_42 (dk_at dksX1_start_1 23 rfl rfl)
theorem dX1_start_46 : decode cX1_start 46 = .ok (.getfield 158, 3) := dk_180 0 158 (dk_at dksX1_start_2 0 rfl rfl)
theorem dX1_start_49 : decode cX1_start 49 = .ok (.iload_n 2, 1) := dk_28 (dk_at dksX1_start_2 3 rfl rfl)
theorem dX1_start_50 : decode cX1_start 50 = .ok (.iconst 0, 1) := dk_3 (dk_at dksX1_start_2 4 rfl rfl)
theorem dX1_start_51 : decode cX1_start 51 = .ok (.iconst 0, 1) := dk_3 (dk_at dksX1_start_2 5 rfl rfl)
theorem dX1_start_52 : decode cX1_start 52 = .ok (.invokespecial 313, 3) := dk_183 1 57 (dk_at dksX1_start_2 6 rfl rfl)
theorem dX1_start_55 : decode cX1_start 55 = .ok (.invokeinterface 54 2, 5) := by decide +kernel
theorem dX1_start_60 : decode cX1_start 60 = .ok (.pop, 1) := dk_87 (dk_at dksX1_start_2 14 rfl rfl)
theorem dX1_start_61 : decode cX1_start 61 = .ok (.aload_n 0, 1) := dk_42 (dk_at dksX1_start_2 15 rfl rfl)
theorem dX1_start_62 : decode cX1_start 62 = .ok (.invokevirtual 294, 3) := dk_182 1 38 (dk_at dksX1_start_2 16 rfl rfl)
theorem dX1_start_65 : decode cX1_start 65 = .ok (.iload 4, 2) := dk_21 4 (dk_at dksX1_start_2 19 rfl rfl)
theorem dX1_start_67 : decode cX1_start 67 = .ok (.ireturn, 1) := dk_172 (dk_at dksX1_start_2 21 rfl rfl)
abbrev cX1_strandAt : ByteArray := prog_1_method_10_code
def yX1_strandAt : MethodName := ⟨RX1, "strandAt", "(I)LSwapWhile$Strand;"⟩
def dkwX1_strandAt_0 : List UInt8 := [27, 3, 5, 184, 0, 75, 184, 0, 79, 42, 180, 0, 34, 27, 50, 176]
abbrev dktX1_strandAt_0 : List UInt8 := dkwX1_strandAt_0 ++ []
theorem dksX1_strandAt_0 : cX1_strandAt.data.toList.drop 0 = dktX1_strandAt_0 := by decide +kernel
theorem dX1_strandAt_0 : decode cX1_strandAt 0 = .ok (.iload_n 1, 1) := dk_27 (dk_at dksX1_strandAt_0 0 rfl rfl)
theorem dX1_strandAt_1 : decode cX1_strandAt 1 = .ok (.iconst 0, 1) := dk_3 (dk_at dksX1_strandAt_0 1 rfl rfl)
theorem dX1_strandAt_2 : decode cX1_strandAt 2 = .ok (.iconst 2, 1) := dk_5 (dk_at dksX1_strandAt_0 2 rfl rfl)
theorem dX1_strandAt_3 : decode cX1_strandAt 3 = .ok (.invokestatic 75, 3) := dk_184 0 75 (dk_at dksX1_strandAt_0 3 rfl rfl)
theorem dX1_strandAt_6 : decode cX1_strandAt 6 = .ok (.invokestatic 79, 3) := dk_184 0 79 (dk_at dksX1_strandAt_0 6 rfl rfl)
theorem dX1_strandAt_9 : decode cX1_strandAt 9 = .ok (.aload_n 0, 1) := dk_42 (dk_at dksX1_strandAt_0 9 rfl rfl)
theorem dX1_strandAt_10 : decode cX1_strandAt 10 = .ok (.getfield 34, 3) := dk_180 0 34 (dk_at dksX1_strandAt_0 10 rfl rfl)
theorem dX1_strandAt_13 : decode cX1_strandAt 13 = .ok (.iload_n 1, 1) := dk_27 (dk_at dksX1_strandAt_0 13 rfl rfl)
theorem dX1_strandAt_14 : decode cX1_strandAt 14 = .ok (.aaload, 1) := dk_50 (dk_at dksX1_strandAt_0 14 rfl rfl)
theorem dX1_strandAt_15 : decode cX1_strandAt 15 = .ok (.areturn, 1) := dk_176 (dk_at dksX1_strandAt_0 15 rfl rfl)
abbrev cX1_look : ByteArray := prog_1_method_26_code
def yX1_look : MethodName := ⟨RX1, "look", "()V"⟩
def dkwX1_look_3 : List UInt8 := [192, 0, 163, 78, 42, 44, 182, 1, 24, 167, 255, 181, 177]
abbrev dktX1_look_3 : List UInt8 := dkwX1_look_3 ++ []
def dkwX1_look_2 : List UInt8 := [154, 0, 7, 4, 167, 0, 4, 3, 60, 27, 153, 0, 22, 42, 180, 0, 41, 3, 185, 1, 21, 2, 0]
abbrev dktX1_look_2 : List UInt8 := dkwX1_look_2 ++ dktX1_look_3
def dkwX1_look_1 : List UInt8 := [185, 0, 60, 2, 0, 192, 0, 163, 77, 42, 44, 182, 0, 225, 153, 0, 11, 42, 44, 182, 1, 17]
abbrev dktX1_look_1 : List UInt8 := dkwX1_look_1 ++ dktX1_look_2
def dkwX1_look_0 : List UInt8 := [4, 60, 27, 153, 0, 77, 42, 180, 0, 41, 185, 1, 14, 1, 0, 154, 0, 65, 42, 180, 0, 41, 3]
abbrev dktX1_look_0 : List UInt8 := dkwX1_look_0 ++ dktX1_look_1
theorem dksX1_look_0 : cX1_look.data.toList.drop 0 = dktX1_look_0 := by decide +kernel
theorem dksX1_look_1 : cX1_look.data.toList.drop 23 = dktX1_look_1 := dk_seg dksX1_look_0 23 rfl rfl
theorem dksX1_look_2 : cX1_look.data.toList.drop 45 = dktX1_look_2 := dk_seg dksX1_look_1 22 rfl rfl
theorem dksX1_look_3 : cX1_look.data.toList.drop 68 = dktX1_look_3 := dk_seg dksX1_look_2 23 rfl rfl
theorem dX1_look_0 : decode cX1_look 0 = .ok (.iconst 1, 1) := dk_4 (dk_at dksX1_look_0 0 rfl rfl)
theorem dX1_look_1 : decode cX1_look 1 = .ok (.istore_n 1, 1) := dk_60 (dk_at dksX1_look_0 1 rfl rfl)
theorem dX1_look_2 : decode cX1_look 2 = .ok (.iload_n 1, 1) := dk_27 (dk_at dksX1_look_0 2 rfl rfl)
theorem dX1_look_3 : decode cX1_look 3 = .ok (.ifCond .eq 77, 3) := dk_153 0 77 (dk_at dksX1_look_0 3 rfl rfl)
theorem dX1_look_6 : decode cX1_look 6 = .ok (.aload_n 0, 1) := dk_42 (dk_at dksX1_look_0 6 rfl rfl)
theorem dX1_look_7 : decode cX1_look 7 = .ok (.getfield 41, 3) := dk_180 0 41 (dk_at dksX1_look_0 7 rfl rfl)
theorem dX1_look_10 : decode cX1_look 10 = .ok (.invokeinterface 270 1, 5) := by decide +kernel
theorem dX1_look_15 : decode cX1_look 15 = .ok (.ifCond .ne 65, 3) := dk_154 0 65 (dk_at dksX1_look_0 15 rfl rfl)
theorem dX1_look_18 : decode cX1_look 18 = .ok (.aload_n 0, 1) := dk_42 (dk_at dksX1_look_0 18 rfl rfl)
theorem dX1_look_19 : decode cX1_look 19 = .ok (.getfield 41, 3) := dk_180 0 41 (dk_at dksX1_look_0 19 rfl rfl)
theorem dX1_look_22 : decode cX1_look 22 = .ok (.iconst 0, 1) := dk_3 (dk_at dksX1_look_0 22 rfl rfl)
theorem dX1_look_23 : decode cX1_look 23 = .ok (.invokeinterface 60 2, 5) := by decide +kernel
theorem dX1_look_28 : decode cX1_look 28 = .ok (.checkcast 163, 3) := dk_192 0 163 (dk_at dksX1_look_1 5 rfl rfl)
theorem dX1_look_31 : decode cX1_look 31 = .ok (.astore_n 2, 1) := dk_77 (dk_at dksX1_look_1 8 rfl rfl)
theorem dX1_look_32 : decode cX1_look 32 = .ok (.aload_n 0, 1) := dk_42 (dk_at dksX1_look_1 9 rfl rfl)
theorem dX1_look_33 : decode cX1_look 33 = .ok (.aload_n 2, 1) := dk_44 (dk_at dksX1_look_1 10 rfl rfl)
theorem dX1_look_34 : decode cX1_look 34 = .ok (.invokevirtual 225, 3) := dk_182 0 225 (dk_at dksX1_look_1 11 rfl rfl)
theorem dX1_look_37 : decode cX1_look 37 = .ok (.ifCond .eq 11, 3) := dk_153 0 11 (dk_at dksX1_look_1 14 rfl rfl)
theorem dX1_look_40 : decode cX1_look 40 = .ok (.aload_n 0, 1) := dk_42 (dk_at dksX1_look_1 17 rfl rfl)
theorem dX1_look_41 : decode cX1_look 41 = .ok (.aload_n 2, 1) := dk_44 (dk_at dksX1_look_1 18 rfl rfl)
theorem dX1_look_42 : decode cX1_look 42 = .ok (.invokevirtual 273, 3) := dk_182 1 17 (dk_at dksX1_look_1 19 rfl rfl)
theorem dX1_look_45 : decode cX1_look 45 = .ok (.ifCond .ne 7, 3) := dk_154 0 7 (dk_at dksX1_look_2 0 rfl rfl)
theorem dX1_look_48 : decode cX1_look 48 = .ok (.iconst 1, 1) := dk_4 (dk_at dksX1_look_2 3 rfl rfl)
theorem dX1_look_49 : decode cX1_look 49 = .ok (.goto 4, 3) := dk_167 0 4 (dk_at dksX1_look_2 4 rfl rfl)
theorem dX1_look_52 : decode cX1_look 52 = .ok (.iconst 0, 1) := dk_3 (dk_at dksX1_look_2 7 rfl rfl)
theorem dX1_look_53 : decode cX1_look 53 = .ok (.istore_n 1, 1) := dk_60 (dk_at dksX1_look_2 8 rfl rfl)
theorem dX1_look_54 : decode cX1_look 54 = .ok (.iload_n 1, 1) := dk_27 (dk_at dksX1_look_2 9 rfl rfl)
theorem dX1_look_55 : decode cX1_look 55 = .ok (.ifCond .eq 22, 3) := dk_153 0 22 (dk_at dksX1_look_2 10 rfl rfl)
theorem dX1_look_58 : decode cX1_look 58 = .ok (.aload_n 0, 1) := dk_42 (dk_at dksX1_look_2 13 rfl rfl)
theorem dX1_look_59 : decode cX1_look 59 = .ok (.getfield 41, 3) := dk_180 0 41 (dk_at dksX1_look_2 14 rfl rfl)
theorem dX1_look_62 : decode cX1_look 62 = .ok (.iconst 0, 1) := dk_3 (dk_at dksX1_look_2 17 rfl rfl)
theorem dX1_look_63 : decode cX1_look 63 = .ok (.invokeinterface 277 2, 5) := by decide +kernel
theorem dX1_look_68 : decode cX1_look 68 = .ok (.checkcast 163, 3) := dk_192 0 163 (dk_at dksX1_look_3 0 rfl rfl)
theorem dX1_look_71 : decode cX1_look 71 = .ok (.astore_n 3, 1) := dk_78 (dk_at dksX1_look_3 3 rfl rfl)
theorem dX1_look_72 : decode cX1_look 72 = .ok (.aload_n 0, 1) := dk_42 (dk_at dksX1_look_3 4 rfl rfl)
theorem dX1_look_73 : decode cX1_look 73 = .ok (.aload_n 2, 1) := dk_44 (dk_at dksX1_look_3 5 rfl rfl)
theorem dX1_look_74 : decode cX1_look 74 = .ok (.invokevirtual 280, 3) := dk_182 1 24 (dk_at dksX1_look_3 6 rfl rfl)
theorem dX1_look_77 : decode cX1_look 77 = .ok (.goto (-75), 3) := dk_167 255 181 (dk_at dksX1_look_3 9 rfl rfl)
theorem dX1_look_80 : decode cX1_look 80 = .ok (.return_, 1) := dk_177 (dk_at dksX1_look_3 12 rfl rfl)
abbrev cX1_canLead : ByteArray := prog_1_method_23_code
def yX1_canLead : MethodName := ⟨RX1, "canLead", "(LSwapWhile$Change;)Z"⟩
def dkwX1_canLead_0 : List UInt8 := [43, 42, 180, 0, 158, 182, 0, 162, 3, 42, 180, 0, 22, 185, 0, 71, 1, 0, 4, 100, 184, 0, 75, 172]
abbrev dktX1_canLead_0 : List UInt8 := dkwX1_canLead_0 ++ []
theorem dksX1_canLead_0 : cX1_canLead.data.toList.drop 0 = dktX1_canLead_0 := by decide +kernel
theorem dX1_canLead_0 : decode cX1_canLead 0 = .ok (.aload_n 1, 1) := dk_43 (dk_at dksX1_canLead_0 0 rfl rfl)
theorem dX1_canLead_1 : decode cX1_canLead 1 = .ok (.aload_n 0, 1) := dk_42 (dk_at dksX1_canLead_0 1 rfl rfl)
theorem dX1_canLead_2 : decode cX1_canLead 2 = .ok (.getfield 158, 3) := dk_180 0 158 (dk_at dksX1_canLead_0 2 rfl rfl)
theorem dX1_canLead_5 : decode cX1_canLead 5 = .ok (.invokevirtual 162, 3) := dk_182 0 162 (dk_at dksX1_canLead_0 5 rfl rfl)
theorem dX1_canLead_8 : decode cX1_canLead 8 = .ok (.iconst 0, 1) := dk_3 (dk_at dksX1_canLead_0 8 rfl rfl)
theorem dX1_canLead_9 : decode cX1_canLead 9 = .ok (.aload_n 0, 1) := dk_42 (dk_at dksX1_canLead_0 9 rfl rfl)
theorem dX1_canLead_10 : decode cX1_canLead 10 = .ok (.getfield 22, 3) := dk_180 0 22 (dk_at dksX1_canLead_0 10 rfl rfl)
theorem dX1_canLead_13 : decode cX1_canLead 13 = .ok (.invokeinterface 71 1, 5) := by decide +kernel
theorem dX1_canLead_18 : decode cX1_canLead 18 = .ok (.iconst 1, 1) := dk_4 (dk_at dksX1_canLead_0 18 rfl rfl)
theorem dX1_canLead_19 : decode cX1_canLead 19 = .ok (.isub, 1) := dk_100 (dk_at dksX1_canLead_0 19 rfl rfl)
theorem dX1_canLead_20 : decode cX1_canLead 20 = .ok (.invokestatic 75, 3) := dk_184 0 75 (dk_at dksX1_canLead_0 20 rfl rfl)
theorem dX1_canLead_23 : decode cX1_canLead 23 = .ok (.ireturn, 1) := dk_172 (dk_at dksX1_canLead_0 23 rfl rfl)
abbrev cX1_countAgainst : ByteArray := prog_1_method_22_code
def yX1_countAgainst : MethodName := ⟨RX1, "countAgainst", "(LSwapWhile$Change;)I"⟩
def dkwX1_countAgainst_2 : List UInt8 := [45, 43, 186, 0, 232, 0, 0, 182, 0, 235, 172]
abbrev dktX1_countAgainst_2 : List UInt8 := dkwX1_countAgainst_2 ++ []
def dkwX1_countAgainst_1 : List UInt8 := [42, 28, 43, 186, 0, 229, 0, 0, 78, 42, 43, 180, 0, 221, 16, 119, 160, 0, 7, 45, 167, 0, 11, 42]
abbrev dktX1_countAgainst_1 : List UInt8 := dkwX1_countAgainst_1 ++ dktX1_countAgainst_2
def dkwX1_countAgainst_0 : List UInt8 := [43, 180, 0, 221, 16, 111, 159, 0, 11, 42, 43, 182, 0, 225, 154, 0, 5, 3, 172, 42, 180, 0, 158, 61]
abbrev dktX1_countAgainst_0 : List UInt8 := dkwX1_countAgainst_0 ++ dktX1_countAgainst_1
theorem dksX1_countAgainst_0 : cX1_countAgainst.data.toList.drop 0 = dktX1_countAgainst_0 := by decide +kernel
theorem dksX1_countAgainst_1 : cX1_countAgainst.data.toList.drop 24 = dktX1_countAgainst_1 := dk_seg dksX1_countAgainst_0 24 rfl rfl
theorem dksX1_countAgainst_2 : cX1_countAgainst.data.toList.drop 48 = dktX1_countAgainst_2 := dk_seg dksX1_countAgainst_1 24 rfl rfl
theorem dX1_countAgainst_0 : decode cX1_countAgainst 0 = .ok (.aload_n 1, 1) := dk_43 (dk_at dksX1_countAgainst_0 0 rfl rfl)
theorem dX1_countAgainst_1 : decode cX1_countAgainst 1 = .ok (.getfield 221, 3) := dk_180 0 221 (dk_at dksX1_countAgainst_0 1 rfl rfl)
theorem dX1_countAgainst_4 : decode cX1_countAgainst 4 = .ok (.bipush 111, 2) := dk_16 111 (dk_at dksX1_countAgainst_0 4 rfl rfl)
theorem dX1_countAgainst_6 : decode cX1_countAgainst 6 = .ok (.if_icmp .eq 11, 3) := dk_159 0 11 (dk_at dksX1_countAgainst_0 6 rfl rfl)
theorem dX1_countAgainst_9 : decode cX1_countAgainst 9 = .ok (.aload_n 0, 1) := dk_42 (dk_at dksX1_countAgainst_0 9 rfl rfl)
theorem dX1_countAgainst_10 : decode cX1_countAgainst 10 = .ok (.aload_n 1, 1) := dk_43 (dk_at dksX1_countAgainst_0 10 rfl rfl)
theorem dX1_countAgainst_11 : decode cX1_countAgainst 11 = .ok (.invokevirtual 225, 3) := dk_182 0 225 (dk_at dksX1_countAgainst_0 11 rfl rfl)
theorem dX1_countAgainst_14 : decode cX1_countAgainst 14 = .ok (.ifCond .ne 5, 3) := dk_154 0 5 (dk_at dksX1_countAgainst_0 14 rfl rfl)
theorem dX1_countAgainst_17 : decode cX1_countAgainst 17 = .ok (.iconst 0, 1) := dk_3 (dk_at dksX1_countAgainst_0 17 rfl rfl)
theorem dX1_countAgainst_18 : decode cX1_countAgainst 18 = .ok (.ireturn, 1) := dk_172 (dk_at dksX1_countAgainst_0 18 rfl rfl)
theorem dX1_countAgainst_19 : decode cX1_countAgainst 19 = .ok (.aload_n 0, 1) := dk_42 (dk_at dksX1_countAgainst_0 19 rfl rfl)
theorem dX1_countAgainst_20 : decode cX1_countAgainst 20 = .ok (.getfield 158, 3) := dk_180 0 158 (dk_at dksX1_countAgainst_0 20 rfl rfl)
theorem dX1_countAgainst_23 : decode cX1_countAgainst 23 = .ok (.istore_n 2, 1) := dk_61 (dk_at dksX1_countAgainst_0 23 rfl rfl)
theorem dX1_countAgainst_24 : decode cX1_countAgainst 24 = .ok (.aload_n 0, 1) := dk_42 (dk_at dksX1_countAgainst_1 0 rfl rfl)
theorem dX1_countAgainst_25 : decode cX1_countAgainst 25 = .ok (.iload_n 2, 1) := dk_28 (dk_at dksX1_countAgainst_1 1 rfl rfl)
theorem dX1_countAgainst_26 : decode cX1_countAgainst 26 = .ok (.aload_n 1, 1) := dk_43 (dk_at dksX1_countAgainst_1 2 rfl rfl)
theorem dX1_countAgainst_27 : decode cX1_countAgainst 27 = .ok (.invokedynamic 229, 5) := by decide +kernel
theorem dX1_countAgainst_32 : decode cX1_countAgainst 32 = .ok (.astore_n 3, 1) := dk_78 (dk_at dksX1_countAgainst_1 8 rfl rfl)
theorem dX1_countAgainst_33 : decode cX1_countAgainst 33 = .ok (.aload_n 0, 1) := dk_42 (dk_at dksX1_countAgainst_1 9 rfl rfl)
theorem dX1_countAgainst_34 : decode cX1_countAgainst 34 = .ok (.aload_n 1, 1) := dk_43 (dk_at dksX1_countAgainst_1 10 rfl rfl)
theorem dX1_countAgainst_35 : decode cX1_countAgainst 35 = .ok (.getfield 221, 3) := dk_180 0 221 (dk_at dksX1_countAgainst_1 11 rfl rfl)
theorem dX1_countAgainst_38 : decode cX1_countAgainst 38 = .ok (.bipush 119, 2) := dk_16 119 (dk_at dksX1_countAgainst_1 14 rfl rfl)
theorem dX1_countAgainst_40 : decode cX1_countAgainst 40 = .ok (.if_icmp .ne 7, 3) := dk_160 0 7 (dk_at dksX1_countAgainst_1 16 rfl rfl)
theorem dX1_countAgainst_43 : decode cX1_countAgainst 43 = .ok (.aload_n 3, 1) := dk_45 (dk_at dksX1_countAgainst_1 19 rfl rfl)
theorem dX1_countAgainst_44 : decode cX1_countAgainst 44 = .ok (.goto 11, 3) := dk_167 0 11 (dk_at dksX1_countAgainst_1 20 rfl rfl)
theorem dX1_countAgainst_47 : decode cX1_countAgainst 47 = .ok (.aload_n 0, 1) := dk_42 (dk_at dksX1_countAgainst_1 23 rfl rfl)
theorem dX1_countAgainst_48 : decode cX1_countAgainst 48 = .ok (.aload_n 3, 1) := dk_45 (dk_at dksX1_countAgainst_2 0 rfl rfl)
theorem dX1_countAgainst_49 : decode cX1_countAgainst 49 = .ok (.aload_n 1, 1) := dk_43 (dk_at dksX1_countAgainst_2 1 rfl rfl)
theorem dX1_countAgainst_50 : decode cX1_countAgainst 50 = .ok (.invokedynamic 232, 5) := by decide +kernel
theorem dX1_countAgainst_55 : decode cX1_countAgainst 55 = .ok (.invokevirtual 235, 3) := dk_182 0 235 (dk_at dksX1_countAgainst_2 7 rfl rfl)
theorem dX1_countAgainst_58 : decode cX1_countAgainst 58 = .ok (.ireturn, 1) := dk_172 (dk_at dksX1_countAgainst_2 10 rfl rfl)
abbrev cX1_lambda_countAgainst_0 : ByteArray := prog_1_method_69_code
def yX1_lambda_countAgainst_0 : MethodName := ⟨RX1, "lambda$countAgainst$0", "(ILSwapWhile$Change;LSwapWhile$Frame;)Z"⟩
def dkwX1_lambda_countAgainst_0_0 : List UInt8 := [45, 27, 182, 0, 239, 153, 0, 16, 42, 44, 45, 182, 0, 243, 153, 0, 7, 4, 167, 0, 4, 3, 172]
abbrev dktX1_lambda_countAgainst_0_0 : List UInt8 := dkwX1_lambda_countAgainst_0_0 ++ []
theorem dksX1_lambda_countAgainst_0_0 : cX1_lambda_countAgainst_0.data.toList.drop 0 = dktX1_lambda_countAgainst_0_0 := by decide +kernel
theorem dX1_lambda_countAgainst_0_0 : decode cX1_lambda_countAgainst_0 0 = .ok (.aload_n 3, 1) := dk_45 (dk_at dksX1_lambda_countAgainst_0_0 0 rfl rfl)
theorem dX1_lambda_countAgainst_0_1 : decode cX1_lambda_countAgainst_0 1 = .ok (.iload_n 1, 1) := dk_27 (dk_at dksX1_lambda_countAgainst_0_0 1 rfl rfl)
theorem dX1_lambda_countAgainst_0_2 : decode cX1_lambda_countAgainst_0 2 = .ok (.invokevirtual 239, 3) := dk_182 0 239 (dk_at dksX1_lambda_countAgainst_0_0 2 rfl rfl)
theorem dX1_lambda_countAgainst_0_5 : decode cX1_lambda_countAgainst_0 5 = .ok (.ifCond .eq 16, 3) := dk_153 0 16 (dk_at dksX1_lambda_countAgainst_0_0 5 rfl rfl)
theorem dX1_lambda_countAgainst_0_8 : decode cX1_lambda_countAgainst_0 8 = .ok (.aload_n 0, 1) := dk_42 (dk_at dksX1_lambda_countAgainst_0_0 8 rfl rfl)
theorem dX1_lambda_countAgainst_0_9 : decode cX1_lambda_countAgainst_0 9 = .ok (.aload_n 2, 1) := dk_44 (dk_at dksX1_lambda_countAgainst_0_0 9 rfl rfl)
theorem dX1_lambda_countAgainst_0_10 : decode cX1_lambda_countAgainst_0 10 = .ok (.aload_n 3, 1) := dk_45 (dk_at dksX1_lambda_countAgainst_0_0 10 rfl rfl)
theorem dX1_lambda_countAgainst_0_11 : decode cX1_lambda_countAgainst_0 11 = .ok (.invokevirtual 243, 3) := dk_182 0 243 (dk_at dksX1_lambda_countAgainst_0_0 11 rfl rfl)
theorem dX1_lambda_countAgainst_0_14 : decode cX1_lambda_countAgainst_0 14 = .ok (.ifCond .eq 7, 3) := dk_153 0 7 (dk_at dksX1_lambda_countAgainst_0_0 14 rfl rfl)
theorem dX1_lambda_countAgainst_0_17 : decode cX1_lambda_countAgainst_0 17 = .ok (.iconst 1, 1) := dk_4 (dk_at dksX1_lambda_countAgainst_0_0 17 rfl rfl)
theorem dX1_lambda_countAgainst_0_18 : decode cX1_lambda_countAgainst_0 18 = .ok (.goto 4, 3) := dk_167 0 4 (dk_at dksX1_lambda_countAgainst_0_0 18 rfl rfl)
theorem dX1_lambda_countAgainst_0_21 : decode cX1_lambda_countAgainst_0 21 = .ok (.iconst 0, 1) := dk_3 (dk_at dksX1_lambda_countAgainst_0_0 21 rfl rfl)
theorem dX1_lambda_countAgainst_0_22 : decode cX1_lambda_countAgainst_0 22 = .ok (.ireturn, 1) := dk_172 (dk_at dksX1_lambda_countAgainst_0_0 22 rfl rfl)
abbrev cX1_isTouched_2 : ByteArray := prog_1_method_19_code
def yX1_isTouched_2 : MethodName := ⟨RX1, "isTouched", "(LSwapWhile$Change;LSwapWhile$Frame;)Z"⟩
def dkwX1_isTouched_2_1 : List UInt8 := [184, 0, 177, 185, 0, 60, 2, 0, 192, 0, 51, 44, 180, 0, 180, 182, 0, 154, 172]
abbrev dktX1_isTouched_2_1 : List UInt8 := dkwX1_isTouched_2_1 ++ []
def dkwX1_isTouched_2_0 : List UInt8 := [42, 43, 182, 0, 173, 78, 45, 42, 180, 0, 22, 42, 180, 0, 158, 43, 42, 180, 0, 158, 182, 0, 162]
abbrev dktX1_isTouched_2_0 : List UInt8 := dkwX1_isTouched_2_0 ++ dktX1_isTouched_2_1
theorem dksX1_isTouched_2_0 : cX1_isTouched_2.data.toList.drop 0 = dktX1_isTouched_2_0 := by decide +kernel
theorem dksX1_isTouched_2_1 : cX1_isTouched_2.data.toList.drop 23 = dktX1_isTouched_2_1 := dk_seg dksX1_isTouched_2_0 23 rfl rfl
theorem dX1_isTouched_2_0 : decode cX1_isTouched_2 0 = .ok (.aload_n 0, 1) := dk_42 (dk_at dksX1_isTouched_2_0 0 rfl rfl)
theorem dX1_isTouched_2_1 : decode cX1_isTouched_2 1 = .ok (.aload_n 1, 1) := dk_43 (dk_at dksX1_isTouched_2_0 1 rfl rfl)
theorem dX1_isTouched_2_2 : decode cX1_isTouched_2 2 = .ok (.invokevirtual 173, 3) := dk_182 0 173 (dk_at dksX1_isTouched_2_0 2 rfl rfl)
theorem dX1_isTouched_2_5 : decode cX1_isTouched_2 5 = .ok (.astore_n 3, 1) := dk_78 (dk_at dksX1_isTouched_2_0 5 rfl rfl)
theorem dX1_isTouched_2_6 : decode cX1_isTouched_2 6 = .ok (.aload_n 3, 1) := dk_45 (dk_at dksX1_isTouched_2_0 6 rfl rfl)
theorem dX1_isTouched_2_7 : decode cX1_isTouched_2 7 = .ok (.aload_n 0, 1) := dk_42 (dk_at dksX1_isTouched_2_0 7 rfl rfl)
theorem dX1_isTouched_2_8 : decode cX1_isTouched_2 8 = .ok (.getfield 22, 3) := dk_180 0 22 (dk_at dksX1_isTouched_2_0 8 rfl rfl)
theorem dX1_isTouched_2_11 : decode cX1_isTouched_2 11 = .ok (.aload_n 0, 1) := dk_42 (dk_at dksX1_isTouched_2_0 11 rfl rfl)
theorem dX1_isTouched_2_12 : decode cX1_isTouched_2 12 = .ok (.getfield 158, 3) := dk_180 0 158 (dk_at dksX1_isTouched_2_0 12 rfl rfl)
theorem dX1_isTouched_2_15 : decode cX1_isTouched_2 15 = .ok (.aload_n 1, 1) := dk_43 (dk_at dksX1_isTouched_2_0 15 rfl rfl)
theorem dX1_isTouched_2_16 : decode cX1_isTouched_2 16 = .ok (.aload_n 0, 1) := dk_42 (dk_at dksX1_isTouched_2_0 16 rfl rfl)
theorem dX1_isTouched_2_17 : decode cX1_isTouched_2 17 = .ok (.getfield 158, 3) := dk_180 0 158 (dk_at dksX1_isTouched_2_0 17 rfl rfl)
theorem dX1_isTouched_2_20 : decode cX1_isTouched_2 20 = .ok (.invokevirtual 162, 3) := dk_182 0 162 (dk_at dksX1_isTouched_2_0 20 rfl rfl)
theorem dX1_isTouched_2_23 : decode cX1_isTouched_2 23 = .ok (.invokestatic 177, 3) := dk_184 0 177 (dk_at dksX1_isTouched_2_1 0 rfl rfl)
theorem dX1_isTouched_2_26 : decode cX1_isTouched_2 26 = .ok (.invokeinterface 60 2, 5) := by decide +kernel
theorem dX1_isTouched_2_31 : decode cX1_isTouched_2 31 = .ok (.checkcast 51, 3) := dk_192 0 51 (dk_at dksX1_isTouched_2_1 8 rfl rfl)
theorem dX1_isTouched_2_34 : decode cX1_isTouched_2 34 = .ok (.aload_n 2, 1) := dk_44 (dk_at dksX1_isTouched_2_1 11 rfl rfl)
theorem dX1_isTouched_2_35 : decode cX1_isTouched_2 35 = .ok (.getfield 180, 3) := dk_180 0 180 (dk_at dksX1_isTouched_2_1 12 rfl rfl)
theorem dX1_isTouched_2_38 : decode cX1_isTouched_2 38 = .ok (.invokevirtual 154, 3) := dk_182 0 154 (dk_at dksX1_isTouched_2_1 15 rfl rfl)
theorem dX1_isTouched_2_41 : decode cX1_isTouched_2 41 = .ok (.ireturn, 1) := dk_172 (dk_at dksX1_isTouched_2_1 18 rfl rfl)
abbrev cX1_laterOf : ByteArray := prog_1_method_18_code
def yX1_laterOf : MethodName := ⟨RX1, "laterOf", "(LSwapWhile$Change;)LSwapWhile$Version;"⟩
def dkwX1_laterOf_1 : List UInt8 := [192, 0, 51, 176]
abbrev dktX1_laterOf_1 : List UInt8 := dkwX1_laterOf_1 ++ []
def dkwX1_laterOf_0 : List UInt8 := [42, 180, 0, 22, 42, 180, 0, 158, 43, 42, 180, 0, 158, 182, 0, 162, 184, 0, 167, 185, 0, 60, 2, 0]
abbrev dktX1_laterOf_0 : List UInt8 := dkwX1_laterOf_0 ++ dktX1_laterOf_1
theorem dksX1_laterOf_0 : cX1_laterOf.data.toList.drop 0 = dktX1_laterOf_0 := by decide +kernel
theorem dksX1_laterOf_1 : cX1_laterOf.data.toList.drop 24 = dktX1_laterOf_1 := dk_seg dksX1_laterOf_0 24 rfl rfl
theorem dX1_laterOf_0 : decode cX1_laterOf 0 = .ok (.aload_n 0, 1) := dk_42 (dk_at dksX1_laterOf_0 0 rfl rfl)
theorem dX1_laterOf_1 : decode cX1_laterOf 1 = .ok (.getfield 22, 3) := dk_180 0 22 (dk_at dksX1_laterOf_0 1 rfl rfl)
theorem dX1_laterOf_4 : decode cX1_laterOf 4 = .ok (.aload_n 0, 1) := dk_42 (dk_at dksX1_laterOf_0 4 rfl rfl)
theorem dX1_laterOf_5 : decode cX1_laterOf 5 = .ok (.getfield 158, 3) := dk_180 0 158 (dk_at dksX1_laterOf_0 5 rfl rfl)
theorem dX1_laterOf_8 : decode cX1_laterOf 8 = .ok (.aload_n 1, 1) := dk_43 (dk_at dksX1_laterOf_0 8 rfl rfl)
theorem dX1_laterOf_9 : decode cX1_laterOf 9 = .ok (.aload_n 0, 1) := dk_42 (dk_at dksX1_laterOf_0 9 rfl rfl)
theorem dX1_laterOf_10 : decode cX1_laterOf 10 = .ok (.getfield 158, 3) := dk_180 0 158 (dk_at dksX1_laterOf_0 10 rfl rfl)
theorem dX1_laterOf_13 : decode cX1_laterOf 13 = .ok (.invokevirtual 162, 3) := dk_182 0 162 (dk_at dksX1_laterOf_0 13 rfl rfl)
theorem dX1_laterOf_16 : decode cX1_laterOf 16 = .ok (.invokestatic 167, 3) := dk_184 0 167 (dk_at dksX1_laterOf_0 16 rfl rfl)
theorem dX1_laterOf_19 : decode cX1_laterOf 19 = .ok (.invokeinterface 60 2, 5) := by decide +kernel
theorem dX1_laterOf_24 : decode cX1_laterOf 24 = .ok (.checkcast 51, 3) := dk_192 0 51 (dk_at dksX1_laterOf_1 0 rfl rfl)
theorem dX1_laterOf_27 : decode cX1_laterOf 27 = .ok (.areturn, 1) := dk_176 (dk_at dksX1_laterOf_1 3 rfl rfl)
abbrev cX1_lambda_countAgainst_1 : ByteArray := prog_1_method_68_code
def yX1_lambda_countAgainst_1 : MethodName := ⟨RX1, "lambda$countAgainst$1", "(LSwapWhile$FrameTest;LSwapWhile$Change;LSwapWhile$Frame;)Z"⟩
def dkwX1_lambda_countAgainst_1_1 : List UInt8 := [3, 172]
abbrev dktX1_lambda_countAgainst_1_1 : List UInt8 := dkwX1_lambda_countAgainst_1_1 ++ []
def dkwX1_lambda_countAgainst_1_0 : List UInt8 := [43, 45, 185, 0, 215, 2, 0, 153, 0, 17, 42, 44, 45, 182, 0, 247, 2, 160, 0, 7, 4, 167, 0, 4]
abbrev dktX1_lambda_countAgainst_1_0 : List UInt8 := dkwX1_lambda_countAgainst_1_0 ++ dktX1_lambda_countAgainst_1_1
theorem dksX1_lambda_countAgainst_1_0 : cX1_lambda_countAgainst_1.data.toList.drop 0 = dktX1_lambda_countAgainst_1_0 := by decide +kernel
theorem dksX1_lambda_countAgainst_1_1 : cX1_lambda_countAgainst_1.data.toList.drop 24 = dktX1_lambda_countAgainst_1_1 := dk_seg dksX1_lambda_countAgainst_1_0 24 rfl rfl
theorem dX1_lambda_countAgainst_1_0 : decode cX1_lambda_countAgainst_1 0 = .ok (.aload_n 1, 1) := dk_43 (dk_at dksX1_lambda_countAgainst_1_0 0 rfl rfl)
theorem dX1_lambda_countAgainst_1_1 : decode cX1_lambda_countAgainst_1 1 = .ok (.aload_n 3, 1) := dk_45 (dk_at dksX1_lambda_countAgainst_1_0 1 rfl rfl)
theorem dX1_lambda_countAgainst_1_2 : decode cX1_lambda_countAgainst_1 2 = .ok (.invokeinterface 215 2, 5) := by decide +kernel
theorem dX1_lambda_countAgainst_1_7 : decode cX1_lambda_countAgainst_1 7 = .ok (.ifCond .eq 17, 3) := dk_153 0 17 (dk_at dksX1_lambda_countAgainst_1_0 7 rfl rfl)
theorem dX1_lambda_countAgainst_1_10 : decode cX1_lambda_countAgainst_1 10 = .ok (.aload_n 0, 1) := dk_42 (dk_at dksX1_lambda_countAgainst_1_0 10 rfl rfl)
theorem dX1_lambda_countAgainst_1_11 : decode cX1_lambda_countAgainst_1 11 = .ok (.aload_n 2, 1) := dk_44 (dk_at dksX1_lambda_countAgainst_1_0 11 rfl rfl)
theorem dX1_lambda_countAgainst_1_12 : decode cX1_lambda_countAgainst_1 12 = .ok (.aload_n 3, 1) := dk_45 (dk_at dksX1_lambda_countAgainst_1_0 12 rfl rfl)
theorem dX1_lambda_countAgainst_1_13 : decode cX1_lambda_countAgainst_1 13 = .ok (.invokevirtual 247, 3) := dk_182 0 247 (dk_at dksX1_lambda_countAgainst_1_0 13 rfl rfl)
theorem dX1_lambda_countAgainst_1_16 : decode cX1_lambda_countAgainst_1 16 = .ok (.iconst (-1), 1) := dk_2 (dk_at dksX1_lambda_countAgainst_1_0 16 rfl rfl)
theorem dX1_lambda_countAgainst_1_17 : decode cX1_lambda_countAgainst_1 17 = .ok (.if_icmp .ne 7, 3) := dk_160 0 7 (dk_at dksX1_lambda_countAgainst_1_0 17 rfl rfl)
theorem dX1_lambda_countAgainst_1_20 : decode cX1_lambda_countAgainst_1 20 = .ok (.iconst 1, 1) := dk_4 (dk_at dksX1_lambda_countAgainst_1_0 20 rfl rfl)
theorem dX1_lambda_countAgainst_1_21 : decode cX1_lambda_countAgainst_1 21 = .ok (.goto 4, 3) := dk_167 0 4 (dk_at dksX1_lambda_countAgainst_1_0 21 rfl rfl)
theorem dX1_lambda_countAgainst_1_24 : decode cX1_lambda_countAgainst_1 24 = .ok (.iconst 0, 1) := dk_3 (dk_at dksX1_lambda_countAgainst_1_1 0 rfl rfl)
theorem dX1_lambda_countAgainst_1_25 : decode cX1_lambda_countAgainst_1 25 = .ok (.ireturn, 1) := dk_172 (dk_at dksX1_lambda_countAgainst_1_1 1 rfl rfl)
abbrev cX1_placeFor : ByteArray := prog_1_method_20_code
def yX1_placeFor : MethodName := ⟨RX1, "placeFor", "(LSwapWhile$Change;LSwapWhile$Frame;)I"⟩
def dkwX1_placeFor_1 : List UInt8 := [182, 0, 192, 167, 0, 15, 45, 44, 180, 0, 180, 44, 180, 0, 189, 182, 0, 195, 172]
abbrev dktX1_placeFor_1 : List UInt8 := dkwX1_placeFor_1 ++ []
def dkwX1_placeFor_0 : List UInt8 := [42, 43, 182, 0, 173, 78, 43, 180, 0, 185, 153, 0, 18, 45, 44, 180, 0, 180, 44, 180, 0, 189]
abbrev dktX1_placeFor_0 : List UInt8 := dkwX1_placeFor_0 ++ dktX1_placeFor_1
theorem dksX1_placeFor_0 : cX1_placeFor.data.toList.drop 0 = dktX1_placeFor_0 := by decide +kernel
theorem dksX1_placeFor_1 : cX1_placeFor.data.toList.drop 22 = dktX1_placeFor_1 := dk_seg dksX1_placeFor_0 22 rfl rfl
theorem dX1_placeFor_0 : decode cX1_placeFor 0 = .ok (.aload_n 0, 1) := dk_42 (dk_at dksX1_placeFor_0 0 rfl rfl)
theorem dX1_placeFor_1 : decode cX1_placeFor 1 = .ok (.aload_n 1, 1) := dk_43 (dk_at dksX1_placeFor_0 1 rfl rfl)
theorem dX1_placeFor_2 : decode cX1_placeFor 2 = .ok (.invokevirtual 173, 3) := dk_182 0 173 (dk_at dksX1_placeFor_0 2 rfl rfl)
theorem dX1_placeFor_5 : decode cX1_placeFor 5 = .ok (.astore_n 3, 1) := dk_78 (dk_at dksX1_placeFor_0 5 rfl rfl)
theorem dX1_placeFor_6 : decode cX1_placeFor 6 = .ok (.aload_n 1, 1) := dk_43 (dk_at dksX1_placeFor_0 6 rfl rfl)
theorem dX1_placeFor_7 : decode cX1_placeFor 7 = .ok (.getfield 185, 3) := dk_180 0 185 (dk_at dksX1_placeFor_0 7 rfl rfl)
theorem dX1_placeFor_10 : decode cX1_placeFor 10 = .ok (.ifCond .eq 18, 3) := dk_153 0 18 (dk_at dksX1_placeFor_0 10 rfl rfl)
theorem dX1_placeFor_13 : decode cX1_placeFor 13 = .ok (.aload_n 3, 1) := dk_45 (dk_at dksX1_placeFor_0 13 rfl rfl)
theorem dX1_placeFor_14 : decode cX1_placeFor 14 = .ok (.aload_n 2, 1) := dk_44 (dk_at dksX1_placeFor_0 14 rfl rfl)
theorem dX1_placeFor_15 : decode cX1_placeFor 15 = .ok (.getfield 180, 3) := dk_180 0 180 (dk_at dksX1_placeFor_0 15 rfl rfl)
theorem dX1_placeFor_18 : decode cX1_placeFor 18 = .ok (.aload_n 2, 1) := dk_44 (dk_at dksX1_placeFor_0 18 rfl rfl)
theorem dX1_placeFor_19 : decode cX1_placeFor 19 = .ok (.getfield 189, 3) := dk_180 0 189 (dk_at dksX1_placeFor_0 19 rfl rfl)
theorem dX1_placeFor_22 : decode cX1_placeFor 22 = .ok (.invokevirtual 192, 3) := dk_182 0 192 (dk_at dksX1_placeFor_1 0 rfl rfl)
theorem dX1_placeFor_25 : decode cX1_placeFor 25 = .ok (.goto 15, 3) := dk_167 0 15 (dk_at dksX1_placeFor_1 3 rfl rfl)
theorem dX1_placeFor_28 : decode cX1_placeFor 28 = .ok (.aload_n 3, 1) := dk_45 (dk_at dksX1_placeFor_1 6 rfl rfl)
theorem dX1_placeFor_29 : decode cX1_placeFor 29 = .ok (.aload_n 2, 1) := dk_44 (dk_at dksX1_placeFor_1 7 rfl rfl)
theorem dX1_placeFor_30 : decode cX1_placeFor 30 = .ok (.getfield 180, 3) := dk_180 0 180 (dk_at dksX1_placeFor_1 8 rfl rfl)
theorem dX1_placeFor_33 : decode cX1_placeFor 33 = .ok (.aload_n 2, 1) := dk_44 (dk_at dksX1_placeFor_1 11 rfl rfl)
theorem dX1_placeFor_34 : decode cX1_placeFor 34 = .ok (.getfield 189, 3) := dk_180 0 189 (dk_at dksX1_placeFor_1 12 rfl rfl)
theorem dX1_placeFor_37 : decode cX1_placeFor 37 = .ok (.invokevirtual 195, 3) := dk_182 0 195 (dk_at dksX1_placeFor_1 15 rfl rfl)
theorem dX1_placeFor_40 : decode cX1_placeFor 40 = .ok (.ireturn, 1) := dk_172 (dk_at dksX1_placeFor_1 18 rfl rfl)
abbrev cX1_count : ByteArray := prog_1_method_21_code
def yX1_count : MethodName := ⟨RX1, "count", "(LSwapWhile$FrameTest;)I"⟩
def dkwX1_count_3 : List UInt8 := [153, 0, 7, 4, 167, 0, 4, 3, 96, 61, 167, 255, 215, 132, 5, 1, 167, 255, 184, 28, 172]
abbrev dktX1_count_3 : List UInt8 := dkwX1_count_3 ++ []
def dkwX1_count_2 : List UInt8 := [153, 0, 37, 25, 7, 185, 0, 211, 1, 0, 192, 0, 181, 58, 8, 28, 43, 25, 8, 185, 0, 215, 2, 0]
abbrev dktX1_count_2 : List UInt8 := dkwX1_count_2 ++ dktX1_count_3
def dkwX1_count_1 : List UInt8 := [50, 58, 6, 25, 6, 180, 0, 198, 185, 0, 201, 1, 0, 58, 7, 25, 7, 185, 0, 205, 1, 0]
abbrev dktX1_count_1 : List UInt8 := dkwX1_count_1 ++ dktX1_count_2
def dkwX1_count_0 : List UInt8 := [3, 61, 42, 180, 0, 34, 78, 45, 190, 54, 4, 3, 54, 5, 21, 5, 21, 4, 162, 0, 71, 45, 21, 5]
abbrev dktX1_count_0 : List UInt8 := dkwX1_count_0 ++ dktX1_count_1
theorem dksX1_count_0 : cX1_count.data.toList.drop 0 = dktX1_count_0 := by decide +kernel
theorem dksX1_count_1 : cX1_count.data.toList.drop 24 = dktX1_count_1 := dk_seg dksX1_count_0 24 rfl rfl
theorem dksX1_count_2 : cX1_count.data.toList.drop 46 = dktX1_count_2 := dk_seg dksX1_count_1 22 rfl rfl
theorem dksX1_count_3 : cX1_count.data.toList.drop 70 = dktX1_count_3 := dk_seg dksX1_count_2 24 rfl rfl
theorem dX1_count_0 : decode cX1_count 0 = .ok (.iconst 0, 1) := dk_3 (dk_at dksX1_count_0 0 rfl rfl)
theorem dX1_count_1 : decode cX1_count 1 = .ok (.istore_n 2, 1) := dk_61 (dk_at dksX1_count_0 1 rfl rfl)
theorem dX1_count_2 : decode cX1_count 2 = .ok (.aload_n 0, 1) := dk_42 (dk_at dksX1_count_0 2 rfl rfl)
theorem dX1_count_3 : decode cX1_count 3 = .ok (.getfield 34, 3) := dk_180 0 34 (dk_at dksX1_count_0 3 rfl rfl)
theorem dX1_count_6 : decode cX1_count 6 = .ok (.astore_n 3, 1) := dk_78 (dk_at dksX1_count_0 6 rfl rfl)
theorem dX1_count_7 : decode cX1_count 7 = .ok (.aload_n 3, 1) := dk_45 (dk_at dksX1_count_0 7 rfl rfl)
theorem dX1_count_8 : decode cX1_count 8 = .ok (.arraylength, 1) := dk_190 (dk_at dksX1_count_0 8 rfl rfl)
theorem dX1_count_9 : decode cX1_count 9 = .ok (.istore 4, 2) := dk_54 4 (dk_at dksX1_count_0 9 rfl rfl)
theorem dX1_count_11 : decode cX1_count 11 = .ok (.iconst 0, 1) := dk_3 (dk_at dksX1_count_0 11 rfl rfl)
theorem dX1_count_12 : decode cX1_count 12 = .ok (.istore 5, 2) := dk_54 5 (dk_at dksX1_count_0 12 rfl rfl)
theorem dX1_count_14 : decode cX1_count 14 = .ok (.iload 5, 2) := dk_21 5 (dk_at dksX1_count_0 14 rfl rfl)
theorem dX1_count_16 : decode cX1_count 16 = .ok (.iload 4, 2) := dk_21 4 (dk_at dksX1_count_0 16 rfl rfl)
theorem dX1_count_18 : decode cX1_count 18 = .ok (.if_icmp .ge 71, 3) := dk_162 0 71 (dk_at dksX1_count_0 18 rfl rfl)
theorem dX1_count_21 : decode cX1_count 21 = .ok (.aload_n 3, 1) := dk_45 (dk_at dksX1_count_0 21 rfl rfl)
theorem dX1_count_22 : decode cX1_count 22 = .ok (.iload 5, 2) := dk_21 5 (dk_at dksX1_count_0 22 rfl rfl)
theorem dX1_count_24 : decode cX1_count 24 = .ok (.aaload, 1) := dk_50 (dk_at dksX1_count_1 0 rfl rfl)
theorem dX1_count_25 : decode cX1_count 25 = .ok (.astore 6, 2) := dk_58 6 (dk_at dksX1_count_1 1 rfl rfl)
theorem dX1_count_27 : decode cX1_count 27 = .ok (.aload 6, 2) := dk_25 6 (dk_at dksX1_count_1 3 rfl rfl)
theorem dX1_count_29 : decode cX1_count 29 = .ok (.getfield 198, 3) := dk_180 0 198 (dk_at dksX1_count_1 5 rfl rfl)
theorem dX1_count_32 : decode cX1_count 32 = .ok (.invokeinterface 201 1, 5) := by decide +kernel
theorem dX1_count_37 : decode cX1_count 37 = .ok (.astore 7, 2) := dk_58 7 (dk_at dksX1_count_1 13 rfl rfl)
theorem dX1_count_39 : decode cX1_count 39 = .ok (.aload 7, 2) := dk_25 7 (dk_at dksX1_count_1 15 rfl rfl)
theorem dX1_count_41 : decode cX1_count 41 = .ok (.invokeinterface 205 1, 5) := by decide +kernel
theorem dX1_count_46 : decode cX1_count 46 = .ok (.ifCond .eq 37, 3) := dk_153 0 37 (dk_at dksX1_count_2 0 rfl rfl)
theorem dX1_count_49 : decode cX1_count 49 = .ok (.aload 7, 2) := dk_25 7 (dk_at dksX1_count_2 3 rfl rfl)
theorem dX1_count_51 : decode cX1_count 51 = .ok (.invokeinterface 211 1, 5) := by decide +kernel
theorem dX1_count_56 : decode cX1_count 56 = .ok (.checkcast 181, 3) := dk_192 0 181 (dk_at dksX1_count_2 10 rfl rfl)
theorem dX1_count_59 : decode cX1_count 59 = .ok (.astore 8, 2) := dk_58 8 (dk_at dksX1_count_2 13 rfl rfl)
theorem dX1_count_61 : decode cX1_count 61 = .ok (.iload_n 2, 1) := dk_28 (dk_at dksX1_count_2 15 rfl rfl)
theorem dX1_count_62 : decode cX1_count 62 = .ok (.aload_n 1, 1) := dk_43 (dk_at dksX1_count_2 16 rfl rfl)
theorem dX1_count_63 : decode cX1_count 63 = .ok (.aload 8, 2) := dk_25 8 (dk_at dksX1_count_2 17 rfl rfl)
theorem dX1_count_65 : decode cX1_count 65 = .ok (.invokeinterface 215 2, 5) := by decide +kernel
theorem dX1_count_70 : decode cX1_count 70 = .ok (.ifCond .eq 7, 3) := dk_153 0 7 (dk_at dksX1_count_3 0 rfl rfl)
theorem dX1_count_73 : decode cX1_count 73 = .ok (.iconst 1, 1) := dk_4 (dk_at dksX1_count_3 3 rfl rfl)
theorem dX1_count_74 : decode cX1_count 74 = .ok (.goto 4, 3) := dk_167 0 4 (dk_at dksX1_count_3 4 rfl rfl)
theorem dX1_count_77 : decode cX1_count 77 = .ok (.iconst 0, 1) := dk_3 (dk_at dksX1_count_3 7 rfl rfl)
theorem dX1_count_78 : decode cX1_count 78 = .ok (.iadd, 1) := dk_96 (dk_at dksX1_count_3 8 rfl rfl)
theorem dX1_count_79 : decode cX1_count 79 = .ok (.istore_n 2, 1) := dk_61 (dk_at dksX1_count_3 9 rfl rfl)
theorem dX1_count_80 : decode cX1_count 80 = .ok (.goto (-41), 3) := dk_167 255 215 (dk_at dksX1_count_3 10 rfl rfl)
theorem dX1_count_83 : decode cX1_count 83 = .ok (.iinc 5 1, 3) := dk_132 5 1 (dk_at dksX1_count_3 13 rfl rfl)
theorem dX1_count_86 : decode cX1_count 86 = .ok (.goto (-72), 3) := dk_167 255 184 (dk_at dksX1_count_3 16 rfl rfl)
theorem dX1_count_89 : decode cX1_count 89 = .ok (.iload_n 2, 1) := dk_28 (dk_at dksX1_count_3 19 rfl rfl)
theorem dX1_count_90 : decode cX1_count 90 = .ok (.ireturn, 1) := dk_172 (dk_at dksX1_count_3 20 rfl rfl)
abbrev cX1_end : ByteArray := prog_1_method_27_code
def yX1_end : MethodName := ⟨RX1, "end", "(LSwapWhile$Change;)V"⟩
def dkwX1_end_0 : List UInt8 := [42, 43, 182, 0, 225, 153, 0, 11, 42, 43, 182, 1, 28, 167, 0, 9, 43, 16, 100, 181, 1, 11, 177]
abbrev dktX1_end_0 : List UInt8 := dkwX1_end_0 ++ []
theorem dksX1_end_0 : cX1_end.data.toList.drop 0 = dktX1_end_0 := by decide +kernel
theorem dX1_end_0 : decode cX1_end 0 = .ok (.aload_n 0, 1) := dk_42 (dk_at dksX1_end_0 0 rfl rfl)
theorem dX1_end_1 : decode cX1_end 1 = .ok (.aload_n 1, 1) := dk_43 (dk_at dksX1_end_0 1 rfl rfl)
theorem dX1_end_2 : decode cX1_end 2 = .ok (.invokevirtual 225, 3) := dk_182 0 225 (dk_at dksX1_end_0 2 rfl rfl)
theorem dX1_end_5 : decode cX1_end 5 = .ok (.ifCond .eq 11, 3) := dk_153 0 11 (dk_at dksX1_end_0 5 rfl rfl)
theorem dX1_end_8 : decode cX1_end 8 = .ok (.aload_n 0, 1) := dk_42 (dk_at dksX1_end_0 8 rfl rfl)
theorem dX1_end_9 : decode cX1_end 9 = .ok (.aload_n 1, 1) := dk_43 (dk_at dksX1_end_0 9 rfl rfl)
theorem dX1_end_10 : decode cX1_end 10 = .ok (.invokevirtual 284, 3) := dk_182 1 28 (dk_at dksX1_end_0 10 rfl rfl)
theorem dX1_end_13 : decode cX1_end 13 = .ok (.goto 9, 3) := dk_167 0 9 (dk_at dksX1_end_0 13 rfl rfl)
theorem dX1_end_16 : decode cX1_end 16 = .ok (.aload_n 1, 1) := dk_43 (dk_at dksX1_end_0 16 rfl rfl)
theorem dX1_end_17 : decode cX1_end 17 = .ok (.bipush 100, 2) := dk_16 100 (dk_at dksX1_end_0 17 rfl rfl)
theorem dX1_end_19 : decode cX1_end 19 = .ok (.putfield 267, 3) := dk_181 1 11 (dk_at dksX1_end_0 19 rfl rfl)
theorem dX1_end_22 : decode cX1_end 22 = .ok (.return_, 1) := dk_177 (dk_at dksX1_end_0 22 rfl rfl)
abbrev cX1_takeEffect : ByteArray := prog_1_method_25_code
def yX1_takeEffect : MethodName := ⟨RX1, "takeEffect", "(LSwapWhile$Change;)V"⟩
def dkwX1_takeEffect_6 : List UInt8 := [167, 255, 223, 43, 16, 101, 181, 1, 11, 177]
abbrev dktX1_takeEffect_6 : List UInt8 := dkwX1_takeEffect_6 ++ []
def dkwX1_takeEffect_5 : List UInt8 := [185, 0, 211, 1, 0, 192, 1, 5, 58, 4, 25, 4, 42, 180, 0, 158, 42, 180, 0, 22, 182, 1, 7]
abbrev dktX1_takeEffect_5 : List UInt8 := dkwX1_takeEffect_5 ++ dktX1_takeEffect_6
def dkwX1_takeEffect_4 : List UInt8 := [153, 0, 49, 42, 180, 0, 28, 185, 0, 201, 1, 0, 78, 45, 185, 0, 205, 1, 0, 153, 0, 30, 45]
abbrev dktX1_takeEffect_4 : List UInt8 := dkwX1_takeEffect_4 ++ dktX1_takeEffect_5
def dkwX1_takeEffect_3 : List UInt8 := [25, 8, 28, 182, 0, 254, 167, 255, 226, 132, 5, 1, 167, 255, 195, 42, 28, 181, 0, 158, 43, 180, 1, 2]
abbrev dktX1_takeEffect_3 : List UInt8 := dkwX1_takeEffect_3 ++ dktX1_takeEffect_4
def dkwX1_takeEffect_2 : List UInt8 := [25, 7, 185, 0, 205, 1, 0, 153, 0, 26, 25, 7, 185, 0, 211, 1, 0, 192, 0, 181, 58, 8, 42, 43]
abbrev dktX1_takeEffect_2 : List UInt8 := dkwX1_takeEffect_2 ++ dktX1_takeEffect_3
def dkwX1_takeEffect_1 : List UInt8 := [21, 4, 162, 0, 60, 45, 21, 5, 50, 58, 6, 25, 6, 180, 0, 198, 185, 0, 201, 1, 0, 58, 7]
abbrev dktX1_takeEffect_1 : List UInt8 := dkwX1_takeEffect_1 ++ dktX1_takeEffect_2
def dkwX1_takeEffect_0 : List UInt8 := [43, 42, 180, 0, 158, 182, 0, 162, 61, 42, 180, 0, 34, 78, 45, 190, 54, 4, 3, 54, 5, 21, 5]
abbrev dktX1_takeEffect_0 : List UInt8 := dkwX1_takeEffect_0 ++ dktX1_takeEffect_1
theorem dksX1_takeEffect_0 : cX1_takeEffect.data.toList.drop 0 = dktX1_takeEffect_0 := by decide +kernel
theorem dksX1_takeEffect_1 : cX1_takeEffect.data.toList.drop 23 = dktX1_takeEffect_1 := dk_seg dksX1_takeEffect_0 23 rfl rfl
theorem dksX1_takeEffect_2 : cX1_takeEffect.data.toList.drop 46 = dktX1_takeEffect_2 := dk_seg dksX1_takeEffect_1 23 rfl rfl
theorem dksX1_takeEffect_3 : cX1_takeEffect.data.toList.drop 70 = dktX1_takeEffect_3 := dk_seg dksX1_takeEffect_2 24 rfl rfl
theorem dksX1_takeEffect_4 : cX1_takeEffect.data.toList.drop 94 = dktX1_takeEffect_4 := dk_seg dksX1_takeEffect_3 24 rfl rfl
theorem dksX1_takeEffect_5 : cX1_takeEffect.data.toList.drop 117 = dktX1_takeEffect_5 := dk_seg dksX1_takeEffect_4 23 rfl rfl
theorem dksX1_takeEffect_6 : cX1_takeEffect.data.toList.drop 140 = dktX1_takeEffect_6 := dk_seg dksX1_takeEffect_5 23 rfl rfl
theorem dX1_takeEffect_0 : decode cX1_takeEffect 0 = .ok (.aload_n 1, 1) := dk_43 (dk_at dksX1_takeEffect_0 0 rfl rfl)
theorem dX1_takeEffect_1 : decode cX1_takeEffect 1 = .ok (.aload_n 0, 1) := dk_42 (dk_at dksX1_takeEffect_0 1 rfl rfl)
theorem dX1_takeEffect_2 : decode cX1_takeEffect 2 = .ok (.getfield 158, 3) := dk_180 0 158 (dk_at dksX1_takeEffect_0 2 rfl rfl)
theorem dX1_takeEffect_5 : decode cX1_takeEffect 5 = .ok (.invokevirtual 162, 3) := dk_182 0 162 (dk_at dksX1_takeEffect_0 5 rfl rfl)
theorem dX1_takeEffect_8 : decode cX1_takeEffect 8 = .ok (.istore_n 2, 1) := dk_61 (dk_at dksX1_takeEffect_0 8 rfl rfl)
theorem dX1_takeEffect_9 : decode cX1_takeEffect 9 = .ok (.aload_n 0, 1) := dk_42 (dk_at dksX1_takeEffect_0 9 rfl rfl)
theorem dX1_takeEffect_10 : decode cX1_takeEffect 10 = .ok (.getfield 34, 3) := dk_180 0 34 (dk_at dksX1_takeEffect_0 10 rfl rfl)
theorem dX1_takeEffect_13 : decode cX1_takeEffect 13 = .ok (.astore_n 3, 1) := dk_78 (dk_at dksX1_takeEffect_0 13 rfl rfl)
theorem dX1_takeEffect_14 : decode cX1_takeEffect 14 = .ok (.aload_n 3, 1) := dk_45 (dk_at dksX1_takeEffect_0 14 rfl rfl)
theorem dX1_takeEffect_15 : decode cX1_takeEffect 15 = .ok (.arraylength, 1) := dk_190 (dk_at dksX1_takeEffect_0 15 rfl rfl)
theorem dX1_takeEffect_16 : decode cX1_takeEffect 16 = .ok (.istore 4, 2) := dk_54 4 (dk_at dksX1_takeEffect_0 16 rfl rfl)
theorem dX1_takeEffect_18 : decode cX1_takeEffect 18 = .ok (.iconst 0, 1) := dk_3 (dk_at dksX1_takeEffect_0 18 rfl rfl)
theorem dX1_takeEffect_19 : decode cX1_takeEffect 19 = .ok (.istore 5, 2) := dk_54 5 (dk_at dksX1_takeEffect_0 19 rfl rfl)
theorem dX1_takeEffect_21 : decode cX1_takeEffect 21 = .ok (.iload 5, 2) := dk_21 5 (dk_at dksX1_takeEffect_0 21 rfl rfl)
theorem dX1_takeEffect_23 : decode cX1_takeEffect 23 = .ok (.iload 4, 2) := dk_21 4 (dk_at dksX1_takeEffect_1 0 rfl rfl)
theorem dX1_takeEffect_25 : decode cX1_takeEffect 25 = .ok (.if_icmp .ge 60, 3) := dk_162 0 60 (dk_at dksX1_takeEffect_1 2 rfl rfl)
theorem dX1_takeEffect_28 : decode cX1_takeEffect 28 = .ok (.aload_n 3, 1) := dk_45 (dk_at dksX1_takeEffect_1 5 rfl rfl)
theorem dX1_takeEffect_29 : decode cX1_takeEffect 29 = .ok (.iload 5, 2) := dk_21 5 (dk_at dksX1_takeEffect_1 6 rfl rfl)
theorem dX1_takeEffect_31 : decode cX1_takeEffect 31 = .ok (.aaload, 1) := dk_50 (dk_at dksX1_takeEffect_1 8 rfl rfl)
theorem dX1_takeEffect_32 : decode cX1_takeEffect 32 = .ok (.astore 6, 2) := dk_58 6 (dk_at dksX1_takeEffect_1 9 rfl rfl)
theorem dX1_takeEffect_34 : decode cX1_takeEffect 34 = .ok (.aload 6, 2) := dk_25 6 (dk_at dksX1_takeEffect_1 11 rfl rfl)
theorem dX1_takeEffect_36 : decode cX1_takeEffect 36 = .ok (.getfield 198, 3) := dk_180 0 198 (dk_at dksX1_takeEffect_1 13 rfl rfl)
theorem dX1_takeEffect_39 : decode cX1_takeEffect 39 = .ok (.invokeinterface 201 1, 5) := by decide +kernel
theorem dX1_takeEffect_44 : decode cX1_takeEffect 44 = .ok (.astore 7, 2) := dk_58 7 (dk_at dksX1_takeEffect_1 21 rfl rfl)
theorem dX1_takeEffect_46 : decode cX1_takeEffect 46 = .ok (.aload 7, 2) := dk_25 7 (dk_at dksX1_takeEffect_2 0 rfl rfl)
theorem dX1_takeEffect_48 : decode cX1_takeEffect 48 = .ok (.invokeinterface 205 1, 5) := by decide +kernel
theorem dX1_takeEffect_53 : decode cX1_takeEffect 53 = .ok (.ifCond .eq 26, 3) := dk_153 0 26 (dk_at dksX1_takeEffect_2 7 rfl rfl)
theorem dX1_takeEffect_56 : decode cX1_takeEffect 56 = .ok (.aload 7, 2) := dk_25 7 (dk_at dksX1_takeEffect_2 10 rfl rfl)
theorem dX1_takeEffect_58 : decode cX1_takeEffect 58 = .ok (.invokeinterface 211 1, 5) := by decide +kernel
theorem dX1_takeEffect_63 : decode cX1_takeEffect 63 = .ok (.checkcast 181, 3) := dk_192 0 181 (dk_at dksX1_takeEffect_2 17 rfl rfl)
theorem dX1_takeEffect_66 : decode cX1_takeEffect 66 = .ok (.astore 8, 2) := dk_58 8 (dk_at dksX1_takeEffect_2 20 rfl rfl)
theorem dX1_takeEffect_68 : decode cX1_takeEffect 68 = .ok (.aload_n 0, 1) := dk_42 (dk_at dksX1_takeEffect_2 22 rfl rfl)
theorem dX1_takeEffect_69 : decode cX1_takeEffect 69 = .ok (.aload_n 1, 1) := dk_43 (dk_at dksX1_takeEffect_2 23 rfl rfl)
theorem dX1_takeEffect_70 : decode cX1_takeEffect 70 = .ok (.aload 8, 2) := dk_25 8 (dk_at dksX1_takeEffect_3 0 rfl rfl)
theorem dX1_takeEffect_72 : decode cX1_takeEffect 72 = .ok (.iload_n 2, 1) := dk_28 (dk_at dksX1_takeEffect_3 2 rfl rfl)
theorem dX1_takeEffect_73 : decode cX1_takeEffect 73 = .ok (.invokevirtual 254, 3) := dk_182 0 254 (dk_at dksX1_takeEffect_3 3 rfl rfl)
theorem dX1_takeEffect_76 : decode cX1_takeEffect 76 = .ok (.goto (-30), 3) := dk_167 255 226 (dk_at dksX1_takeEffect_3 6 rfl rfl)
theorem dX1_takeEffect_79 : decode cX1_takeEffect 79 = .ok (.iinc 5 1, 3) := dk_132 5 1 (dk_at dksX1_takeEffect_3 9 rfl rfl)
theorem dX1_takeEffect_82 : decode cX1_takeEffect 82 = .ok (.goto (-61), 3) := dk_167 255 195 (dk_at dksX1_takeEffect_3 12 rfl rfl)
theorem dX1_takeEffect_85 : decode cX1_takeEffect 85 = .ok (.aload_n 0, 1) := dk_42 (dk_at dksX1_takeEffect_3 15 rfl rfl)
theorem dX1_takeEffect_86 : decode cX1_takeEffect 86 = .ok (.iload_n 2, 1) := dk_28 (dk_at dksX1_takeEffect_3 16 rfl rfl)
theorem dX1_takeEffect_87 : decode cX1_takeEffect 87 = .ok (.putfield 158, 3) := dk_181 0 158 (dk_at dksX1_takeEffect_3 17 rfl rfl)
theorem dX1_takeEffect_90 : decode cX1_takeEffect 90 = .ok (.aload_n 1, 1) := dk_43 (dk_at dksX1_takeEffect_3 20 rfl rfl)
theorem dX1_takeEffect_91 : decode cX1_takeEffect 91 = .ok (.getfield 258, 3) := dk_180 1 2 (dk_at dksX1_takeEffect_3 21 rfl rfl)
theorem dX1_takeEffect_94 : decode cX1_takeEffect 94 = .ok (.ifCond .eq 49, 3) := dk_153 0 49 (dk_at dksX1_takeEffect_4 0 rfl rfl)
theorem dX1_takeEffect_97 : decode cX1_takeEffect 97 = .ok (.aload_n 0, 1) := dk_42 (dk_at dksX1_takeEffect_4 3 rfl rfl)
theorem dX1_takeEffect_98 : decode cX1_takeEffect 98 = .ok (.getfield 28, 3) := dk_180 0 28 (dk_at dksX1_takeEffect_4 4 rfl rfl)
theorem dX1_takeEffect_101 : decode cX1_takeEffect 101 = .ok (.invokeinterface 201 1, 5) := by decide +kernel
theorem dX1_takeEffect_106 : decode cX1_takeEffect 106 = .ok (.astore_n 3, 1) := dk_78 (dk_at dksX1_takeEffect_4 12 rfl rfl)
theorem dX1_takeEffect_107 : decode cX1_takeEffect 107 = .ok (.aload_n 3, 1) := dk_45 (dk_at dksX1_takeEffect_4 13 rfl rfl)
theorem dX1_takeEffect_108 : decode cX1_takeEffect 108 = .ok (.invokeinterface 205 1, 5) := by decide +kernel
theorem dX1_takeEffect_113 : decode cX1_takeEffect 113 = .ok (.ifCond .eq 30, 3) := dk_153 0 30 (dk_at dksX1_takeEffect_4 19 rfl rfl)
theorem dX1_takeEffect_116 : decode cX1_takeEffect 116 = .ok (.aload_n 3, 1) := dk_45 (dk_at dksX1_takeEffect_4 22 rfl rfl)
theorem dX1_takeEffect_117 : decode cX1_takeEffect 117 = .ok (.invokeinterface 211 1, 5) := by decide +kernel
theorem dX1_takeEffect_122 : decode cX1_takeEffect 122 = .ok (.checkcast 261, 3) := dk_192 1 5 (dk_at dksX1_takeEffect_5 5 rfl rfl)
theorem dX1_takeEffect_125 : decode cX1_takeEffect 125 = .ok (.astore 4, 2) := dk_58 4 (dk_at dksX1_takeEffect_5 8 rfl rfl)
theorem dX1_takeEffect_127 : decode cX1_takeEffect 127 = .ok (.aload 4, 2) := dk_25 4 (dk_at dksX1_takeEffect_5 10 rfl rfl)
theorem dX1_takeEffect_129 : decode cX1_takeEffect 129 = .ok (.aload_n 0, 1) := dk_42 (dk_at dksX1_takeEffect_5 12 rfl rfl)
theorem dX1_takeEffect_130 : decode cX1_takeEffect 130 = .ok (.getfield 158, 3) := dk_180 0 158 (dk_at dksX1_takeEffect_5 13 rfl rfl)
theorem dX1_takeEffect_133 : decode cX1_takeEffect 133 = .ok (.aload_n 0, 1) := dk_42 (dk_at dksX1_takeEffect_5 16 rfl rfl)
theorem dX1_takeEffect_134 : decode cX1_takeEffect 134 = .ok (.getfield 22, 3) := dk_180 0 22 (dk_at dksX1_takeEffect_5 17 rfl rfl)
theorem dX1_takeEffect_137 : decode cX1_takeEffect 137 = .ok (.invokevirtual 263, 3) := dk_182 1 7 (dk_at dksX1_takeEffect_5 20 rfl rfl)
theorem dX1_takeEffect_140 : decode cX1_takeEffect 140 = .ok (.goto (-33), 3) := dk_167 255 223 (dk_at dksX1_takeEffect_6 0 rfl rfl)
theorem dX1_takeEffect_143 : decode cX1_takeEffect 143 = .ok (.aload_n 1, 1) := dk_43 (dk_at dksX1_takeEffect_6 3 rfl rfl)
theorem dX1_takeEffect_144 : decode cX1_takeEffect 144 = .ok (.bipush 101, 2) := dk_16 101 (dk_at dksX1_takeEffect_6 4 rfl rfl)
theorem dX1_takeEffect_146 : decode cX1_takeEffect 146 = .ok (.putfield 267, 3) := dk_181 1 11 (dk_at dksX1_takeEffect_6 6 rfl rfl)
theorem dX1_takeEffect_149 : decode cX1_takeEffect 149 = .ok (.return_, 1) := dk_177 (dk_at dksX1_takeEffect_6 9 rfl rfl)
abbrev cX1_move : ByteArray := prog_1_method_24_code
def yX1_move : MethodName := ⟨RX1, "move", "(LSwapWhile$Change;LSwapWhile$Frame;I)V"⟩
def dkwX1_move_2 : List UInt8 := [21, 4, 182, 0, 251, 177]
abbrev dktX1_move_2 : List UInt8 := dkwX1_move_2 ++ []
def dkwX1_move_1 : List UInt8 := [182, 0, 243, 153, 0, 12, 42, 43, 44, 182, 0, 247, 167, 0, 7, 44, 180, 0, 189, 54, 4, 44, 29]
abbrev dktX1_move_1 : List UInt8 := dkwX1_move_1 ++ dktX1_move_2
def dkwX1_move_0 : List UInt8 := [44, 42, 180, 0, 158, 182, 0, 239, 153, 0, 12, 43, 180, 0, 221, 16, 111, 160, 0, 4, 177, 42, 43, 44]
abbrev dktX1_move_0 : List UInt8 := dkwX1_move_0 ++ dktX1_move_1
theorem dksX1_move_0 : cX1_move.data.toList.drop 0 = dktX1_move_0 := by decide +kernel
theorem dksX1_move_1 : cX1_move.data.toList.drop 24 = dktX1_move_1 := dk_seg dksX1_move_0 24 rfl rfl
theorem dksX1_move_2 : cX1_move.data.toList.drop 47 = dktX1_move_2 := dk_seg dksX1_move_1 23 rfl rfl
theorem dX1_move_0 : decode cX1_move 0 = .ok (.aload_n 2, 1) := dk_44 (dk_at dksX1_move_0 0 rfl rfl)
theorem dX1_move_1 : decode cX1_move 1 = .ok (.aload_n 0, 1) := dk_42 (dk_at dksX1_move_0 1 rfl rfl)
theorem dX1_move_2 : decode cX1_move 2 = .ok (.getfield 158, 3) := dk_180 0 158 (dk_at dksX1_move_0 2 rfl rfl)
theorem dX1_move_5 : decode cX1_move 5 = .ok (.invokevirtual 239, 3) := dk_182 0 239 (dk_at dksX1_move_0 5 rfl rfl)
theorem dX1_move_8 : decode cX1_move 8 = .ok (.ifCond .eq 12, 3) := dk_153 0 12 (dk_at dksX1_move_0 8 rfl rfl)
theorem dX1_move_11 : decode cX1_move 11 = .ok (.aload_n 1, 1) := dk_43 (dk_at dksX1_move_0 11 rfl rfl)
theorem dX1_move_12 : decode cX1_move 12 = .ok (.getfield 221, 3) := dk_180 0 221 (dk_at dksX1_move_0 12 rfl rfl)
theorem dX1_move_15 : decode cX1_move 15 = .ok (.bipush 111, 2) := dk_16 111 (dk_at dksX1_move_0 15 rfl rfl)
theorem dX1_move_17 : decode cX1_move 17 = .ok (.if_icmp .ne 4, 3) := dk_160 0 4 (dk_at dksX1_move_0 17 rfl rfl)
theorem dX1_move_20 : decode cX1_move 20 = .ok (.return_, 1) := dk_177 (dk_at dksX1_move_0 20 rfl rfl)
theorem dX1_move_21 : decode cX1_move 21 = .ok (.aload_n 0, 1) := dk_42 (dk_at dksX1_move_0 21 rfl rfl)
theorem dX1_move_22 : decode cX1_move 22 = .ok (.aload_n 1, 1) := dk_43 (dk_at dksX1_move_0 22 rfl rfl)
theorem dX1_move_23 : decode cX1_move 23 = .ok (.aload_n 2, 1) := dk_44 (dk_at dksX1_move_0 23 rfl rfl)
theorem dX1_move_24 : decode cX1_move 24 = .ok (.invokevirtual 243, 3) := dk_182 0 243 (dk_at dksX1_move_1 0 rfl rfl)
theorem dX1_move_27 : decode cX1_move 27 = .ok (.ifCond .eq 12, 3) := dk_153 0 12 (dk_at dksX1_move_1 3 rfl rfl)
theorem dX1_move_30 : decode cX1_move 30 = .ok (.aload_n 0, 1) := dk_42 (dk_at dksX1_move_1 6 rfl rfl)
theorem dX1_move_31 : decode cX1_move 31 = .ok (.aload_n 1, 1) := dk_43 (dk_at dksX1_move_1 7 rfl rfl)
theorem dX1_move_32 : decode cX1_move 32 = .ok (.aload_n 2, 1) := dk_44 (dk_at dksX1_move_1 8 rfl rfl)
theorem dX1_move_33 : decode cX1_move 33 = .ok (.invokevirtual 247, 3) := dk_182 0 247 (dk_at dksX1_move_1 9 rfl rfl)
theorem dX1_move_36 : decode cX1_move 36 = .ok (.goto 7, 3) := dk_167 0 7 (dk_at dksX1_move_1 12 rfl rfl)
theorem dX1_move_39 : decode cX1_move 39 = .ok (.aload_n 2, 1) := dk_44 (dk_at dksX1_move_1 15 rfl rfl)
theorem dX1_move_40 : decode cX1_move 40 = .ok (.getfield 189, 3) := dk_180 0 189 (dk_at dksX1_move_1 16 rfl rfl)
theorem dX1_move_43 : decode cX1_move 43 = .ok (.istore 4, 2) := dk_54 4 (dk_at dksX1_move_1 19 rfl rfl)
theorem dX1_move_45 : decode cX1_move 45 = .ok (.aload_n 2, 1) := dk_44 (dk_at dksX1_move_1 21 rfl rfl)
theorem dX1_move_46 : decode cX1_move 46 = .ok (.iload_n 3, 1) := dk_29 (dk_at dksX1_move_1 22 rfl rfl)
theorem dX1_move_47 : decode cX1_move 47 = .ok (.iload 4, 2) := dk_21 4 (dk_at dksX1_move_2 0 rfl rfl)
theorem dX1_move_49 : decode cX1_move 49 = .ok (.invokevirtual 251, 3) := dk_182 0 251 (dk_at dksX1_move_2 2 rfl rfl)
theorem dX1_move_52 : decode cX1_move 52 = .ok (.return_, 1) := dk_177 (dk_at dksX1_move_2 5 rfl rfl)
abbrev cX1_step : ByteArray := prog_1_method_40_code
def yX1_step : MethodName := ⟨RX1, "step", "(II)I"⟩
def dkwX1_step_2 : List UInt8 := [21, 4, 172]
abbrev dktX1_step_2 : List UInt8 := dkwX1_step_2 ++ []
def dkwX1_step_1 : List UInt8 := [162, 0, 23, 45, 180, 1, 134, 16, 114, 160, 0, 14, 42, 45, 182, 1, 141, 132, 4, 1, 167, 255, 233]
abbrev dktX1_step_1 : List UInt8 := dkwX1_step_1 ++ dktX1_step_2
def dkwX1_step_0 : List UInt8 := [42, 27, 182, 1, 47, 78, 28, 4, 16, 99, 184, 0, 75, 184, 0, 79, 3, 54, 4, 21, 4, 28]
abbrev dktX1_step_0 : List UInt8 := dkwX1_step_0 ++ dktX1_step_1
theorem dksX1_step_0 : cX1_step.data.toList.drop 0 = dktX1_step_0 := by decide +kernel
theorem dksX1_step_1 : cX1_step.data.toList.drop 22 = dktX1_step_1 := dk_seg dksX1_step_0 22 rfl rfl
theorem dksX1_step_2 : cX1_step.data.toList.drop 45 = dktX1_step_2 := dk_seg dksX1_step_1 23 rfl rfl
theorem dX1_step_0 : decode cX1_step 0 = .ok (.aload_n 0, 1) := dk_42 (dk_at dksX1_step_0 0 rfl rfl)
theorem dX1_step_1 : decode cX1_step 1 = .ok (.iload_n 1, 1) := dk_27 (dk_at dksX1_step_0 1 rfl rfl)
theorem dX1_step_2 : decode cX1_step 2 = .ok (.invokevirtual 303, 3) := dk_182 1 47 (dk_at dksX1_step_0 2 rfl rfl)
theorem dX1_step_5 : decode cX1_step 5 = .ok (.astore_n 3, 1) := dk_78 (dk_at dksX1_step_0 5 rfl rfl)
theorem dX1_step_6 : decode cX1_step 6 = .ok (.iload_n 2, 1) := dk_28 (dk_at dksX1_step_0 6 rfl rfl)
theorem dX1_step_7 : decode cX1_step 7 = .ok (.iconst 1, 1) := dk_4 (dk_at dksX1_step_0 7 rfl rfl)
theorem dX1_step_8 : decode cX1_step 8 = .ok (.bipush 99, 2) := dk_16 99 (dk_at dksX1_step_0 8 rfl rfl)
theorem dX1_step_10 : decode cX1_step 10 = .ok (.invokestatic 75, 3) := dk_184 0 75 (dk_at dksX1_step_0 10 rfl rfl)
theorem dX1_step_13 : decode cX1_step 13 = .ok (.invokestatic 79, 3) := dk_184 0 79 (dk_at dksX1_step_0 13 rfl rfl)
theorem dX1_step_16 : decode cX1_step 16 = .ok (.iconst 0, 1) := dk_3 (dk_at dksX1_step_0 16 rfl rfl)
theorem dX1_step_17 : decode cX1_step 17 = .ok (.istore 4, 2) := dk_54 4 (dk_at dksX1_step_0 17 rfl rfl)
theorem dX1_step_19 : decode cX1_step 19 = .ok (.iload 4, 2) := dk_21 4 (dk_at dksX1_step_0 19 rfl rfl)
theorem dX1_step_21 : decode cX1_step 21 = .ok (.iload_n 2, 1) := dk_28 (dk_at dksX1_step_0 21 rfl rfl)
theorem dX1_step_22 : decode cX1_step 22 = .ok (.if_icmp .ge 23, 3) := dk_162 0 23 (dk_at dksX1_step_1 0 rfl rfl)
theorem dX1_step_25 : decode cX1_step 25 = .ok (.aload_n 3, 1) := dk_45 (dk_at dksX1_step_1 3 rfl rfl)
theorem dX1_step_26 : decode cX1_step 26 = .ok (.getfield 390, 3) := dk_180 1 134 (dk_at dksX1_step_1 4 rfl rfl)
theorem dX1_step_29 : decode cX1_step 29 = .ok (.bipush 114, 2) := dk_16 114 (dk_at dksX1_step_1 7 rfl rfl)
theorem dX1_step_31 : decode cX1_step 31 = .ok (.if_icmp .ne 14, 3) := dk_160 0 14 (dk_at dksX1_step_1 9 rfl rfl)
theorem dX1_step_34 : decode cX1_step 34 = .ok (.aload_n 0, 1) := dk_42 (dk_at dksX1_step_1 12 rfl rfl)
theorem dX1_step_35 : decode cX1_step 35 = .ok (.aload_n 3, 1) := dk_45 (dk_at dksX1_step_1 13 rfl rfl)
theorem dX1_step_36 : decode cX1_step 36 = .ok (.invokevirtual 397, 3) := dk_182 1 141 (dk_at dksX1_step_1 14 rfl rfl)
theorem dX1_step_39 : decode cX1_step 39 = .ok (.iinc 4 1, 3) := dk_132 4 1 (dk_at dksX1_step_1 17 rfl rfl)
theorem dX1_step_42 : decode cX1_step 42 = .ok (.goto (-23), 3) := dk_167 255 233 (dk_at dksX1_step_1 20 rfl rfl)
theorem dX1_step_45 : decode cX1_step 45 = .ok (.iload 4, 2) := dk_21 4 (dk_at dksX1_step_2 0 rfl rfl)
theorem dX1_step_47 : decode cX1_step 47 = .ok (.ireturn, 1) := dk_172 (dk_at dksX1_step_2 2 rfl rfl)
abbrev cX1_step_2 : ByteArray := prog_1_method_39_code
def yX1_step_2 : MethodName := ⟨RX1, "step", "(LSwapWhile$Strand;)V"⟩
def dkwX1_step_2_4 : List UInt8 := [192, 0, 102, 182, 1, 135, 42, 182, 1, 38, 42, 182, 1, 138, 177]
abbrev dktX1_step_2_4 : List UInt8 := dkwX1_step_2_4 ++ []
def dkwX1_step_2_3 : List UInt8 := [180, 0, 189, 4, 96, 181, 0, 189, 42, 43, 44, 45, 44, 180, 0, 189, 4, 100, 185, 0, 60, 2, 0]
abbrev dktX1_step_2_3 : List UInt8 := dkwX1_step_2_3 ++ dktX1_step_2_4
def dkwX1_step_2_2 : List UInt8 := [44, 180, 0, 189, 45, 185, 0, 71, 1, 0, 161, 0, 12, 42, 43, 3, 182, 1, 126, 167, 0, 34, 44, 89]
abbrev dktX1_step_2_2 : List UInt8 := dkwX1_step_2_2 ++ dktX1_step_2_3
def dkwX1_step_2_1 : List UInt8 := [185, 0, 60, 2, 0, 192, 0, 51, 180, 0, 96, 44, 180, 0, 180, 185, 0, 60, 2, 0, 192, 0, 55, 78]
abbrev dktX1_step_2_1 : List UInt8 := dkwX1_step_2_1 ++ dktX1_step_2_2
def dkwX1_step_2_0 : List UInt8 := [42, 89, 180, 1, 35, 10, 97, 181, 1, 35, 43, 182, 1, 66, 77, 42, 180, 0, 22, 44, 182, 1, 63]
abbrev dktX1_step_2_0 : List UInt8 := dkwX1_step_2_0 ++ dktX1_step_2_1
theorem dksX1_step_2_0 : cX1_step_2.data.toList.drop 0 = dktX1_step_2_0 := by decide +kernel
theorem dksX1_step_2_1 : cX1_step_2.data.toList.drop 23 = dktX1_step_2_1 := dk_seg dksX1_step_2_0 23 rfl rfl
theorem dksX1_step_2_2 : cX1_step_2.data.toList.drop 47 = dktX1_step_2_2 := dk_seg dksX1_step_2_1 24 rfl rfl
theorem dksX1_step_2_3 : cX1_step_2.data.toList.drop 71 = dktX1_step_2_3 := dk_seg dksX1_step_2_2 24 rfl rfl
theorem dksX1_step_2_4 : cX1_step_2.data.toList.drop 94 = dktX1_step_2_4 := dk_seg dksX1_step_2_3 23 rfl rfl
theorem dX1_step_2_0 : decode cX1_step_2 0 = .ok (.aload_n 0, 1) := dk_42 (dk_at dksX1_step_2_0 0 rfl rfl)
theorem dX1_step_2_1 : decode cX1_step_2 1 = .ok (.dup, 1) := dk_89 (dk_at dksX1_step_2_0 1 rfl rfl)
theorem dX1_step_2_2 : decode cX1_step_2 2 = .ok (.getfield 291, 3) := dk_180 1 35 (dk_at dksX1_step_2_0 2 rfl rfl)
theorem dX1_step_2_5 : decode cX1_step_2 5 = .ok (.lconst 1, 1) := dk_10 (dk_at dksX1_step_2_0 5 rfl rfl)
theorem dX1_step_2_6 : decode cX1_step_2 6 = .ok (.ladd, 1) := dk_97 (dk_at dksX1_step_2_0 6 rfl rfl)
theorem dX1_step_2_7 : decode cX1_step_2 7 = .ok (.putfield 291, 3) := dk_181 1 35 (dk_at dksX1_step_2_0 7 rfl rfl)
theorem dX1_step_2_10 : decode cX1_step_2 10 = .ok (.aload_n 1, 1) := dk_43 (dk_at dksX1_step_2_0 10 rfl rfl)
theorem dX1_step_2_11 : decode cX1_step_2 11 = .ok (.invokevirtual 322, 3) := dk_182 1 66 (dk_at dksX1_step_2_0 11 rfl rfl)
theorem dX1_step_2_14 : decode cX1_step_2 14 = .ok (.astore_n 2, 1) := dk_77 (dk_at dksX1_step_2_0 14 rfl rfl)
theorem dX1_step_2_15 : decode cX1_step_2 15 = .ok (.aload_n 0, 1) := dk_42 (dk_at dksX1_step_2_0 15 rfl rfl)
theorem dX1_step_2_16 : decode cX1_step_2 16 = .ok (.getfield 22, 3) := dk_180 0 22 (dk_at dksX1_step_2_0 16 rfl rfl)
theorem dX1_step_2_19 : decode cX1_step_2 19 = .ok (.aload_n 2, 1) := dk_44 (dk_at dksX1_step_2_0 19 rfl rfl)
theorem dX1_step_2_20 : decode cX1_step_2 20 = .ok (.invokevirtual 319, 3) := dk_182 1 63 (dk_at dksX1_step_2_0 20 rfl rfl)
theorem dX1_step_2_23 : decode cX1_step_2 23 = .ok (.invokeinterface 60 2, 5) := by decide +kernel
theorem dX1_step_2_28 : decode cX1_step_2 28 = .ok (.checkcast 51, 3) := dk_192 0 51 (dk_at dksX1_step_2_1 5 rfl rfl)
theorem dX1_step_2_31 : decode cX1_step_2 31 = .ok (.getfield 96, 3) := dk_180 0 96 (dk_at dksX1_step_2_1 8 rfl rfl)
theorem dX1_step_2_34 : decode cX1_step_2 34 = .ok (.aload_n 2, 1) := dk_44 (dk_at dksX1_step_2_1 11 rfl rfl)
theorem dX1_step_2_35 : decode cX1_step_2 35 = .ok (.getfield 180, 3) := dk_180 0 180 (dk_at dksX1_step_2_1 12 rfl rfl)
theorem dX1_step_2_38 : decode cX1_step_2 38 = .ok (.invokeinterface 60 2, 5) := by decide +kernel
theorem dX1_step_2_43 : decode cX1_step_2 43 = .ok (.checkcast 55, 3) := dk_192 0 55 (dk_at dksX1_step_2_1 20 rfl rfl)
theorem dX1_step_2_46 : decode cX1_step_2 46 = .ok (.astore_n 3, 1) := dk_78 (dk_at dksX1_step_2_1 23 rfl rfl)
theorem dX1_step_2_47 : decode cX1_step_2 47 = .ok (.aload_n 2, 1) := dk_44 (dk_at dksX1_step_2_2 0 rfl rfl)
theorem dX1_step_2_48 : decode cX1_step_2 48 = .ok (.getfield 189, 3) := dk_180 0 189 (dk_at dksX1_step_2_2 1 rfl rfl)
theorem dX1_step_2_51 : decode cX1_step_2 51 = .ok (.aload_n 3, 1) := dk_45 (dk_at dksX1_step_2_2 4 rfl rfl)
theorem dX1_step_2_52 : decode cX1_step_2 52 = .ok (.invokeinterface 71 1, 5) := by decide +kernel
theorem dX1_step_2_57 : decode cX1_step_2 57 = .ok (.if_icmp .lt 12, 3) := dk_161 0 12 (dk_at dksX1_step_2_2 10 rfl rfl)
theorem dX1_step_2_60 : decode cX1_step_2 60 = .ok (.aload_n 0, 1) := dk_42 (dk_at dksX1_step_2_2 13 rfl rfl)
theorem dX1_step_2_61 : decode cX1_step_2 61 = .ok (.aload_n 1, 1) := dk_43 (dk_at dksX1_step_2_2 14 rfl rfl)
theorem dX1_step_2_62 : decode cX1_step_2 62 = .ok (.iconst 0, 1) := dk_3 (dk_at dksX1_step_2_2 15 rfl rfl)
theorem dX1_step_2_63 : decode cX1_step_2 63 = .ok (.invokevirtual 382, 3) := dk_182 1 126 (dk_at dksX1_step_2_2 16 rfl rfl)
theorem dX1_step_2_66 : decode cX1_step_2 66 = .ok (.goto 34, 3) := dk_167 0 34 (dk_at dksX1_step_2_2 19 rfl rfl)
theorem dX1_step_2_69 : decode cX1_step_2 69 = .ok (.aload_n 2, 1) := dk_44 (dk_at dksX1_step_2_2 22 rfl rfl)
theorem dX1_step_2_70 : decode cX1_step_2 70 = .ok (.dup, 1) := dk_89 (dk_at dksX1_step_2_2 23 rfl rfl)
theorem dX1_step_2_71 : decode cX1_step_2 71 = .ok (.getfield 189, 3) := dk_180 0 189 (dk_at dksX1_step_2_3 0 rfl rfl)
theorem dX1_step_2_74 : decode cX1_step_2 74 = .ok (.iconst 1, 1) := dk_4 (dk_at dksX1_step_2_3 3 rfl rfl)
theorem dX1_step_2_75 : decode cX1_step_2 75 = .ok (.iadd, 1) := dk_96 (dk_at dksX1_step_2_3 4 rfl rfl)
theorem dX1_step_2_76 : decode cX1_step_2 76 = .ok (.putfield 189, 3) := dk_181 0 189 (dk_at dksX1_step_2_3 5 rfl rfl)
theorem dX1_step_2_79 : decode cX1_step_2 79 = .ok (.aload_n 0, 1) := dk_42 (dk_at dksX1_step_2_3 8 rfl rfl)
theorem dX1_step_2_80 : decode cX1_step_2 80 = .ok (.aload_n 1, 1) := dk_43 (dk_at dksX1_step_2_3 9 rfl rfl)
theorem dX1_step_2_81 : decode cX1_step_2 81 = .ok (.aload_n 2, 1) := dk_44 (dk_at dksX1_step_2_3 10 rfl rfl)
theorem dX1_step_2_82 : decode cX1_step_2 82 = .ok (.aload_n 3, 1) := dk_45 (dk_at dksX1_step_2_3 11 rfl rfl)
theorem dX1_step_2_83 : decode cX1_step_2 83 = .ok (.aload_n 2, 1) := dk_44 (dk_at dksX1_step_2_3 12 rfl rfl)
theorem dX1_step_2_84 : decode cX1_step_2 84 = .ok (.getfield 189, 3) := dk_180 0 189 (dk_at dksX1_step_2_3 13 rfl rfl)
theorem dX1_step_2_87 : decode cX1_step_2 87 = .ok (.iconst 1, 1) := dk_4 (dk_at dksX1_step_2_3 16 rfl rfl)
theorem dX1_step_2_88 : decode cX1_step_2 88 = .ok (.isub, 1) := dk_100 (dk_at dksX1_step_2_3 17 rfl rfl)
theorem dX1_step_2_89 : decode cX1_step_2 89 = .ok (.invokeinterface 60 2, 5) := by decide +kernel
theorem dX1_step_2_94 : decode cX1_step_2 94 = .ok (.checkcast 102, 3) := dk_192 0 102 (dk_at dksX1_step_2_4 0 rfl rfl)
theorem dX1_step_2_97 : decode cX1_step_2 97 = .ok (.invokevirtual 391, 3) := dk_182 1 135 (dk_at dksX1_step_2_4 3 rfl rfl)
theorem dX1_step_2_100 : decode cX1_step_2 100 = .ok (.aload_n 0, 1) := dk_42 (dk_at dksX1_step_2_4 6 rfl rfl)
theorem dX1_step_2_101 : decode cX1_step_2 101 = .ok (.invokevirtual 294, 3) := dk_182 1 38 (dk_at dksX1_step_2_4 7 rfl rfl)
theorem dX1_step_2_104 : decode cX1_step_2 104 = .ok (.aload_n 0, 1) := dk_42 (dk_at dksX1_step_2_4 10 rfl rfl)
theorem dX1_step_2_105 : decode cX1_step_2 105 = .ok (.invokevirtual 394, 3) := dk_182 1 138 (dk_at dksX1_step_2_4 11 rfl rfl)
theorem dX1_step_2_108 : decode cX1_step_2 108 = .ok (.return_, 1) := dk_177 (dk_at dksX1_step_2_4 14 rfl rfl)
abbrev cX1_giveBack : ByteArray := prog_1_method_33_code
def yX1_giveBack : MethodName := ⟨RX1, "giveBack", "(LSwapWhile$Strand;I)V"⟩
def dkwX1_giveBack_2 : List UInt8 := [182, 1, 66, 180, 1, 69, 45, 180, 1, 72, 28, 79, 177]
abbrev dktX1_giveBack_2 : List UInt8 := dkwX1_giveBack_2 ++ []
def dkwX1_giveBack_1 : List UInt8 := [43, 180, 0, 198, 185, 1, 14, 1, 0, 153, 0, 12, 43, 16, 100, 182, 1, 54, 167, 0, 16, 43]
abbrev dktX1_giveBack_1 : List UInt8 := dkwX1_giveBack_1 ++ dktX1_giveBack_2
def dkwX1_giveBack_0 : List UInt8 := [43, 180, 0, 198, 43, 180, 0, 198, 185, 0, 71, 1, 0, 4, 100, 185, 1, 21, 2, 0, 192, 0, 181, 78]
abbrev dktX1_giveBack_0 : List UInt8 := dkwX1_giveBack_0 ++ dktX1_giveBack_1
theorem dksX1_giveBack_0 : cX1_giveBack.data.toList.drop 0 = dktX1_giveBack_0 := by decide +kernel
theorem dksX1_giveBack_1 : cX1_giveBack.data.toList.drop 24 = dktX1_giveBack_1 := dk_seg dksX1_giveBack_0 24 rfl rfl
theorem dksX1_giveBack_2 : cX1_giveBack.data.toList.drop 46 = dktX1_giveBack_2 := dk_seg dksX1_giveBack_1 22 rfl rfl
theorem dX1_giveBack_0 : decode cX1_giveBack 0 = .ok (.aload_n 1, 1) := dk_43 (dk_at dksX1_giveBack_0 0 rfl rfl)
theorem dX1_giveBack_1 : decode cX1_giveBack 1 = .ok (.getfield 198, 3) := dk_180 0 198 (dk_at dksX1_giveBack_0 1 rfl rfl)
theorem dX1_giveBack_4 : decode cX1_giveBack 4 = .ok (.aload_n 1, 1) := dk_43 (dk_at dksX1_giveBack_0 4 rfl rfl)
theorem dX1_giveBack_5 : decode cX1_giveBack 5 = .ok (.getfield 198, 3) := dk_180 0 198 (dk_at dksX1_giveBack_0 5 rfl rfl)
theorem dX1_giveBack_8 : decode cX1_giveBack 8 = .ok (.invokeinterface 71 1, 5) := by decide +kernel
theorem dX1_giveBack_13 : decode cX1_giveBack 13 = .ok (.iconst 1, 1) := dk_4 (dk_at dksX1_giveBack_0 13 rfl rfl)
theorem dX1_giveBack_14 : decode cX1_giveBack 14 = .ok (.isub, 1) := dk_100 (dk_at dksX1_giveBack_0 14 rfl rfl)
theorem dX1_giveBack_15 : decode cX1_giveBack 15 = .ok (.invokeinterface 277 2, 5) := by decide +kernel
theorem dX1_giveBack_20 : decode cX1_giveBack 20 = .ok (.checkcast 181, 3) := dk_192 0 181 (dk_at dksX1_giveBack_0 20 rfl rfl)
theorem dX1_giveBack_23 : decode cX1_giveBack 23 = .ok (.astore_n 3, 1) := dk_78 (dk_at dksX1_giveBack_0 23 rfl rfl)
theorem dX1_giveBack_24 : decode cX1_giveBack 24 = .ok (.aload_n 1, 1) := dk_43 (dk_at dksX1_giveBack_1 0 rfl rfl)
theorem dX1_giveBack_25 : decode cX1_giveBack 25 = .ok (.getfield 198, 3) := dk_180 0 198 (dk_at dksX1_giveBack_1 1 rfl rfl)
theorem dX1_giveBack_28 : decode cX1_giveBack 28 = .ok (.invokeinterface 270 1, 5) := by decide +kernel
theorem dX1_giveBack_33 : decode cX1_giveBack 33 = .ok (.ifCond .eq 12, 3) := dk_153 0 12 (dk_at dksX1_giveBack_1 9 rfl rfl)
theorem dX1_giveBack_36 : decode cX1_giveBack 36 = .ok (.aload_n 1, 1) := dk_43 (dk_at dksX1_giveBack_1 12 rfl rfl)
theorem dX1_giveBack_37 : decode cX1_giveBack 37 = .ok (.bipush 100, 2) := dk_16 100 (dk_at dksX1_giveBack_1 13 rfl rfl)
theorem dX1_giveBack_39 : decode cX1_giveBack 39 = .ok (.invokevirtual 310, 3) := dk_182 1 54 (dk_at dksX1_giveBack_1 15 rfl rfl)
theorem dX1_giveBack_42 : decode cX1_giveBack 42 = .ok (.goto 16, 3) := dk_167 0 16 (dk_at dksX1_giveBack_1 18 rfl rfl)
theorem dX1_giveBack_45 : decode cX1_giveBack 45 = .ok (.aload_n 1, 1) := dk_43 (dk_at dksX1_giveBack_1 21 rfl rfl)
theorem dX1_giveBack_46 : decode cX1_giveBack 46 = .ok (.invokevirtual 322, 3) := dk_182 1 66 (dk_at dksX1_giveBack_2 0 rfl rfl)
theorem dX1_giveBack_49 : decode cX1_giveBack 49 = .ok (.getfield 325, 3) := dk_180 1 69 (dk_at dksX1_giveBack_2 3 rfl rfl)
theorem dX1_giveBack_52 : decode cX1_giveBack 52 = .ok (.aload_n 3, 1) := dk_45 (dk_at dksX1_giveBack_2 6 rfl rfl)
theorem dX1_giveBack_53 : decode cX1_giveBack 53 = .ok (.getfield 328, 3) := dk_180 1 72 (dk_at dksX1_giveBack_2 7 rfl rfl)
theorem dX1_giveBack_56 : decode cX1_giveBack 56 = .ok (.iload_n 2, 1) := dk_28 (dk_at dksX1_giveBack_2 10 rfl rfl)
theorem dX1_giveBack_57 : decode cX1_giveBack 57 = .ok (.iastore, 1) := dk_79 (dk_at dksX1_giveBack_2 11 rfl rfl)
theorem dX1_giveBack_58 : decode cX1_giveBack 58 = .ok (.return_, 1) := dk_177 (dk_at dksX1_giveBack_2 12 rfl rfl)
abbrev cX1_act : ByteArray := prog_1_method_37_code
def yX1_act : MethodName := ⟨RX1, "act", "(LSwapWhile$Strand;LSwapWhile$Frame;LSwapWhile$Instruction;)V"⟩
def dkwX1_act_5 : List UInt8 := [44, 180, 0, 189, 181, 0, 189, 167, 0, 10, 42, 43, 44, 45, 182, 1, 119, 177]
abbrev dktX1_act_5 : List UInt8 := dkwX1_act_5 ++ []
def dkwX1_act_4 : List UInt8 := [182, 1, 116, 167, 0, 38, 44, 25, 4, 45, 180, 1, 91, 46, 158, 0, 10, 45, 180, 1, 85, 167, 0, 7]
abbrev dktX1_act_4 : List UInt8 := dkwX1_act_4 ++ dktX1_act_5
def dkwX1_act_3 : List UInt8 := [45, 180, 1, 85, 46, 96, 79, 167, 0, 58, 42, 43, 44, 45, 182, 1, 112, 167, 0, 48, 42, 43, 44, 45]
abbrev dktX1_act_3 : List UInt8 := dkwX1_act_3 ++ dktX1_act_4
def dkwX1_act_2 : List UInt8 := [25, 4, 45, 180, 1, 91, 45, 180, 1, 85, 79, 167, 0, 78, 25, 4, 45, 180, 1, 91, 92, 46, 25, 4]
abbrev dktX1_act_2 : List UInt8 := dkwX1_act_2 ++ dktX1_act_3
def dkwX1_act_1 : List UInt8 := [170, 0, 0, 0, 0, 0, 121, 0, 0, 0, 0, 0, 0, 0, 5, 0, 0, 0, 39, 0, 0, 0, 53, 0, 0, 0, 73, 0, 0, 0, 83, 0, 0, 0, 83, 0, 0, 0, 93]
abbrev dktX1_act_1 : List UInt8 := dkwX1_act_1 ++ dktX1_act_2
def dkwX1_act_0 : List UInt8 := [44, 180, 1, 69, 58, 4, 45, 180, 1, 101, 182, 1, 109]
abbrev dktX1_act_0 : List UInt8 := dkwX1_act_0 ++ dktX1_act_1
theorem dksX1_act_0 : cX1_act.data.toList.drop 0 = dktX1_act_0 := by decide +kernel
theorem dksX1_act_1 : cX1_act.data.toList.drop 13 = dktX1_act_1 := dk_seg dksX1_act_0 13 rfl rfl
theorem dksX1_act_2 : cX1_act.data.toList.drop 52 = dktX1_act_2 := dk_seg dksX1_act_1 39 rfl rfl
theorem dksX1_act_3 : cX1_act.data.toList.drop 76 = dktX1_act_3 := dk_seg dksX1_act_2 24 rfl rfl
theorem dksX1_act_4 : cX1_act.data.toList.drop 100 = dktX1_act_4 := dk_seg dksX1_act_3 24 rfl rfl
theorem dksX1_act_5 : cX1_act.data.toList.drop 124 = dktX1_act_5 := dk_seg dksX1_act_4 24 rfl rfl
theorem dX1_act_0 : decode cX1_act 0 = .ok (.aload_n 2, 1) := dk_44 (dk_at dksX1_act_0 0 rfl rfl)
theorem dX1_act_1 : decode cX1_act 1 = .ok (.getfield 325, 3) := dk_180 1 69 (dk_at dksX1_act_0 1 rfl rfl)
theorem dX1_act_4 : decode cX1_act 4 = .ok (.astore 4, 2) := dk_58 4 (dk_at dksX1_act_0 4 rfl rfl)
theorem dX1_act_6 : decode cX1_act 6 = .ok (.aload_n 3, 1) := dk_45 (dk_at dksX1_act_0 6 rfl rfl)
theorem dX1_act_7 : decode cX1_act 7 = .ok (.getfield 357, 3) := dk_180 1 101 (dk_at dksX1_act_0 7 rfl rfl)
theorem dX1_act_10 : decode cX1_act 10 = .ok (.invokevirtual 365, 3) := dk_182 1 109 (dk_at dksX1_act_0 10 rfl rfl)
theorem dX1_act_13 : decode cX1_act 13 = .ok (.tableswitch 121 0 5 #[39, 53, 73, 83, 83, 93], 39) := by decide +kernel
theorem dX1_act_52 : decode cX1_act 52 = .ok (.aload 4, 2) := dk_25 4 (dk_at dksX1_act_2 0 rfl rfl)
theorem dX1_act_54 : decode cX1_act 54 = .ok (.aload_n 3, 1) := dk_45 (dk_at dksX1_act_2 2 rfl rfl)
theorem dX1_act_55 : decode cX1_act 55 = .ok (.getfield 347, 3) := dk_180 1 91 (dk_at dksX1_act_2 3 rfl rfl)
theorem dX1_act_58 : decode cX1_act 58 = .ok (.aload_n 3, 1) := dk_45 (dk_at dksX1_act_2 6 rfl rfl)
theorem dX1_act_59 : decode cX1_act 59 = .ok (.getfield 341, 3) := dk_180 1 85 (dk_at dksX1_act_2 7 rfl rfl)
theorem dX1_act_62 : decode cX1_act 62 = .ok (.iastore, 1) := dk_79 (dk_at dksX1_act_2 10 rfl rfl)
theorem dX1_act_63 : decode cX1_act 63 = .ok (.goto 78, 3) := dk_167 0 78 (dk_at dksX1_act_2 11 rfl rfl)
theorem dX1_act_66 : decode cX1_act 66 = .ok (.aload 4, 2) := dk_25 4 (dk_at dksX1_act_2 14 rfl rfl)
theorem dX1_act_68 : decode cX1_act 68 = .ok (.aload_n 3, 1) := dk_45 (dk_at dksX1_act_2 16 rfl rfl)
theorem dX1_act_69 : decode cX1_act 69 = .ok (.getfield 347, 3) := dk_180 1 91 (dk_at dksX1_act_2 17 rfl rfl)
theorem dX1_act_72 : decode cX1_act 72 = .ok (.dup2, 1) := dk_92 (dk_at dksX1_act_2 20 rfl rfl)
theorem dX1_act_73 : decode cX1_act 73 = .ok (.iaload, 1) := dk_46 (dk_at dksX1_act_2 21 rfl rfl)
theorem dX1_act_74 : decode cX1_act 74 = .ok (.aload 4, 2) := dk_25 4 (dk_at dksX1_act_2 22 rfl rfl)
theorem dX1_act_76 : decode cX1_act 76 = .ok (.aload_n 3, 1) := dk_45 (dk_at dksX1_act_3 0 rfl rfl)
theorem dX1_act_77 : decode cX1_act 77 = .ok (.getfield 341, 3) := dk_180 1 85 (dk_at dksX1_act_3 1 rfl rfl)
theorem dX1_act_80 : decode cX1_act 80 = .ok (.iaload, 1) := dk_46 (dk_at dksX1_act_3 4 rfl rfl)
theorem dX1_act_81 : decode cX1_act 81 = .ok (.iadd, 1) := dk_96 (dk_at dksX1_act_3 5 rfl rfl)
theorem dX1_act_82 : decode cX1_act 82 = .ok (.iastore, 1) := dk_79 (dk_at dksX1_act_3 6 rfl rfl)
theorem dX1_act_83 : decode cX1_act 83 = .ok (.goto 58, 3) := dk_167 0 58 (dk_at dksX1_act_3 7 rfl rfl)
theorem dX1_act_86 : decode cX1_act 86 = .ok (.aload_n 0, 1) := dk_42 (dk_at dksX1_act_3 10 rfl rfl)
theorem dX1_act_87 : decode cX1_act 87 = .ok (.aload_n 1, 1) := dk_43 (dk_at dksX1_act_3 11 rfl rfl)
theorem dX1_act_88 : decode cX1_act 88 = .ok (.aload_n 2, 1) := dk_44 (dk_at dksX1_act_3 12 rfl rfl)
theorem dX1_act_89 : decode cX1_act 89 = .ok (.aload_n 3, 1) := dk_45 (dk_at dksX1_act_3 13 rfl rfl)
theorem dX1_act_90 : decode cX1_act 90 = .ok (.invokevirtual 368, 3) := dk_182 1 112 (dk_at dksX1_act_3 14 rfl rfl)
theorem dX1_act_93 : decode cX1_act 93 = .ok (.goto 48, 3) := dk_167 0 48 (dk_at dksX1_act_3 17 rfl rfl)
theorem dX1_act_96 : decode cX1_act 96 = .ok (.aload_n 0, 1) := dk_42 (dk_at dksX1_act_3 20 rfl rfl)
theorem dX1_act_97 : decode cX1_act 97 = .ok (.aload_n 1, 1) := dk_43 (dk_at dksX1_act_3 21 rfl rfl)
theorem dX1_act_98 : decode cX1_act 98 = .ok (.aload_n 2, 1) := dk_44 (dk_at dksX1_act_3 22 rfl rfl)
theorem dX1_act_99 : decode cX1_act 99 = .ok (.aload_n 3, 1) := dk_45 (dk_at dksX1_act_3 23 rfl rfl)
theorem dX1_act_100 : decode cX1_act 100 = .ok (.invokevirtual 372, 3) := dk_182 1 116 (dk_at dksX1_act_4 0 rfl rfl)
theorem dX1_act_103 : decode cX1_act 103 = .ok (.goto 38, 3) := dk_167 0 38 (dk_at dksX1_act_4 3 rfl rfl)
theorem dX1_act_106 : decode cX1_act 106 = .ok (.aload_n 2, 1) := dk_44 (dk_at dksX1_act_4 6 rfl rfl)
theorem dX1_act_107 : decode cX1_act 107 = .ok (.aload 4, 2) := dk_25 4 (dk_at dksX1_act_4 7 rfl rfl)
theorem dX1_act_109 : decode cX1_act 109 = .ok (.aload_n 3, 1) := dk_45 (dk_at dksX1_act_4 9 rfl rfl)
theorem dX1_act_110 : decode cX1_act 110 = .ok (.getfield 347, 3) := dk_180 1 91 (dk_at dksX1_act_4 10 rfl rfl)
theorem dX1_act_113 : decode cX1_act 113 = .ok (.iaload, 1) := dk_46 (dk_at dksX1_act_4 13 rfl rfl)
theorem dX1_act_114 : decode cX1_act 114 = .ok (.ifCond .le 10, 3) := dk_158 0 10 (dk_at dksX1_act_4 14 rfl rfl)
theorem dX1_act_117 : decode cX1_act 117 = .ok (.aload_n 3, 1) := dk_45 (dk_at dksX1_act_4 17 rfl rfl)
theorem dX1_act_118 : decode cX1_act 118 = .ok (.getfield 341, 3) := dk_180 1 85 (dk_at dksX1_act_4 18 rfl rfl)
theorem dX1_act_121 : decode cX1_act 121 = .ok (.goto 7, 3) := dk_167 0 7 (dk_at dksX1_act_4 21 rfl rfl)
theorem dX1_act_124 : decode cX1_act 124 = .ok (.aload_n 2, 1) := dk_44 (dk_at dksX1_act_5 0 rfl rfl)
theorem dX1_act_125 : decode cX1_act 125 = .ok (.getfield 189, 3) := dk_180 0 189 (dk_at dksX1_act_5 1 rfl rfl)
theorem dX1_act_128 : decode cX1_act 128 = .ok (.putfield 189, 3) := dk_181 0 189 (dk_at dksX1_act_5 4 rfl rfl)
theorem dX1_act_131 : decode cX1_act 131 = .ok (.goto 10, 3) := dk_167 0 10 (dk_at dksX1_act_5 7 rfl rfl)
theorem dX1_act_134 : decode cX1_act 134 = .ok (.aload_n 0, 1) := dk_42 (dk_at dksX1_act_5 10 rfl rfl)
theorem dX1_act_135 : decode cX1_act 135 = .ok (.aload_n 1, 1) := dk_43 (dk_at dksX1_act_5 11 rfl rfl)
theorem dX1_act_136 : decode cX1_act 136 = .ok (.aload_n 2, 1) := dk_44 (dk_at dksX1_act_5 12 rfl rfl)
theorem dX1_act_137 : decode cX1_act 137 = .ok (.aload_n 3, 1) := dk_45 (dk_at dksX1_act_5 13 rfl rfl)
theorem dX1_act_138 : decode cX1_act 138 = .ok (.invokevirtual 375, 3) := dk_182 1 119 (dk_at dksX1_act_5 14 rfl rfl)
theorem dX1_act_141 : decode cX1_act 141 = .ok (.return_, 1) := dk_177 (dk_at dksX1_act_5 17 rfl rfl)
abbrev cX1_make : ByteArray := prog_1_method_35_code
def yX1_make : MethodName := ⟨RX1, "make", "(LSwapWhile$Strand;LSwapWhile$Frame;LSwapWhile$Instruction;)V"⟩
def dkwX1_make_4 : List UInt8 := [100, 79, 177]
abbrev dktX1_make_4 : List UInt8 := dkwX1_make_4 ++ []
def dkwX1_make_3 : List UInt8 := [185, 0, 54, 2, 0, 87, 44, 180, 1, 69, 45, 180, 1, 91, 42, 180, 0, 28, 185, 0, 71, 1, 0, 4]
abbrev dktX1_make_3 : List UInt8 := dkwX1_make_3 ++ dktX1_make_4
def dkwX1_make_2 : List UInt8 := [185, 0, 60, 2, 0, 192, 0, 51, 180, 0, 113, 45, 180, 1, 85, 46, 188, 10, 183, 1, 88]
abbrev dktX1_make_2 : List UInt8 := dkwX1_make_2 ++ dktX1_make_3
def dkwX1_make_1 : List UInt8 := [180, 0, 28, 187, 1, 5, 89, 44, 182, 1, 63, 45, 180, 1, 85, 42, 180, 0, 22, 44, 182, 1, 63]
abbrev dktX1_make_1 : List UInt8 := dkwX1_make_1 ++ dktX1_make_2
def dkwX1_make_0 : List UInt8 := [42, 180, 0, 28, 185, 0, 71, 1, 0, 16, 30, 160, 0, 10, 43, 16, 102, 182, 1, 54, 177, 42]
abbrev dktX1_make_0 : List UInt8 := dkwX1_make_0 ++ dktX1_make_1
theorem dksX1_make_0 : cX1_make.data.toList.drop 0 = dktX1_make_0 := by decide +kernel
theorem dksX1_make_1 : cX1_make.data.toList.drop 22 = dktX1_make_1 := dk_seg dksX1_make_0 22 rfl rfl
theorem dksX1_make_2 : cX1_make.data.toList.drop 45 = dktX1_make_2 := dk_seg dksX1_make_1 23 rfl rfl
theorem dksX1_make_3 : cX1_make.data.toList.drop 66 = dktX1_make_3 := dk_seg dksX1_make_2 21 rfl rfl
theorem dksX1_make_4 : cX1_make.data.toList.drop 90 = dktX1_make_4 := dk_seg dksX1_make_3 24 rfl rfl
theorem dX1_make_0 : decode cX1_make 0 = .ok (.aload_n 0, 1) := dk_42 (dk_at dksX1_make_0 0 rfl rfl)
theorem dX1_make_1 : decode cX1_make 1 = .ok (.getfield 28, 3) := dk_180 0 28 (dk_at dksX1_make_0 1 rfl rfl)
theorem dX1_make_4 : decode cX1_make 4 = .ok (.invokeinterface 71 1, 5) := by decide +kernel
theorem dX1_make_9 : decode cX1_make 9 = .ok (.bipush 30, 2) := dk_16 30 (dk_at dksX1_make_0 9 rfl rfl)
theorem dX1_make_11 : decode cX1_make 11 = .ok (.if_icmp .ne 10, 3) := dk_160 0 10 (dk_at dksX1_make_0 11 rfl rfl)
theorem dX1_make_14 : decode cX1_make 14 = .ok (.aload_n 1, 1) := dk_43 (dk_at dksX1_make_0 14 rfl rfl)
theorem dX1_make_15 : decode cX1_make 15 = .ok (.bipush 102, 2) := dk_16 102 (dk_at dksX1_make_0 15 rfl rfl)
theorem dX1_make_17 : decode cX1_make 17 = .ok (.invokevirtual 310, 3) := dk_182 1 54 (dk_at dksX1_make_0 17 rfl rfl)
theorem dX1_make_20 : decode cX1_make 20 = .ok (.return_, 1) := dk_177 (dk_at dksX1_make_0 20 rfl rfl)
theorem dX1_make_21 : decode cX1_make 21 = .ok (.aload_n 0, 1) := dk_42 (dk_at dksX1_make_0 21 rfl rfl)
theorem dX1_make_22 : decode cX1_make 22 = .ok (.getfield 28, 3) := dk_180 0 28 (dk_at dksX1_make_1 0 rfl rfl)
theorem dX1_make_25 : decode cX1_make 25 = .ok (.new 261, 3) := dk_187 1 5 (dk_at dksX1_make_1 3 rfl rfl)
theorem dX1_make_28 : decode cX1_make 28 = .ok (.dup, 1) := dk_89 (dk_at dksX1_make_1 6 rfl rfl)
theorem dX1_make_29 : decode cX1_make 29 = .ok (.aload_n 2, 1) := dk_44 (dk_at dksX1_make_1 7 rfl rfl)
theorem dX1_make_30 : decode cX1_make 30 = .ok (.invokevirtual 319, 3) := dk_182 1 63 (dk_at dksX1_make_1 8 rfl rfl)
theorem dX1_make_33 : decode cX1_make 33 = .ok (.aload_n 3, 1) := dk_45 (dk_at dksX1_make_1 11 rfl rfl)
theorem dX1_make_34 : decode cX1_make 34 = .ok (.getfield 341, 3) := dk_180 1 85 (dk_at dksX1_make_1 12 rfl rfl)
theorem dX1_make_37 : decode cX1_make 37 = .ok (.aload_n 0, 1) := dk_42 (dk_at dksX1_make_1 15 rfl rfl)
theorem dX1_make_38 : decode cX1_make 38 = .ok (.getfield 22, 3) := dk_180 0 22 (dk_at dksX1_make_1 16 rfl rfl)
theorem dX1_make_41 : decode cX1_make 41 = .ok (.aload_n 2, 1) := dk_44 (dk_at dksX1_make_1 19 rfl rfl)
theorem dX1_make_42 : decode cX1_make 42 = .ok (.invokevirtual 319, 3) := dk_182 1 63 (dk_at dksX1_make_1 20 rfl rfl)
theorem dX1_make_45 : decode cX1_make 45 = .ok (.invokeinterface 60 2, 5) := by decide +kernel
theorem dX1_make_50 : decode cX1_make 50 = .ok (.checkcast 51, 3) := dk_192 0 51 (dk_at dksX1_make_2 5 rfl rfl)
theorem dX1_make_53 : decode cX1_make 53 = .ok (.getfield 113, 3) := dk_180 0 113 (dk_at dksX1_make_2 8 rfl rfl)
theorem dX1_make_56 : decode cX1_make 56 = .ok (.aload_n 3, 1) := dk_45 (dk_at dksX1_make_2 11 rfl rfl)
theorem dX1_make_57 : decode cX1_make 57 = .ok (.getfield 341, 3) := dk_180 1 85 (dk_at dksX1_make_2 12 rfl rfl)
theorem dX1_make_60 : decode cX1_make 60 = .ok (.iaload, 1) := dk_46 (dk_at dksX1_make_2 15 rfl rfl)
theorem dX1_make_61 : decode cX1_make 61 = .ok (.newarray .int, 2) := dk_188_10 (dk_at dksX1_make_2 16 rfl rfl)
theorem dX1_make_63 : decode cX1_make 63 = .ok (.invokespecial 344, 3) := dk_183 1 88 (dk_at dksX1_make_2 18 rfl rfl)
theorem dX1_make_66 : decode cX1_make 66 = .ok (.invokeinterface 54 2, 5) := by decide +kernel
theorem dX1_make_71 : decode cX1_make 71 = .ok (.pop, 1) := dk_87 (dk_at dksX1_make_3 5 rfl rfl)
theorem dX1_make_72 : decode cX1_make 72 = .ok (.aload_n 2, 1) := dk_44 (dk_at dksX1_make_3 6 rfl rfl)
theorem dX1_make_73 : decode cX1_make 73 = .ok (.getfield 325, 3) := dk_180 1 69 (dk_at dksX1_make_3 7 rfl rfl)
theorem dX1_make_76 : decode cX1_make 76 = .ok (.aload_n 3, 1) := dk_45 (dk_at dksX1_make_3 10 rfl rfl)
theorem dX1_make_77 : decode cX1_make 77 = .ok (.getfield 347, 3) := dk_180 1 91 (dk_at dksX1_make_3 11 rfl rfl)
theorem dX1_make_80 : decode cX1_make 80 = .ok (.aload_n 0, 1) := dk_42 (dk_at dksX1_make_3 14 rfl rfl)
theorem dX1_make_81 : decode cX1_make 81 = .ok (.getfield 28, 3) := dk_180 0 28 (dk_at dksX1_make_3 15 rfl rfl)
theorem dX1_make_84 : decode cX1_make 84 = .ok (.invokeinterface 71 1, 5) := by decide +kernel
theorem dX1_make_89 : decode cX1_make 89 = .ok (.iconst 1, 1) := dk_4 (dk_at dksX1_make_3 23 rfl rfl)
theorem dX1_make_90 : decode cX1_make 90 = .ok (.isub, 1) := dk_100 (dk_at dksX1_make_4 0 rfl rfl)
theorem dX1_make_91 : decode cX1_make 91 = .ok (.iastore, 1) := dk_79 (dk_at dksX1_make_4 1 rfl rfl)
theorem dX1_make_92 : decode cX1_make 92 = .ok (.return_, 1) := dk_177 (dk_at dksX1_make_4 2 rfl rfl)
abbrev cX1_reach : ByteArray := prog_1_method_36_code
def yX1_reach : MethodName := ⟨RX1, "reach", "(LSwapWhile$Strand;LSwapWhile$Frame;LSwapWhile$Instruction;)V"⟩
def dkwX1_reach_3 : List UInt8 := [25, 4, 180, 1, 108, 45, 180, 1, 85, 16, 10, 112, 44, 180, 1, 69, 45, 180, 1, 91, 46, 79, 177]
abbrev dktX1_reach_3 : List UInt8 := dkwX1_reach_3 ++ []
def dkwX1_reach_2 : List UInt8 := [180, 1, 69, 45, 180, 1, 91, 25, 4, 180, 1, 108, 45, 180, 1, 85, 16, 10, 112, 46, 79, 167, 0, 25]
abbrev dktX1_reach_2 : List UInt8 := dkwX1_reach_2 ++ dktX1_reach_3
def dkwX1_reach_1 : List UInt8 := [199, 0, 12, 43, 16, 102, 182, 1, 54, 167, 0, 60, 45, 180, 1, 101, 178, 1, 105, 166, 0, 28, 44]
abbrev dktX1_reach_1 : List UInt8 := dkwX1_reach_1 ++ dktX1_reach_2
def dkwX1_reach_0 : List UInt8 := [42, 44, 44, 180, 1, 69, 45, 180, 1, 94, 46, 45, 180, 1, 85, 182, 1, 97, 58, 4, 25, 4]
abbrev dktX1_reach_0 : List UInt8 := dkwX1_reach_0 ++ dktX1_reach_1
theorem dksX1_reach_0 : cX1_reach.data.toList.drop 0 = dktX1_reach_0 := by decide +kernel
theorem dksX1_reach_1 : cX1_reach.data.toList.drop 22 = dktX1_reach_1 := dk_seg dksX1_reach_0 22 rfl rfl
theorem dksX1_reach_2 : cX1_reach.data.toList.drop 45 = dktX1_reach_2 := dk_seg dksX1_reach_1 23 rfl rfl
theorem dksX1_reach_3 : cX1_reach.data.toList.drop 69 = dktX1_reach_3 := dk_seg dksX1_reach_2 24 rfl rfl
theorem dX1_reach_0 : decode cX1_reach 0 = .ok (.aload_n 0, 1) := dk_42 (dk_at dksX1_reach_0 0 rfl rfl)
theorem dX1_reach_1 : decode cX1_reach 1 = .ok (.aload_n 2, 1) := dk_44 (dk_at dksX1_reach_0 1 rfl rfl)
theorem dX1_reach_2 : decode cX1_reach 2 = .ok (.aload_n 2, 1) := dk_44 (dk_at dksX1_reach_0 2 rfl rfl)
theorem dX1_reach_3 : decode cX1_reach 3 = .ok (.getfield 325, 3) := dk_180 1 69 (dk_at dksX1_reach_0 3 rfl rfl)
theorem dX1_reach_6 : decode cX1_reach 6 = .ok (.aload_n 3, 1) := dk_45 (dk_at dksX1_reach_0 6 rfl rfl)
theorem dX1_reach_7 : decode cX1_reach 7 = .ok (.getfield 350, 3) := dk_180 1 94 (dk_at dksX1_reach_0 7 rfl rfl)
theorem dX1_reach_10 : decode cX1_reach 10 = .ok (.iaload, 1) := dk_46 (dk_at dksX1_reach_0 10 rfl rfl)
theorem dX1_reach_11 : decode cX1_reach 11 = .ok (.aload_n 3, 1) := dk_45 (dk_at dksX1_reach_0 11 rfl rfl)
theorem dX1_reach_12 : decode cX1_reach 12 = .ok (.getfield 341, 3) := dk_180 1 85 (dk_at dksX1_reach_0 12 rfl rfl)
theorem dX1_reach_15 : decode cX1_reach 15 = .ok (.invokevirtual 353, 3) := dk_182 1 97 (dk_at dksX1_reach_0 15 rfl rfl)
theorem dX1_reach_18 : decode cX1_reach 18 = .ok (.astore 4, 2) := dk_58 4 (dk_at dksX1_reach_0 18 rfl rfl)
theorem dX1_reach_20 : decode cX1_reach 20 = .ok (.aload 4, 2) := dk_25 4 (dk_at dksX1_reach_0 20 rfl rfl)
theorem dX1_reach_22 : decode cX1_reach 22 = .ok (.ifnonnull 12, 3) := dk_199 0 12 (dk_at dksX1_reach_1 0 rfl rfl)
theorem dX1_reach_25 : decode cX1_reach 25 = .ok (.aload_n 1, 1) := dk_43 (dk_at dksX1_reach_1 3 rfl rfl)
theorem dX1_reach_26 : decode cX1_reach 26 = .ok (.bipush 102, 2) := dk_16 102 (dk_at dksX1_reach_1 4 rfl rfl)
theorem dX1_reach_28 : decode cX1_reach 28 = .ok (.invokevirtual 310, 3) := dk_182 1 54 (dk_at dksX1_reach_1 6 rfl rfl)
theorem dX1_reach_31 : decode cX1_reach 31 = .ok (.goto 60, 3) := dk_167 0 60 (dk_at dksX1_reach_1 9 rfl rfl)
theorem dX1_reach_34 : decode cX1_reach 34 = .ok (.aload_n 3, 1) := dk_45 (dk_at dksX1_reach_1 12 rfl rfl)
theorem dX1_reach_35 : decode cX1_reach 35 = .ok (.getfield 357, 3) := dk_180 1 101 (dk_at dksX1_reach_1 13 rfl rfl)
theorem dX1_reach_38 : decode cX1_reach 38 = .ok (.getstatic 361, 3) := dk_178 1 105 (dk_at dksX1_reach_1 16 rfl rfl)
theorem dX1_reach_41 : decode cX1_reach 41 = .ok (.if_acmp .ne 28, 3) := dk_166 0 28 (dk_at dksX1_reach_1 19 rfl rfl)
theorem dX1_reach_44 : decode cX1_reach 44 = .ok (.aload_n 2, 1) := dk_44 (dk_at dksX1_reach_1 22 rfl rfl)
theorem dX1_reach_45 : decode cX1_reach 45 = .ok (.getfield 325, 3) := dk_180 1 69 (dk_at dksX1_reach_2 0 rfl rfl)
theorem dX1_reach_48 : decode cX1_reach 48 = .ok (.aload_n 3, 1) := dk_45 (dk_at dksX1_reach_2 3 rfl rfl)
theorem dX1_reach_49 : decode cX1_reach 49 = .ok (.getfield 347, 3) := dk_180 1 91 (dk_at dksX1_reach_2 4 rfl rfl)
theorem dX1_reach_52 : decode cX1_reach 52 = .ok (.aload 4, 2) := dk_25 4 (dk_at dksX1_reach_2 7 rfl rfl)
theorem dX1_reach_54 : decode cX1_reach 54 = .ok (.getfield 364, 3) := dk_180 1 108 (dk_at dksX1_reach_2 9 rfl rfl)
theorem dX1_reach_57 : decode cX1_reach 57 = .ok (.aload_n 3, 1) := dk_45 (dk_at dksX1_reach_2 12 rfl rfl)
theorem dX1_reach_58 : decode cX1_reach 58 = .ok (.getfield 341, 3) := dk_180 1 85 (dk_at dksX1_reach_2 13 rfl rfl)
theorem dX1_reach_61 : decode cX1_reach 61 = .ok (.bipush 10, 2) := dk_16 10 (dk_at dksX1_reach_2 16 rfl rfl)
theorem dX1_reach_63 : decode cX1_reach 63 = .ok (.irem, 1) := dk_112 (dk_at dksX1_reach_2 18 rfl rfl)
theorem dX1_reach_64 : decode cX1_reach 64 = .ok (.iaload, 1) := dk_46 (dk_at dksX1_reach_2 19 rfl rfl)
theorem dX1_reach_65 : decode cX1_reach 65 = .ok (.iastore, 1) := dk_79 (dk_at dksX1_reach_2 20 rfl rfl)
theorem dX1_reach_66 : decode cX1_reach 66 = .ok (.goto 25, 3) := dk_167 0 25 (dk_at dksX1_reach_2 21 rfl rfl)
theorem dX1_reach_69 : decode cX1_reach 69 = .ok (.aload 4, 2) := dk_25 4 (dk_at dksX1_reach_3 0 rfl rfl)
theorem dX1_reach_71 : decode cX1_reach 71 = .ok (.getfield 364, 3) := dk_180 1 108 (dk_at dksX1_reach_3 2 rfl rfl)
theorem dX1_reach_74 : decode cX1_reach 74 = .ok (.aload_n 3, 1) := dk_45 (dk_at dksX1_reach_3 5 rfl rfl)
theorem dX1_reach_75 : decode cX1_reach 75 = .ok (.getfield 341, 3) := dk_180 1 85 (dk_at dksX1_reach_3 6 rfl rfl)
theorem dX1_reach_78 : decode cX1_reach 78 = .ok (.bipush 10, 2) := dk_16 10 (dk_at dksX1_reach_3 9 rfl rfl)
theorem dX1_reach_80 : decode cX1_reach 80 = .ok (.irem, 1) := dk_112 (dk_at dksX1_reach_3 11 rfl rfl)
theorem dX1_reach_81 : decode cX1_reach 81 = .ok (.aload_n 2, 1) := dk_44 (dk_at dksX1_reach_3 12 rfl rfl)
theorem dX1_reach_82 : decode cX1_reach 82 = .ok (.getfield 325, 3) := dk_180 1 69 (dk_at dksX1_reach_3 13 rfl rfl)
theorem dX1_reach_85 : decode cX1_reach 85 = .ok (.aload_n 3, 1) := dk_45 (dk_at dksX1_reach_3 16 rfl rfl)
theorem dX1_reach_86 : decode cX1_reach 86 = .ok (.getfield 347, 3) := dk_180 1 91 (dk_at dksX1_reach_3 17 rfl rfl)
theorem dX1_reach_89 : decode cX1_reach 89 = .ok (.iaload, 1) := dk_46 (dk_at dksX1_reach_3 20 rfl rfl)
theorem dX1_reach_90 : decode cX1_reach 90 = .ok (.iastore, 1) := dk_79 (dk_at dksX1_reach_3 21 rfl rfl)
theorem dX1_reach_91 : decode cX1_reach 91 = .ok (.return_, 1) := dk_177 (dk_at dksX1_reach_3 22 rfl rfl)
abbrev cX1_thingFor : ByteArray := prog_1_method_31_code
def yX1_thingFor : MethodName := ⟨RX1, "thingFor", "(LSwapWhile$Frame;II)LSwapWhile$Thing;"⟩
def dkwX1_thingFor_5 : List UInt8 := [25, 5, 176]
abbrev dktX1_thingFor_5 : List UInt8 := dkwX1_thingFor_5 ++ []
def dkwX1_thingFor_4 : List UInt8 := [185, 0, 60, 2, 0, 192, 1, 5, 58, 5, 25, 5, 43, 182, 1, 63, 42, 180, 0, 22, 182, 1, 7]
abbrev dktX1_thingFor_4 : List UInt8 := dkwX1_thingFor_4 ++ dktX1_thingFor_5
def dkwX1_thingFor_3 : List UInt8 := [192, 0, 51, 180, 0, 113, 29, 16, 10, 108, 46, 161, 0, 5, 1, 176, 42, 180, 0, 28, 28]
abbrev dktX1_thingFor_3 : List UInt8 := dkwX1_thingFor_3 ++ dktX1_thingFor_4
def dkwX1_thingFor_2 : List UInt8 := [54, 4, 21, 4, 153, 0, 34, 29, 16, 10, 112, 42, 180, 0, 22, 43, 182, 1, 63, 185, 0, 60, 2, 0]
abbrev dktX1_thingFor_2 : List UInt8 := dkwX1_thingFor_2 ++ dktX1_thingFor_3
def dkwX1_thingFor_1 : List UInt8 := [185, 0, 60, 2, 0, 192, 1, 5, 182, 1, 60, 29, 16, 10, 108, 160, 0, 7, 4, 167, 0, 4, 3]
abbrev dktX1_thingFor_1 : List UInt8 := dkwX1_thingFor_1 ++ dktX1_thingFor_2
def dkwX1_thingFor_0 : List UInt8 := [28, 3, 42, 180, 0, 28, 185, 0, 71, 1, 0, 4, 100, 184, 0, 75, 153, 0, 30, 42, 180, 0, 28, 28]
abbrev dktX1_thingFor_0 : List UInt8 := dkwX1_thingFor_0 ++ dktX1_thingFor_1
theorem dksX1_thingFor_0 : cX1_thingFor.data.toList.drop 0 = dktX1_thingFor_0 := by decide +kernel
theorem dksX1_thingFor_1 : cX1_thingFor.data.toList.drop 24 = dktX1_thingFor_1 := dk_seg dksX1_thingFor_0 24 rfl rfl
theorem dksX1_thingFor_2 : cX1_thingFor.data.toList.drop 47 = dktX1_thingFor_2 := dk_seg dksX1_thingFor_1 23 rfl rfl
theorem dksX1_thingFor_3 : cX1_thingFor.data.toList.drop 71 = dktX1_thingFor_3 := dk_seg dksX1_thingFor_2 24 rfl rfl
theorem dksX1_thingFor_4 : cX1_thingFor.data.toList.drop 92 = dktX1_thingFor_4 := dk_seg dksX1_thingFor_3 21 rfl rfl
theorem dksX1_thingFor_5 : cX1_thingFor.data.toList.drop 115 = dktX1_thingFor_5 := dk_seg dksX1_thingFor_4 23 rfl rfl
theorem dX1_thingFor_0 : decode cX1_thingFor 0 = .ok (.iload_n 2, 1) := dk_28 (dk_at dksX1_thingFor_0 0 rfl rfl)
theorem dX1_thingFor_1 : decode cX1_thingFor 1 = .ok (.iconst 0, 1) := dk_3 (dk_at dksX1_thingFor_0 1 rfl rfl)
theorem dX1_thingFor_2 : decode cX1_thingFor 2 = .ok (.aload_n 0, 1) := dk_42 (dk_at dksX1_thingFor_0 2 rfl rfl)
theorem dX1_thingFor_3 : decode cX1_thingFor 3 = .ok (.getfield 28, 3) := dk_180 0 28 (dk_at dksX1_thingFor_0 3 rfl rfl)
theorem dX1_thingFor_6 : decode cX1_thingFor 6 = .ok (.invokeinterface 71 1, 5) := by decide +kernel
theorem dX1_thingFor_11 : decode cX1_thingFor 11 = .ok (.iconst 1, 1) := dk_4 (dk_at dksX1_thingFor_0 11 rfl rfl)
theorem dX1_thingFor_12 : decode cX1_thingFor 12 = .ok (.isub, 1) := dk_100 (dk_at dksX1_thingFor_0 12 rfl rfl)
theorem dX1_thingFor_13 : decode cX1_thingFor 13 = .ok (.invokestatic 75, 3) := dk_184 0 75 (dk_at dksX1_thingFor_0 13 rfl rfl)
theorem dX1_thingFor_16 : decode cX1_thingFor 16 = .ok (.ifCond .eq 30, 3) := dk_153 0 30 (dk_at dksX1_thingFor_0 16 rfl rfl)
theorem dX1_thingFor_19 : decode cX1_thingFor 19 = .ok (.aload_n 0, 1) := dk_42 (dk_at dksX1_thingFor_0 19 rfl rfl)
theorem dX1_thingFor_20 : decode cX1_thingFor 20 = .ok (.getfield 28, 3) := dk_180 0 28 (dk_at dksX1_thingFor_0 20 rfl rfl)
theorem dX1_thingFor_23 : decode cX1_thingFor 23 = .ok (.iload_n 2, 1) := dk_28 (dk_at dksX1_thingFor_0 23 rfl rfl)
theorem dX1_thingFor_24 : decode cX1_thingFor 24 = .ok (.invokeinterface 60 2, 5) := by decide +kernel
theorem dX1_thingFor_29 : decode cX1_thingFor 29 = .ok (.checkcast 261, 3) := dk_192 1 5 (dk_at dksX1_thingFor_1 5 rfl rfl)
theorem dX1_thingFor_32 : decode cX1_thingFor 32 = .ok (.invokevirtual 316, 3) := dk_182 1 60 (dk_at dksX1_thingFor_1 8 rfl rfl)
theorem dX1_thingFor_35 : decode cX1_thingFor 35 = .ok (.iload_n 3, 1) := dk_29 (dk_at dksX1_thingFor_1 11 rfl rfl)
theorem dX1_thingFor_36 : decode cX1_thingFor 36 = .ok (.bipush 10, 2) := dk_16 10 (dk_at dksX1_thingFor_1 12 rfl rfl)
theorem dX1_thingFor_38 : decode cX1_thingFor 38 = .ok (.idiv, 1) := dk_108 (dk_at dksX1_thingFor_1 14 rfl rfl)
theorem dX1_thingFor_39 : decode cX1_thingFor 39 = .ok (.if_icmp .ne 7, 3) := dk_160 0 7 (dk_at dksX1_thingFor_1 15 rfl rfl)
theorem dX1_thingFor_42 : decode cX1_thingFor 42 = .ok (.iconst 1, 1) := dk_4 (dk_at dksX1_thingFor_1 18 rfl rfl)
theorem dX1_thingFor_43 : decode cX1_thingFor 43 = .ok (.goto 4, 3) := dk_167 0 4 (dk_at dksX1_thingFor_1 19 rfl rfl)
theorem dX1_thingFor_46 : decode cX1_thingFor 46 = .ok (.iconst 0, 1) := dk_3 (dk_at dksX1_thingFor_1 22 rfl rfl)
theorem dX1_thingFor_47 : decode cX1_thingFor 47 = .ok (.istore 4, 2) := dk_54 4 (dk_at dksX1_thingFor_2 0 rfl rfl)
theorem dX1_thingFor_49 : decode cX1_thingFor 49 = .ok (.iload 4, 2) := dk_21 4 (dk_at dksX1_thingFor_2 2 rfl rfl)
theorem dX1_thingFor_51 : decode cX1_thingFor 51 = .ok (.ifCond .eq 34, 3) := dk_153 0 34 (dk_at dksX1_thingFor_2 4 rfl rfl)
theorem dX1_thingFor_54 : decode cX1_thingFor 54 = .ok (.iload_n 3, 1) := dk_29 (dk_at dksX1_thingFor_2 7 rfl rfl)
theorem dX1_thingFor_55 : decode cX1_thingFor 55 = .ok (.bipush 10, 2) := dk_16 10 (dk_at dksX1_thingFor_2 8 rfl rfl)
theorem dX1_thingFor_57 : decode cX1_thingFor 57 = .ok (.irem, 1) := dk_112 (dk_at dksX1_thingFor_2 10 rfl rfl)
theorem dX1_thingFor_58 : decode cX1_thingFor 58 = .ok (.aload_n 0, 1) := dk_42 (dk_at dksX1_thingFor_2 11 rfl rfl)
theorem dX1_thingFor_59 : decode cX1_thingFor 59 = .ok (.getfield 22, 3) := dk_180 0 22 (dk_at dksX1_thingFor_2 12 rfl rfl)
theorem dX1_thingFor_62 : decode cX1_thingFor 62 = .ok (.aload_n 1, 1) := dk_43 (dk_at dksX1_thingFor_2 15 rfl rfl)
theorem dX1_thingFor_63 : decode cX1_thingFor 63 = .ok (.invokevirtual 319, 3) := dk_182 1 63 (dk_at dksX1_thingFor_2 16 rfl rfl)
theorem dX1_thingFor_66 : decode cX1_thingFor 66 = .ok (.invokeinterface 60 2, 5) := by decide +kernel
theorem dX1_thingFor_71 : decode cX1_thingFor 71 = .ok (.checkcast 51, 3) := dk_192 0 51 (dk_at dksX1_thingFor_3 0 rfl rfl)
theorem dX1_thingFor_74 : decode cX1_thingFor 74 = .ok (.getfield 113, 3) := dk_180 0 113 (dk_at dksX1_thingFor_3 3 rfl rfl)
theorem dX1_thingFor_77 : decode cX1_thingFor 77 = .ok (.iload_n 3, 1) := dk_29 (dk_at dksX1_thingFor_3 6 rfl rfl)
theorem dX1_thingFor_78 : decode cX1_thingFor 78 = .ok (.bipush 10, 2) := dk_16 10 (dk_at dksX1_thingFor_3 7 rfl rfl)
theorem dX1_thingFor_80 : decode cX1_thingFor 80 = .ok (.idiv, 1) := dk_108 (dk_at dksX1_thingFor_3 9 rfl rfl)
theorem dX1_thingFor_81 : decode cX1_thingFor 81 = .ok (.iaload, 1) := dk_46 (dk_at dksX1_thingFor_3 10 rfl rfl)
theorem dX1_thingFor_82 : decode cX1_thingFor 82 = .ok (.if_icmp .lt 5, 3) := dk_161 0 5 (dk_at dksX1_thingFor_3 11 rfl rfl)
theorem dX1_thingFor_85 : decode cX1_thingFor 85 = .ok (.aconst_null, 1) := dk_1 (dk_at dksX1_thingFor_3 14 rfl rfl)
theorem dX1_thingFor_86 : decode cX1_thingFor 86 = .ok (.areturn, 1) := dk_176 (dk_at dksX1_thingFor_3 15 rfl rfl)
theorem dX1_thingFor_87 : decode cX1_thingFor 87 = .ok (.aload_n 0, 1) := dk_42 (dk_at dksX1_thingFor_3 16 rfl rfl)
theorem dX1_thingFor_88 : decode cX1_thingFor 88 = .ok (.getfield 28, 3) := dk_180 0 28 (dk_at dksX1_thingFor_3 17 rfl rfl)
theorem dX1_thingFor_91 : decode cX1_thingFor 91 = .ok (.iload_n 2, 1) := dk_28 (dk_at dksX1_thingFor_3 20 rfl rfl)
theorem dX1_thingFor_92 : decode cX1_thingFor 92 = .ok (.invokeinterface 60 2, 5) := by decide +kernel
theorem dX1_thingFor_97 : decode cX1_thingFor 97 = .ok (.checkcast 261, 3) := dk_192 1 5 (dk_at dksX1_thingFor_4 5 rfl rfl)
theorem dX1_thingFor_100 : decode cX1_thingFor 100 = .ok (.astore 5, 2) := dk_58 5 (dk_at dksX1_thingFor_4 8 rfl rfl)
theorem dX1_thingFor_102 : decode cX1_thingFor 102 = .ok (.aload 5, 2) := dk_25 5 (dk_at dksX1_thingFor_4 10 rfl rfl)
theorem dX1_thingFor_104 : decode cX1_thingFor 104 = .ok (.aload_n 1, 1) := dk_43 (dk_at dksX1_thingFor_4 12 rfl rfl)
theorem dX1_thingFor_105 : decode cX1_thingFor 105 = .ok (.invokevirtual 319, 3) := dk_182 1 63 (dk_at dksX1_thingFor_4 13 rfl rfl)
theorem dX1_thingFor_108 : decode cX1_thingFor 108 = .ok (.aload_n 0, 1) := dk_42 (dk_at dksX1_thingFor_4 16 rfl rfl)
theorem dX1_thingFor_109 : decode cX1_thingFor 109 = .ok (.getfield 22, 3) := dk_180 0 22 (dk_at dksX1_thingFor_4 17 rfl rfl)
theorem dX1_thingFor_112 : decode cX1_thingFor 112 = .ok (.invokevirtual 263, 3) := dk_182 1 7 (dk_at dksX1_thingFor_4 20 rfl rfl)
theorem dX1_thingFor_115 : decode cX1_thingFor 115 = .ok (.aload 5, 2) := dk_25 5 (dk_at dksX1_thingFor_5 0 rfl rfl)
theorem dX1_thingFor_117 : decode cX1_thingFor 117 = .ok (.areturn, 1) := dk_176 (dk_at dksX1_thingFor_5 2 rfl rfl)
abbrev cX1_lead : ByteArray := prog_1_method_38_code
def yX1_lead : MethodName := ⟨RX1, "lead", "(LSwapWhile$Strand;LSwapWhile$Frame;LSwapWhile$Instruction;)V"⟩
def dkwX1_lead_6 : List UInt8 := [167, 0, 9, 43, 16, 119, 181, 1, 134, 177]
abbrev dktX1_lead_6 : List UInt8 := dkwX1_lead_6 ++ []
def dkwX1_lead_5 : List UInt8 := [180, 1, 91, 46, 182, 1, 126, 167, 0, 24, 42, 44, 25, 4, 45, 180, 1, 91, 46, 182, 1, 130]
abbrev dktX1_lead_5 : List UInt8 := dkwX1_lead_5 ++ dktX1_lead_6
def dkwX1_lead_4 : List UInt8 := [167, 0, 55, 42, 180, 0, 47, 45, 180, 1, 91, 45, 180, 1, 85, 79, 167, 0, 39, 42, 43, 25, 4, 45]
abbrev dktX1_lead_4 : List UInt8 := dkwX1_lead_4 ++ dktX1_lead_5
def dkwX1_lead_3 : List UInt8 := [43, 42, 180, 0, 47, 45, 180, 1, 91, 46, 25, 4, 45, 180, 1, 85, 46, 45, 180, 1, 94, 182, 1, 122]
abbrev dktX1_lead_3 : List UInt8 := dkwX1_lead_3 ++ dktX1_lead_4
def dkwX1_lead_2 : List UInt8 := [42, 43, 45, 180, 1, 91, 25, 4, 45, 180, 1, 85, 46, 45, 180, 1, 94, 182, 1, 122, 167, 0, 83, 42]
abbrev dktX1_lead_2 : List UInt8 := dkwX1_lead_2 ++ dktX1_lead_3
def dkwX1_lead_1 : List UInt8 := [170, 0, 0, 0, 0, 0, 132, 0, 0, 0, 6, 0, 0, 0, 10, 0, 0, 0, 35, 0, 0, 0, 58, 0, 0, 0, 86, 0, 0, 0, 102, 0, 0, 0, 117]
abbrev dktX1_lead_1 : List UInt8 := dkwX1_lead_1 ++ dktX1_lead_2
def dkwX1_lead_0 : List UInt8 := [44, 180, 1, 69, 58, 4, 45, 180, 1, 101, 182, 1, 109]
abbrev dktX1_lead_0 : List UInt8 := dkwX1_lead_0 ++ dktX1_lead_1
theorem dksX1_lead_0 : cX1_lead.data.toList.drop 0 = dktX1_lead_0 := by decide +kernel
theorem dksX1_lead_1 : cX1_lead.data.toList.drop 13 = dktX1_lead_1 := dk_seg dksX1_lead_0 13 rfl rfl
theorem dksX1_lead_2 : cX1_lead.data.toList.drop 48 = dktX1_lead_2 := dk_seg dksX1_lead_1 35 rfl rfl
theorem dksX1_lead_3 : cX1_lead.data.toList.drop 72 = dktX1_lead_3 := dk_seg dksX1_lead_2 24 rfl rfl
theorem dksX1_lead_4 : cX1_lead.data.toList.drop 96 = dktX1_lead_4 := dk_seg dksX1_lead_3 24 rfl rfl
theorem dksX1_lead_5 : cX1_lead.data.toList.drop 120 = dktX1_lead_5 := dk_seg dksX1_lead_4 24 rfl rfl
theorem dksX1_lead_6 : cX1_lead.data.toList.drop 142 = dktX1_lead_6 := dk_seg dksX1_lead_5 22 rfl rfl
theorem dX1_lead_0 : decode cX1_lead 0 = .ok (.aload_n 2, 1) := dk_44 (dk_at dksX1_lead_0 0 rfl rfl)
theorem dX1_lead_1 : decode cX1_lead 1 = .ok (.getfield 325, 3) := dk_180 1 69 (dk_at dksX1_lead_0 1 rfl rfl)
theorem dX1_lead_4 : decode cX1_lead 4 = .ok (.astore 4, 2) := dk_58 4 (dk_at dksX1_lead_0 4 rfl rfl)
theorem dX1_lead_6 : decode cX1_lead 6 = .ok (.aload_n 3, 1) := dk_45 (dk_at dksX1_lead_0 6 rfl rfl)
theorem dX1_lead_7 : decode cX1_lead 7 = .ok (.getfield 357, 3) := dk_180 1 101 (dk_at dksX1_lead_0 7 rfl rfl)
theorem dX1_lead_10 : decode cX1_lead 10 = .ok (.invokevirtual 365, 3) := dk_182 1 109 (dk_at dksX1_lead_0 10 rfl rfl)
theorem dX1_lead_13 : decode cX1_lead 13 = .ok (.tableswitch 132 6 10 #[35, 58, 86, 102, 117], 35) := by decide +kernel
theorem dX1_lead_48 : decode cX1_lead 48 = .ok (.aload_n 0, 1) := dk_42 (dk_at dksX1_lead_2 0 rfl rfl)
theorem dX1_lead_49 : decode cX1_lead 49 = .ok (.aload_n 1, 1) := dk_43 (dk_at dksX1_lead_2 1 rfl rfl)
theorem dX1_lead_50 : decode cX1_lead 50 = .ok (.aload_n 3, 1) := dk_45 (dk_at dksX1_lead_2 2 rfl rfl)
theorem dX1_lead_51 : decode cX1_lead 51 = .ok (.getfield 347, 3) := dk_180 1 91 (dk_at dksX1_lead_2 3 rfl rfl)
theorem dX1_lead_54 : decode cX1_lead 54 = .ok (.aload 4, 2) := dk_25 4 (dk_at dksX1_lead_2 6 rfl rfl)
theorem dX1_lead_56 : decode cX1_lead 56 = .ok (.aload_n 3, 1) := dk_45 (dk_at dksX1_lead_2 8 rfl rfl)
theorem dX1_lead_57 : decode cX1_lead 57 = .ok (.getfield 341, 3) := dk_180 1 85 (dk_at dksX1_lead_2 9 rfl rfl)
theorem dX1_lead_60 : decode cX1_lead 60 = .ok (.iaload, 1) := dk_46 (dk_at dksX1_lead_2 12 rfl rfl)
theorem dX1_lead_61 : decode cX1_lead 61 = .ok (.aload_n 3, 1) := dk_45 (dk_at dksX1_lead_2 13 rfl rfl)
theorem dX1_lead_62 : decode cX1_lead 62 = .ok (.getfield 350, 3) := dk_180 1 94 (dk_at dksX1_lead_2 14 rfl rfl)
theorem dX1_lead_65 : decode cX1_lead 65 = .ok (.invokevirtual 378, 3) := dk_182 1 122 (dk_at dksX1_lead_2 17 rfl rfl)
theorem dX1_lead_68 : decode cX1_lead 68 = .ok (.goto 83, 3) := dk_167 0 83 (dk_at dksX1_lead_2 20 rfl rfl)
theorem dX1_lead_71 : decode cX1_lead 71 = .ok (.aload_n 0, 1) := dk_42 (dk_at dksX1_lead_2 23 rfl rfl)
theorem dX1_lead_72 : decode cX1_lead 72 = .ok (.aload_n 1, 1) := dk_43 (dk_at dksX1_lead_3 0 rfl rfl)
theorem dX1_lead_73 : decode cX1_lead 73 = .ok (.aload_n 0, 1) := dk_42 (dk_at dksX1_lead_3 1 rfl rfl)
theorem dX1_lead_74 : decode cX1_lead 74 = .ok (.getfield 47, 3) := dk_180 0 47 (dk_at dksX1_lead_3 2 rfl rfl)
theorem dX1_lead_77 : decode cX1_lead 77 = .ok (.aload_n 3, 1) := dk_45 (dk_at dksX1_lead_3 5 rfl rfl)
theorem dX1_lead_78 : decode cX1_lead 78 = .ok (.getfield 347, 3) := dk_180 1 91 (dk_at dksX1_lead_3 6 rfl rfl)
theorem dX1_lead_81 : decode cX1_lead 81 = .ok (.iaload, 1) := dk_46 (dk_at dksX1_lead_3 9 rfl rfl)
theorem dX1_lead_82 : decode cX1_lead 82 = .ok (.aload 4, 2) := dk_25 4 (dk_at dksX1_lead_3 10 rfl rfl)
theorem dX1_lead_84 : decode cX1_lead 84 = .ok (.aload_n 3, 1) := dk_45 (dk_at dksX1_lead_3 12 rfl rfl)
theorem dX1_lead_85 : decode cX1_lead 85 = .ok (.getfield 341, 3) := dk_180 1 85 (dk_at dksX1_lead_3 13 rfl rfl)
theorem dX1_lead_88 : decode cX1_lead 88 = .ok (.iaload, 1) := dk_46 (dk_at dksX1_lead_3 16 rfl rfl)
theorem dX1_lead_89 : decode cX1_lead 89 = .ok (.aload_n 3, 1) := dk_45 (dk_at dksX1_lead_3 17 rfl rfl)
theorem dX1_lead_90 : decode cX1_lead 90 = .ok (.getfield 350, 3) := dk_180 1 94 (dk_at dksX1_lead_3 18 rfl rfl)
theorem dX1_lead_93 : decode cX1_lead 93 = .ok (.invokevirtual 378, 3) := dk_182 1 122 (dk_at dksX1_lead_3 21 rfl rfl)
theorem dX1_lead_96 : decode cX1_lead 96 = .ok (.goto 55, 3) := dk_167 0 55 (dk_at dksX1_lead_4 0 rfl rfl)
theorem dX1_lead_99 : decode cX1_lead 99 = .ok (.aload_n 0, 1) := dk_42 (dk_at dksX1_lead_4 3 rfl rfl)
theorem dX1_lead_100 : decode cX1_lead 100 = .ok (.getfield 47, 3) := dk_180 0 47 (dk_at dksX1_lead_4 4 rfl rfl)
theorem dX1_lead_103 : decode cX1_lead 103 = .ok (.aload_n 3, 1) := dk_45 (dk_at dksX1_lead_4 7 rfl rfl)
theorem dX1_lead_104 : decode cX1_lead 104 = .ok (.getfield 347, 3) := dk_180 1 91 (dk_at dksX1_lead_4 8 rfl rfl)
theorem dX1_lead_107 : decode cX1_lead 107 = .ok (.aload_n 3, 1) := dk_45 (dk_at dksX1_lead_4 11 rfl rfl)
theorem dX1_lead_108 : decode cX1_lead 108 = .ok (.getfield 341, 3) := dk_180 1 85 (dk_at dksX1_lead_4 12 rfl rfl)
theorem dX1_lead_111 : decode cX1_lead 111 = .ok (.iastore, 1) := dk_79 (dk_at dksX1_lead_4 15 rfl rfl)
theorem dX1_lead_112 : decode cX1_lead 112 = .ok (.goto 39, 3) := dk_167 0 39 (dk_at dksX1_lead_4 16 rfl rfl)
theorem dX1_lead_115 : decode cX1_lead 115 = .ok (.aload_n 0, 1) := dk_42 (dk_at dksX1_lead_4 19 rfl rfl)
theorem dX1_lead_116 : decode cX1_lead 116 = .ok (.aload_n 1, 1) := dk_43 (dk_at dksX1_lead_4 20 rfl rfl)
theorem dX1_lead_117 : decode cX1_lead 117 = .ok (.aload 4, 2) := dk_25 4 (dk_at dksX1_lead_4 21 rfl rfl)
theorem dX1_lead_119 : decode cX1_lead 119 = .ok (.aload_n 3, 1) := dk_45 (dk_at dksX1_lead_4 23 rfl rfl)
theorem dX1_lead_120 : decode cX1_lead 120 = .ok (.getfield 347, 3) := dk_180 1 91 (dk_at dksX1_lead_5 0 rfl rfl)
theorem dX1_lead_123 : decode cX1_lead 123 = .ok (.iaload, 1) := dk_46 (dk_at dksX1_lead_5 3 rfl rfl)
theorem dX1_lead_124 : decode cX1_lead 124 = .ok (.invokevirtual 382, 3) := dk_182 1 126 (dk_at dksX1_lead_5 4 rfl rfl)
theorem dX1_lead_127 : decode cX1_lead 127 = .ok (.goto 24, 3) := dk_167 0 24 (dk_at dksX1_lead_5 7 rfl rfl)
theorem dX1_lead_130 : decode cX1_lead 130 = .ok (.aload_n 0, 1) := dk_42 (dk_at dksX1_lead_5 10 rfl rfl)
theorem dX1_lead_131 : decode cX1_lead 131 = .ok (.aload_n 2, 1) := dk_44 (dk_at dksX1_lead_5 11 rfl rfl)
theorem dX1_lead_132 : decode cX1_lead 132 = .ok (.aload 4, 2) := dk_25 4 (dk_at dksX1_lead_5 12 rfl rfl)
theorem dX1_lead_134 : decode cX1_lead 134 = .ok (.aload_n 3, 1) := dk_45 (dk_at dksX1_lead_5 14 rfl rfl)
theorem dX1_lead_135 : decode cX1_lead 135 = .ok (.getfield 347, 3) := dk_180 1 91 (dk_at dksX1_lead_5 15 rfl rfl)
theorem dX1_lead_138 : decode cX1_lead 138 = .ok (.iaload, 1) := dk_46 (dk_at dksX1_lead_5 18 rfl rfl)
theorem dX1_lead_139 : decode cX1_lead 139 = .ok (.invokevirtual 386, 3) := dk_182 1 130 (dk_at dksX1_lead_5 19 rfl rfl)
theorem dX1_lead_142 : decode cX1_lead 142 = .ok (.goto 9, 3) := dk_167 0 9 (dk_at dksX1_lead_6 0 rfl rfl)
theorem dX1_lead_145 : decode cX1_lead 145 = .ok (.aload_n 1, 1) := dk_43 (dk_at dksX1_lead_6 3 rfl rfl)
theorem dX1_lead_146 : decode cX1_lead 146 = .ok (.bipush 119, 2) := dk_16 119 (dk_at dksX1_lead_6 4 rfl rfl)
theorem dX1_lead_148 : decode cX1_lead 148 = .ok (.putfield 390, 3) := dk_181 1 134 (dk_at dksX1_lead_6 6 rfl rfl)
theorem dX1_lead_151 : decode cX1_lead 151 = .ok (.return_, 1) := dk_177 (dk_at dksX1_lead_6 9 rfl rfl)
abbrev cX1_call : ByteArray := prog_1_method_32_code
def yX1_call : MethodName := ⟨RX1, "call", "(LSwapWhile$Strand;III)V"⟩
def dkwX1_call_2 : List UInt8 := [177]
abbrev dktX1_call_2 : List UInt8 := dkwX1_call_2 ++ []
def dkwX1_call_1 : List UInt8 := [180, 0, 198, 187, 0, 181, 89, 42, 180, 0, 158, 28, 29, 21, 4, 183, 1, 57, 185, 0, 54, 2, 0, 87]
abbrev dktX1_call_1 : List UInt8 := dkwX1_call_1 ++ dktX1_call_2
def dkwX1_call_0 : List UInt8 := [43, 180, 0, 198, 185, 0, 71, 1, 0, 16, 8, 160, 0, 12, 43, 16, 102, 182, 1, 54, 167, 0, 28, 43]
abbrev dktX1_call_0 : List UInt8 := dkwX1_call_0 ++ dktX1_call_1
theorem dksX1_call_0 : cX1_call.data.toList.drop 0 = dktX1_call_0 := by decide +kernel
theorem dksX1_call_1 : cX1_call.data.toList.drop 24 = dktX1_call_1 := dk_seg dksX1_call_0 24 rfl rfl
theorem dksX1_call_2 : cX1_call.data.toList.drop 48 = dktX1_call_2 := dk_seg dksX1_call_1 24 rfl rfl
theorem dX1_call_0 : decode cX1_call 0 = .ok (.aload_n 1, 1) := dk_43 (dk_at dksX1_call_0 0 rfl rfl)
theorem dX1_call_1 : decode cX1_call 1 = .ok (.getfield 198, 3) := dk_180 0 198 (dk_at dksX1_call_0 1 rfl rfl)
theorem dX1_call_4 : decode cX1_call 4 = .ok (.invokeinterface 71 1, 5) := by decide +kernel
theorem dX1_call_9 : decode cX1_call 9 = .ok (.bipush 8, 2) := dk_16 8 (dk_at dksX1_call_0 9 rfl rfl)
theorem dX1_call_11 : decode cX1_call 11 = .ok (.if_icmp .ne 12, 3) := dk_160 0 12 (dk_at dksX1_call_0 11 rfl rfl)
theorem dX1_call_14 : decode cX1_call 14 = .ok (.aload_n 1, 1) := dk_43 (dk_at dksX1_call_0 14 rfl rfl)
theorem dX1_call_15 : decode cX1_call 15 = .ok (.bipush 102, 2) := dk_16 102 (dk_at dksX1_call_0 15 rfl rfl)
theorem dX1_call_17 : decode cX1_call 17 = .ok (.invokevirtual 310, 3) := dk_182 1 54 (dk_at dksX1_call_0 17 rfl rfl)
theorem dX1_call_20 : decode cX1_call 20 = .ok (.goto 28, 3) := dk_167 0 28 (dk_at dksX1_call_0 20 rfl rfl)
theorem dX1_call_23 : decode cX1_call 23 = .ok (.aload_n 1, 1) := dk_43 (dk_at dksX1_call_0 23 rfl rfl)
theorem dX1_call_24 : decode cX1_call 24 = .ok (.getfield 198, 3) := dk_180 0 198 (dk_at dksX1_call_1 0 rfl rfl)
theorem dX1_call_27 : decode cX1_call 27 = .ok (.new 181, 3) := dk_187 0 181 (dk_at dksX1_call_1 3 rfl rfl)
theorem dX1_call_30 : decode cX1_call 30 = .ok (.dup, 1) := dk_89 (dk_at dksX1_call_1 6 rfl rfl)
theorem dX1_call_31 : decode cX1_call 31 = .ok (.aload_n 0, 1) := dk_42 (dk_at dksX1_call_1 7 rfl rfl)
theorem dX1_call_32 : decode cX1_call 32 = .ok (.getfield 158, 3) := dk_180 0 158 (dk_at dksX1_call_1 8 rfl rfl)
theorem dX1_call_35 : decode cX1_call 35 = .ok (.iload_n 2, 1) := dk_28 (dk_at dksX1_call_1 11 rfl rfl)
theorem dX1_call_36 : decode cX1_call 36 = .ok (.iload_n 3, 1) := dk_29 (dk_at dksX1_call_1 12 rfl rfl)
theorem dX1_call_37 : decode cX1_call 37 = .ok (.iload 4, 2) := dk_21 4 (dk_at dksX1_call_1 13 rfl rfl)
theorem dX1_call_39 : decode cX1_call 39 = .ok (.invokespecial 313, 3) := dk_183 1 57 (dk_at dksX1_call_1 15 rfl rfl)
theorem dX1_call_42 : decode cX1_call 42 = .ok (.invokeinterface 54 2, 5) := by decide +kernel
theorem dX1_call_47 : decode cX1_call 47 = .ok (.pop, 1) := dk_87 (dk_at dksX1_call_1 23 rfl rfl)
theorem dX1_call_48 : decode cX1_call 48 = .ok (.return_, 1) := dk_177 (dk_at dksX1_call_2 0 rfl rfl)
abbrev cX1_putOut : ByteArray := prog_1_method_34_code
def yX1_putOut : MethodName := ⟨RX1, "putOut", "(LSwapWhile$Frame;I)V"⟩
def dkwX1_putOut_2 : List UInt8 := [158, 0, 15, 42, 16, 111, 4, 3, 16, 50, 3, 182, 1, 81, 78, 177]
abbrev dktX1_putOut_2 : List UInt8 := dkwX1_putOut_2 ++ []
def dkwX1_putOut_1 : List UInt8 := [42, 180, 1, 75, 153, 0, 35, 28, 42, 180, 1, 78, 164, 0, 27, 42, 3, 181, 1, 75, 42, 180, 0, 158]
abbrev dktX1_putOut_1 : List UInt8 := dkwX1_putOut_1 ++ dktX1_putOut_2
def dkwX1_putOut_0 : List UInt8 := [42, 180, 0, 44, 5, 188, 10, 89, 3, 28, 79, 89, 4, 43, 182, 1, 63, 79, 185, 0, 54, 2, 0, 87]
abbrev dktX1_putOut_0 : List UInt8 := dkwX1_putOut_0 ++ dktX1_putOut_1
theorem dksX1_putOut_0 : cX1_putOut.data.toList.drop 0 = dktX1_putOut_0 := by decide +kernel
theorem dksX1_putOut_1 : cX1_putOut.data.toList.drop 24 = dktX1_putOut_1 := dk_seg dksX1_putOut_0 24 rfl rfl
theorem dksX1_putOut_2 : cX1_putOut.data.toList.drop 48 = dktX1_putOut_2 := dk_seg dksX1_putOut_1 24 rfl rfl
theorem dX1_putOut_0 : decode cX1_putOut 0 = .ok (.aload_n 0, 1) := dk_42 (dk_at dksX1_putOut_0 0 rfl rfl)
theorem dX1_putOut_1 : decode cX1_putOut 1 = .ok (.getfield 44, 3) := dk_180 0 44 (dk_at dksX1_putOut_0 1 rfl rfl)
theorem dX1_putOut_4 : decode cX1_putOut 4 = .ok (.iconst 2, 1) := dk_5 (dk_at dksX1_putOut_0 4 rfl rfl)
theorem dX1_putOut_5 : decode cX1_putOut 5 = .ok (.newarray .int, 2) := dk_188_10 (dk_at dksX1_putOut_0 5 rfl rfl)
theorem dX1_putOut_7 : decode cX1_putOut 7 = .ok (.dup, 1) := dk_89 (dk_at dksX1_putOut_0 7 rfl rfl)
theorem dX1_putOut_8 : decode cX1_putOut 8 = .ok (.iconst 0, 1) := dk_3 (dk_at dksX1_putOut_0 8 rfl rfl)
theorem dX1_putOut_9 : decode cX1_putOut 9 = .ok (.iload_n 2, 1) := dk_28 (dk_at dksX1_putOut_0 9 rfl rfl)
theorem dX1_putOut_10 : decode cX1_putOut 10 = .ok (.iastore, 1) := dk_79 (dk_at dksX1_putOut_0 10 rfl rfl)
theorem dX1_putOut_11 : decode cX1_putOut 11 = .ok (.dup, 1) := dk_89 (dk_at dksX1_putOut_0 11 rfl rfl)
theorem dX1_putOut_12 : decode cX1_putOut 12 = .ok (.iconst 1, 1) := dk_4 (dk_at dksX1_putOut_0 12 rfl rfl)
theorem dX1_putOut_13 : decode cX1_putOut 13 = .ok (.aload_n 1, 1) := dk_43 (dk_at dksX1_putOut_0 13 rfl rfl)
theorem dX1_putOut_14 : decode cX1_putOut 14 = .ok (.invokevirtual 319, 3) := dk_182 1 63 (dk_at dksX1_putOut_0 14 rfl rfl)
theorem dX1_putOut_17 : decode cX1_putOut 17 = .ok (.iastore, 1) := dk_79 (dk_at dksX1_putOut_0 17 rfl rfl)
theorem dX1_putOut_18 : decode cX1_putOut 18 = .ok (.invokeinterface 54 2, 5) := by decide +kernel
theorem dX1_putOut_23 : decode cX1_putOut 23 = .ok (.pop, 1) := dk_87 (dk_at dksX1_putOut_0 23 rfl rfl)
theorem dX1_putOut_24 : decode cX1_putOut 24 = .ok (.aload_n 0, 1) := dk_42 (dk_at dksX1_putOut_1 0 rfl rfl)
theorem dX1_putOut_25 : decode cX1_putOut 25 = .ok (.getfield 331, 3) := dk_180 1 75 (dk_at dksX1_putOut_1 1 rfl rfl)
theorem dX1_putOut_28 : decode cX1_putOut 28 = .ok (.ifCond .eq 35, 3) := dk_153 0 35 (dk_at dksX1_putOut_1 4 rfl rfl)
theorem dX1_putOut_31 : decode cX1_putOut 31 = .ok (.iload_n 2, 1) := dk_28 (dk_at dksX1_putOut_1 7 rfl rfl)
theorem dX1_putOut_32 : decode cX1_putOut 32 = .ok (.aload_n 0, 1) := dk_42 (dk_at dksX1_putOut_1 8 rfl rfl)
theorem dX1_putOut_33 : decode cX1_putOut 33 = .ok (.getfield 334, 3) := dk_180 1 78 (dk_at dksX1_putOut_1 9 rfl rfl)
theorem dX1_putOut_36 : decode cX1_putOut 36 = .ok (.if_icmp .le 27, 3) := dk_164 0 27 (dk_at dksX1_putOut_1 12 rfl rfl)
theorem dX1_putOut_39 : decode cX1_putOut 39 = .ok (.aload_n 0, 1) := dk_42 (dk_at dksX1_putOut_1 15 rfl rfl)
theorem dX1_putOut_40 : decode cX1_putOut 40 = .ok (.iconst 0, 1) := dk_3 (dk_at dksX1_putOut_1 16 rfl rfl)
theorem dX1_putOut_41 : decode cX1_putOut 41 = .ok (.putfield 331, 3) := dk_181 1 75 (dk_at dksX1_putOut_1 17 rfl rfl)
theorem dX1_putOut_44 : decode cX1_putOut 44 = .ok (.aload_n 0, 1) := dk_42 (dk_at dksX1_putOut_1 20 rfl rfl)
theorem dX1_putOut_45 : decode cX1_putOut 45 = .ok (.getfield 158, 3) := dk_180 0 158 (dk_at dksX1_putOut_1 21 rfl rfl)
theorem dX1_putOut_48 : decode cX1_putOut 48 = .ok (.ifCond .le 15, 3) := dk_158 0 15 (dk_at dksX1_putOut_2 0 rfl rfl)
theorem dX1_putOut_51 : decode cX1_putOut 51 = .ok (.aload_n 0, 1) := dk_42 (dk_at dksX1_putOut_2 3 rfl rfl)
theorem dX1_putOut_52 : decode cX1_putOut 52 = .ok (.bipush 111, 2) := dk_16 111 (dk_at dksX1_putOut_2 4 rfl rfl)
theorem dX1_putOut_54 : decode cX1_putOut 54 = .ok (.iconst 1, 1) := dk_4 (dk_at dksX1_putOut_2 6 rfl rfl)
theorem dX1_putOut_55 : decode cX1_putOut 55 = .ok (.iconst 0, 1) := dk_3 (dk_at dksX1_putOut_2 7 rfl rfl)
theorem dX1_putOut_56 : decode cX1_putOut 56 = .ok (.bipush 50, 2) := dk_16 50 (dk_at dksX1_putOut_2 8 rfl rfl)
theorem dX1_putOut_58 : decode cX1_putOut 58 = .ok (.iconst 0, 1) := dk_3 (dk_at dksX1_putOut_2 10 rfl rfl)
theorem dX1_putOut_59 : decode cX1_putOut 59 = .ok (.invokevirtual 337, 3) := dk_182 1 81 (dk_at dksX1_putOut_2 11 rfl rfl)
theorem dX1_putOut_62 : decode cX1_putOut 62 = .ok (.astore_n 3, 1) := dk_78 (dk_at dksX1_putOut_2 14 rfl rfl)
theorem dX1_putOut_63 : decode cX1_putOut 63 = .ok (.return_, 1) := dk_177 (dk_at dksX1_putOut_2 15 rfl rfl)
abbrev cX1_ask : ByteArray := prog_1_method_29_code
def yX1_ask : MethodName := ⟨RX1, "ask", "(CZZII)LSwapWhile$Change;"⟩
def dkwX1_ask_1 : List UInt8 := [25, 6, 185, 0, 54, 2, 0, 87, 42, 180, 0, 41, 21, 5, 25, 6, 185, 1, 44, 3, 0, 25, 6, 176]
abbrev dktX1_ask_1 : List UInt8 := dkwX1_ask_1 ++ []
def dkwX1_ask_0 : List UInt8 := [187, 0, 163, 89, 27, 28, 29, 42, 180, 1, 35, 21, 4, 133, 97, 183, 1, 41, 58, 6, 42, 180, 0, 38]
abbrev dktX1_ask_0 : List UInt8 := dkwX1_ask_0 ++ dktX1_ask_1
theorem dksX1_ask_0 : cX1_ask.data.toList.drop 0 = dktX1_ask_0 := by decide +kernel
theorem dksX1_ask_1 : cX1_ask.data.toList.drop 24 = dktX1_ask_1 := dk_seg dksX1_ask_0 24 rfl rfl
theorem dX1_ask_0 : decode cX1_ask 0 = .ok (.new 163, 3) := dk_187 0 163 (dk_at dksX1_ask_0 0 rfl rfl)
theorem dX1_ask_3 : decode cX1_ask 3 = .ok (.dup, 1) := dk_89 (dk_at dksX1_ask_0 3 rfl rfl)
theorem dX1_ask_4 : decode cX1_ask 4 = .ok (.iload_n 1, 1) := dk_27 (dk_at dksX1_ask_0 4 rfl rfl)
theorem dX1_ask_5 : decode cX1_ask 5 = .ok (.iload_n 2, 1) := dk_28 (dk_at dksX1_ask_0 5 rfl rfl)
theorem dX1_ask_6 : decode cX1_ask 6 = .ok (.iload_n 3, 1) := dk_29 (dk_at dksX1_ask_0 6 rfl rfl)
theorem dX1_ask_7 : decode cX1_ask 7 = .ok (.aload_n 0, 1) := dk_42 (dk_at dksX1_ask_0 7 rfl rfl)
theorem dX1_ask_8 : decode cX1_ask 8 = .ok (.getfield 291, 3) := dk_180 1 35 (dk_at dksX1_ask_0 8 rfl rfl)
theorem dX1_ask_11 : decode cX1_ask 11 = .ok (.iload 4, 2) := dk_21 4 (dk_at dksX1_ask_0 11 rfl rfl)
theorem dX1_ask_13 : decode cX1_ask 13 = .ok (.i2l, 1) := dk_133 (dk_at dksX1_ask_0 13 rfl rfl)
theorem dX1_ask_14 : decode cX1_ask 14 = .ok (.ladd, 1) := dk_97 (dk_at dksX1_ask_0 14 rfl rfl)
theorem dX1_ask_15 : decode cX1_ask 15 = .ok (.invokespecial 297, 3) := dk_183 1 41 (dk_at dksX1_ask_0 15 rfl rfl)
theorem dX1_ask_18 : decode cX1_ask 18 = .ok (.astore 6, 2) := dk_58 6 (dk_at dksX1_ask_0 18 rfl rfl)
theorem dX1_ask_20 : decode cX1_ask 20 = .ok (.aload_n 0, 1) := dk_42 (dk_at dksX1_ask_0 20 rfl rfl)
theorem dX1_ask_21 : decode cX1_ask 21 = .ok (.getfield 38, 3) := dk_180 0 38 (dk_at dksX1_ask_0 21 rfl rfl)
theorem dX1_ask_24 : decode cX1_ask 24 = .ok (.aload 6, 2) := dk_25 6 (dk_at dksX1_ask_1 0 rfl rfl)
theorem dX1_ask_26 : decode cX1_ask 26 = .ok (.invokeinterface 54 2, 5) := by decide +kernel
theorem dX1_ask_31 : decode cX1_ask 31 = .ok (.pop, 1) := dk_87 (dk_at dksX1_ask_1 7 rfl rfl)
theorem dX1_ask_32 : decode cX1_ask 32 = .ok (.aload_n 0, 1) := dk_42 (dk_at dksX1_ask_1 8 rfl rfl)
theorem dX1_ask_33 : decode cX1_ask 33 = .ok (.getfield 41, 3) := dk_180 0 41 (dk_at dksX1_ask_1 9 rfl rfl)
theorem dX1_ask_36 : decode cX1_ask 36 = .ok (.iload 5, 2) := dk_21 5 (dk_at dksX1_ask_1 12 rfl rfl)
theorem dX1_ask_38 : decode cX1_ask 38 = .ok (.aload 6, 2) := dk_25 6 (dk_at dksX1_ask_1 14 rfl rfl)
theorem dX1_ask_40 : decode cX1_ask 40 = .ok (.invokeinterface 300 3, 5) := by decide +kernel
theorem dX1_ask_45 : decode cX1_ask 45 = .ok (.aload 6, 2) := dk_25 6 (dk_at dksX1_ask_1 21 rfl rfl)
theorem dX1_ask_47 : decode cX1_ask 47 = .ok (.areturn, 1) := dk_176 (dk_at dksX1_ask_1 23 rfl rfl)
abbrev cX1_giveUp : ByteArray := prog_1_method_28_code
def yX1_giveUp : MethodName := ⟨RX1, "giveUp", "()V"⟩
def dkwX1_giveUp_3 : List UInt8 := [192, 0, 163, 78, 4, 60, 132, 2, 255, 167, 255, 191, 27, 153, 0, 7, 42, 182, 1, 38, 177]
abbrev dktX1_giveUp_3 : List UInt8 := dkwX1_giveUp_3 ++ []
def dkwX1_giveUp_2 : List UInt8 := [185, 0, 60, 2, 0, 192, 0, 163, 16, 100, 181, 1, 11, 42, 180, 0, 41, 28, 185, 1, 21, 2, 0]
abbrev dktX1_giveUp_2 : List UInt8 := dkwX1_giveUp_2 ++ dktX1_giveUp_3
def dkwX1_giveUp_1 : List UInt8 := [185, 0, 60, 2, 0, 192, 0, 163, 180, 1, 31, 42, 180, 1, 35, 148, 157, 0, 37, 42, 180, 0, 41, 28]
abbrev dktX1_giveUp_1 : List UInt8 := dkwX1_giveUp_1 ++ dktX1_giveUp_2
def dkwX1_giveUp_0 : List UInt8 := [3, 60, 42, 180, 0, 41, 185, 0, 71, 1, 0, 4, 100, 61, 28, 155, 0, 67, 42, 180, 0, 41, 28]
abbrev dktX1_giveUp_0 : List UInt8 := dkwX1_giveUp_0 ++ dktX1_giveUp_1
theorem dksX1_giveUp_0 : cX1_giveUp.data.toList.drop 0 = dktX1_giveUp_0 := by decide +kernel
theorem dksX1_giveUp_1 : cX1_giveUp.data.toList.drop 23 = dktX1_giveUp_1 := dk_seg dksX1_giveUp_0 23 rfl rfl
theorem dksX1_giveUp_2 : cX1_giveUp.data.toList.drop 47 = dktX1_giveUp_2 := dk_seg dksX1_giveUp_1 24 rfl rfl
theorem dksX1_giveUp_3 : cX1_giveUp.data.toList.drop 70 = dktX1_giveUp_3 := dk_seg dksX1_giveUp_2 23 rfl rfl
theorem dX1_giveUp_0 : decode cX1_giveUp 0 = .ok (.iconst 0, 1) := dk_3 (dk_at dksX1_giveUp_0 0 rfl rfl)
theorem dX1_giveUp_1 : decode cX1_giveUp 1 = .ok (.istore_n 1, 1) := dk_60 (dk_at dksX1_giveUp_0 1 rfl rfl)
theorem dX1_giveUp_2 : decode cX1_giveUp 2 = .ok (.aload_n 0, 1) := dk_42 (dk_at dksX1_giveUp_0 2 rfl rfl)
theorem dX1_giveUp_3 : decode cX1_giveUp 3 = .ok (.getfield 41, 3) := dk_180 0 41 (dk_at dksX1_giveUp_0 3 rfl rfl)
theorem dX1_giveUp_6 : decode cX1_giveUp 6 = .ok (.invokeinterface 71 1, 5) := by decide +kernel
theorem dX1_giveUp_11 : decode cX1_giveUp 11 = .ok (.iconst 1, 1) := dk_4 (dk_at dksX1_giveUp_0 11 rfl rfl)
theorem dX1_giveUp_12 : decode cX1_giveUp 12 = .ok (.isub, 1) := dk_100 (dk_at dksX1_giveUp_0 12 rfl rfl)
theorem dX1_giveUp_13 : decode cX1_giveUp 13 = .ok (.istore_n 2, 1) := dk_61 (dk_at dksX1_giveUp_0 13 rfl rfl)
theorem dX1_giveUp_14 : decode cX1_giveUp 14 = .ok (.iload_n 2, 1) := dk_28 (dk_at dksX1_giveUp_0 14 rfl rfl)
theorem dX1_giveUp_15 : decode cX1_giveUp 15 = .ok (.ifCond .lt 67, 3) := dk_155 0 67 (dk_at dksX1_giveUp_0 15 rfl rfl)
theorem dX1_giveUp_18 : decode cX1_giveUp 18 = .ok (.aload_n 0, 1) := dk_42 (dk_at dksX1_giveUp_0 18 rfl rfl)
theorem dX1_giveUp_19 : decode cX1_giveUp 19 = .ok (.getfield 41, 3) := dk_180 0 41 (dk_at dksX1_giveUp_0 19 rfl rfl)
theorem dX1_giveUp_22 : decode cX1_giveUp 22 = .ok (.iload_n 2, 1) := dk_28 (dk_at dksX1_giveUp_0 22 rfl rfl)
theorem dX1_giveUp_23 : decode cX1_giveUp 23 = .ok (.invokeinterface 60 2, 5) := by decide +kernel
theorem dX1_giveUp_28 : decode cX1_giveUp 28 = .ok (.checkcast 163, 3) := dk_192 0 163 (dk_at dksX1_giveUp_1 5 rfl rfl)
theorem dX1_giveUp_31 : decode cX1_giveUp 31 = .ok (.getfield 287, 3) := dk_180 1 31 (dk_at dksX1_giveUp_1 8 rfl rfl)
theorem dX1_giveUp_34 : decode cX1_giveUp 34 = .ok (.aload_n 0, 1) := dk_42 (dk_at dksX1_giveUp_1 11 rfl rfl)
theorem dX1_giveUp_35 : decode cX1_giveUp 35 = .ok (.getfield 291, 3) := dk_180 1 35 (dk_at dksX1_giveUp_1 12 rfl rfl)
theorem dX1_giveUp_38 : decode cX1_giveUp 38 = .ok (.lcmp, 1) := dk_148 (dk_at dksX1_giveUp_1 15 rfl rfl)
theorem dX1_giveUp_39 : decode cX1_giveUp 39 = .ok (.ifCond .gt 37, 3) := dk_157 0 37 (dk_at dksX1_giveUp_1 16 rfl rfl)
theorem dX1_giveUp_42 : decode cX1_giveUp 42 = .ok (.aload_n 0, 1) := dk_42 (dk_at dksX1_giveUp_1 19 rfl rfl)
theorem dX1_giveUp_43 : decode cX1_giveUp 43 = .ok (.getfield 41, 3) := dk_180 0 41 (dk_at dksX1_giveUp_1 20 rfl rfl)
theorem dX1_giveUp_46 : decode cX1_giveUp 46 = .ok (.iload_n 2, 1) := dk_28 (dk_at dksX1_giveUp_1 23 rfl rfl)
theorem dX1_giveUp_47 : decode cX1_giveUp 47 = .ok (.invokeinterface 60 2, 5) := by decide +kernel
theorem dX1_giveUp_52 : decode cX1_giveUp 52 = .ok (.checkcast 163, 3) := dk_192 0 163 (dk_at dksX1_giveUp_2 5 rfl rfl)
theorem dX1_giveUp_55 : decode cX1_giveUp 55 = .ok (.bipush 100, 2) := dk_16 100 (dk_at dksX1_giveUp_2 8 rfl rfl)
theorem dX1_giveUp_57 : decode cX1_giveUp 57 = .ok (.putfield 267, 3) := dk_181 1 11 (dk_at dksX1_giveUp_2 10 rfl rfl)
theorem dX1_giveUp_60 : decode cX1_giveUp 60 = .ok (.aload_n 0, 1) := dk_42 (dk_at dksX1_giveUp_2 13 rfl rfl)
theorem dX1_giveUp_61 : decode cX1_giveUp 61 = .ok (.getfield 41, 3) := dk_180 0 41 (dk_at dksX1_giveUp_2 14 rfl rfl)
theorem dX1_giveUp_64 : decode cX1_giveUp 64 = .ok (.iload_n 2, 1) := dk_28 (dk_at dksX1_giveUp_2 17 rfl rfl)
theorem dX1_giveUp_65 : decode cX1_giveUp 65 = .ok (.invokeinterface 277 2, 5) := by decide +kernel
theorem dX1_giveUp_70 : decode cX1_giveUp 70 = .ok (.checkcast 163, 3) := dk_192 0 163 (dk_at dksX1_giveUp_3 0 rfl rfl)
theorem dX1_giveUp_73 : decode cX1_giveUp 73 = .ok (.astore_n 3, 1) := dk_78 (dk_at dksX1_giveUp_3 3 rfl rfl)
theorem dX1_giveUp_74 : decode cX1_giveUp 74 = .ok (.iconst 1, 1) := dk_4 (dk_at dksX1_giveUp_3 4 rfl rfl)
theorem dX1_giveUp_75 : decode cX1_giveUp 75 = .ok (.istore_n 1, 1) := dk_60 (dk_at dksX1_giveUp_3 5 rfl rfl)
theorem dX1_giveUp_76 : decode cX1_giveUp 76 = .ok (.iinc 2 (-1), 3) := dk_132 2 255 (dk_at dksX1_giveUp_3 6 rfl rfl)
theorem dX1_giveUp_79 : decode cX1_giveUp 79 = .ok (.goto (-65), 3) := dk_167 255 191 (dk_at dksX1_giveUp_3 9 rfl rfl)
theorem dX1_giveUp_82 : decode cX1_giveUp 82 = .ok (.iload_n 1, 1) := dk_27 (dk_at dksX1_giveUp_3 12 rfl rfl)
theorem dX1_giveUp_83 : decode cX1_giveUp 83 = .ok (.ifCond .eq 7, 3) := dk_153 0 7 (dk_at dksX1_giveUp_3 13 rfl rfl)
theorem dX1_giveUp_86 : decode cX1_giveUp 86 = .ok (.aload_n 0, 1) := dk_42 (dk_at dksX1_giveUp_3 16 rfl rfl)
theorem dX1_giveUp_87 : decode cX1_giveUp 87 = .ok (.invokevirtual 294, 3) := dk_182 1 38 (dk_at dksX1_giveUp_3 17 rfl rfl)
theorem dX1_giveUp_90 : decode cX1_giveUp 90 = .ok (.return_, 1) := dk_177 (dk_at dksX1_giveUp_3 20 rfl rfl)
abbrev cX1_release : ByteArray := prog_1_method_41_code
def yX1_release : MethodName := ⟨RX1, "release", "(I)I"⟩
def dkwX1_release_1 : List UInt8 := [16, 114, 181, 1, 134, 42, 182, 1, 38, 44, 180, 0, 198, 185, 0, 71, 1, 0, 172]
abbrev dktX1_release_1 : List UInt8 := dkwX1_release_1 ++ []
def dkwX1_release_0 : List UInt8 := [42, 27, 182, 1, 47, 77, 44, 180, 1, 134, 16, 119, 160, 0, 7, 4, 167, 0, 4, 3, 184, 0, 99, 44]
abbrev dktX1_release_0 : List UInt8 := dkwX1_release_0 ++ dktX1_release_1
theorem dksX1_release_0 : cX1_release.data.toList.drop 0 = dktX1_release_0 := by decide +kernel
theorem dksX1_release_1 : cX1_release.data.toList.drop 24 = dktX1_release_1 := dk_seg dksX1_release_0 24 rfl rfl
theorem dX1_release_0 : decode cX1_release 0 = .ok (.aload_n 0, 1) := dk_42 (dk_at dksX1_release_0 0 rfl rfl)
theorem dX1_release_1 : decode cX1_release 1 = .ok (.iload_n 1, 1) := dk_27 (dk_at dksX1_release_0 1 rfl rfl)
theorem dX1_release_2 : decode cX1_release 2 = .ok (.invokevirtual 303, 3) := dk_182 1 47 (dk_at dksX1_release_0 2 rfl rfl)
theorem dX1_release_5 : decode cX1_release 5 = .ok (.astore_n 2, 1) := dk_77 (dk_at dksX1_release_0 5 rfl rfl)
theorem dX1_release_6 : decode cX1_release 6 = .ok (.aload_n 2, 1) := dk_44 (dk_at dksX1_release_0 6 rfl rfl)
theorem dX1_release_7 : decode cX1_release 7 = .ok (.getfield 390, 3) := dk_180 1 134 (dk_at dksX1_release_0 7 rfl rfl)
theorem dX1_release_10 : decode cX1_release 10 = .ok (.bipush 119, 2) := dk_16 119 (dk_at dksX1_release_0 10 rfl rfl)
theorem dX1_release_12 : decode cX1_release 12 = .ok (.if_icmp .ne 7, 3) := dk_160 0 7 (dk_at dksX1_release_0 12 rfl rfl)
theorem dX1_release_15 : decode cX1_release 15 = .ok (.iconst 1, 1) := dk_4 (dk_at dksX1_release_0 15 rfl rfl)
theorem dX1_release_16 : decode cX1_release 16 = .ok (.goto 4, 3) := dk_167 0 4 (dk_at dksX1_release_0 16 rfl rfl)
theorem dX1_release_19 : decode cX1_release 19 = .ok (.iconst 0, 1) := dk_3 (dk_at dksX1_release_0 19 rfl rfl)
theorem dX1_release_20 : decode cX1_release 20 = .ok (.invokestatic 99, 3) := dk_184 0 99 (dk_at dksX1_release_0 20 rfl rfl)
theorem dX1_release_23 : decode cX1_release 23 = .ok (.aload_n 2, 1) := dk_44 (dk_at dksX1_release_0 23 rfl rfl)
theorem dX1_release_24 : decode cX1_release 24 = .ok (.bipush 114, 2) := dk_16 114 (dk_at dksX1_release_1 0 rfl rfl)
theorem dX1_release_26 : decode cX1_release 26 = .ok (.putfield 390, 3) := dk_181 1 134 (dk_at dksX1_release_1 2 rfl rfl)
theorem dX1_release_29 : decode cX1_release 29 = .ok (.aload_n 0, 1) := dk_42 (dk_at dksX1_release_1 5 rfl rfl)
theorem dX1_release_30 : decode cX1_release 30 = .ok (.invokevirtual 294, 3) := dk_182 1 38 (dk_at dksX1_release_1 6 rfl rfl)
theorem dX1_release_33 : decode cX1_release 33 = .ok (.aload_n 2, 1) := dk_44 (dk_at dksX1_release_1 9 rfl rfl)
theorem dX1_release_34 : decode cX1_release 34 = .ok (.getfield 198, 3) := dk_180 0 198 (dk_at dksX1_release_1 10 rfl rfl)
theorem dX1_release_37 : decode cX1_release 37 = .ok (.invokeinterface 71 1, 5) := by decide +kernel
theorem dX1_release_42 : decode cX1_release 42 = .ok (.ireturn, 1) := dk_172 (dk_at dksX1_release_1 18 rfl rfl)
abbrev cX1_state : ByteArray := prog_1_method_42_code
def yX1_state : MethodName := ⟨RX1, "state", "(I)C"⟩
def dkwX1_state_0 : List UInt8 := [42, 27, 182, 1, 47, 180, 1, 134, 172]
abbrev dktX1_state_0 : List UInt8 := dkwX1_state_0 ++ []
theorem dksX1_state_0 : cX1_state.data.toList.drop 0 = dktX1_state_0 := by decide +kernel
theorem dX1_state_0 : decode cX1_state 0 = .ok (.aload_n 0, 1) := dk_42 (dk_at dksX1_state_0 0 rfl rfl)
theorem dX1_state_1 : decode cX1_state 1 = .ok (.iload_n 1, 1) := dk_27 (dk_at dksX1_state_0 1 rfl rfl)
theorem dX1_state_2 : decode cX1_state 2 = .ok (.invokevirtual 303, 3) := dk_182 1 47 (dk_at dksX1_state_0 2 rfl rfl)
theorem dX1_state_5 : decode cX1_state 5 = .ok (.getfield 390, 3) := dk_180 1 134 (dk_at dksX1_state_0 5 rfl rfl)
theorem dX1_state_8 : decode cX1_state 8 = .ok (.ireturn, 1) := dk_172 (dk_at dksX1_state_0 8 rfl rfl)
abbrev cX1_frames : ByteArray := prog_1_method_43_code
def yX1_frames : MethodName := ⟨RX1, "frames", "(I)I"⟩
def dkwX1_frames_0 : List UInt8 := [42, 27, 182, 1, 47, 180, 0, 198, 185, 0, 71, 1, 0, 172]
abbrev dktX1_frames_0 : List UInt8 := dkwX1_frames_0 ++ []
theorem dksX1_frames_0 : cX1_frames.data.toList.drop 0 = dktX1_frames_0 := by decide +kernel
theorem dX1_frames_0 : decode cX1_frames 0 = .ok (.aload_n 0, 1) := dk_42 (dk_at dksX1_frames_0 0 rfl rfl)
theorem dX1_frames_1 : decode cX1_frames 1 = .ok (.iload_n 1, 1) := dk_27 (dk_at dksX1_frames_0 1 rfl rfl)
theorem dX1_frames_2 : decode cX1_frames 2 = .ok (.invokevirtual 303, 3) := dk_182 1 47 (dk_at dksX1_frames_0 2 rfl rfl)
theorem dX1_frames_5 : decode cX1_frames 5 = .ok (.getfield 198, 3) := dk_180 0 198 (dk_at dksX1_frames_0 5 rfl rfl)
theorem dX1_frames_8 : decode cX1_frames 8 = .ok (.invokeinterface 71 1, 5) := by decide +kernel
theorem dX1_frames_13 : decode cX1_frames 13 = .ok (.ireturn, 1) := dk_172 (dk_at dksX1_frames_0 13 rfl rfl)
abbrev cX1_at : ByteArray := prog_1_method_45_code
def yX1_at : MethodName := ⟨RX1, "at", "(II)I"⟩
def dkwX1_at_1 : List UInt8 := [180, 0, 189, 96, 172]
abbrev dktX1_at_1 : List UInt8 := dkwX1_at_1 ++ []
def dkwX1_at_0 : List UInt8 := [42, 27, 28, 182, 1, 145, 78, 17, 3, 232, 45, 182, 1, 63, 104, 16, 100, 45, 180, 0, 180, 104, 96, 45]
abbrev dktX1_at_0 : List UInt8 := dkwX1_at_0 ++ dktX1_at_1
theorem dksX1_at_0 : cX1_at.data.toList.drop 0 = dktX1_at_0 := by decide +kernel
theorem dksX1_at_1 : cX1_at.data.toList.drop 24 = dktX1_at_1 := dk_seg dksX1_at_0 24 rfl rfl
theorem dX1_at_0 : decode cX1_at 0 = .ok (.aload_n 0, 1) := dk_42 (dk_at dksX1_at_0 0 rfl rfl)
theorem dX1_at_1 : decode cX1_at 1 = .ok (.iload_n 1, 1) := dk_27 (dk_at dksX1_at_0 1 rfl rfl)
theorem dX1_at_2 : decode cX1_at 2 = .ok (.iload_n 2, 1) := dk_28 (dk_at dksX1_at_0 2 rfl rfl)
theorem dX1_at_3 : decode cX1_at 3 = .ok (.invokevirtual 401, 3) := dk_182 1 145 (dk_at dksX1_at_0 3 rfl rfl)
theorem dX1_at_6 : decode cX1_at 6 = .ok (.astore_n 3, 1) := dk_78 (dk_at dksX1_at_0 6 rfl rfl)
theorem dX1_at_7 : decode cX1_at 7 = .ok (.sipush 1000, 3) := dk_17 3 232 (dk_at dksX1_at_0 7 rfl rfl)
theorem dX1_at_10 : decode cX1_at 10 = .ok (.aload_n 3, 1) := dk_45 (dk_at dksX1_at_0 10 rfl rfl)
theorem dX1_at_11 : decode cX1_at 11 = .ok (.invokevirtual 319, 3) := dk_182 1 63 (dk_at dksX1_at_0 11 rfl rfl)
theorem dX1_at_14 : decode cX1_at 14 = .ok (.imul, 1) := dk_104 (dk_at dksX1_at_0 14 rfl rfl)
theorem dX1_at_15 : decode cX1_at 15 = .ok (.bipush 100, 2) := dk_16 100 (dk_at dksX1_at_0 15 rfl rfl)
theorem dX1_at_17 : decode cX1_at 17 = .ok (.aload_n 3, 1) := dk_45 (dk_at dksX1_at_0 17 rfl rfl)
theorem dX1_at_18 : decode cX1_at 18 = .ok (.getfield 180, 3) := dk_180 0 180 (dk_at dksX1_at_0 18 rfl rfl)
theorem dX1_at_21 : decode cX1_at 21 = .ok (.imul, 1) := dk_104 (dk_at dksX1_at_0 21 rfl rfl)
theorem dX1_at_22 : decode cX1_at 22 = .ok (.iadd, 1) := dk_96 (dk_at dksX1_at_0 22 rfl rfl)
theorem dX1_at_23 : decode cX1_at 23 = .ok (.aload_n 3, 1) := dk_45 (dk_at dksX1_at_0 23 rfl rfl)
theorem dX1_at_24 : decode cX1_at 24 = .ok (.getfield 189, 3) := dk_180 0 189 (dk_at dksX1_at_1 0 rfl rfl)
theorem dX1_at_27 : decode cX1_at 27 = .ok (.iadd, 1) := dk_96 (dk_at dksX1_at_1 3 rfl rfl)
theorem dX1_at_28 : decode cX1_at 28 = .ok (.ireturn, 1) := dk_172 (dk_at dksX1_at_1 4 rfl rfl)
abbrev cX1_frameAt : ByteArray := prog_1_method_44_code
def yX1_frameAt : MethodName := ⟨RX1, "frameAt", "(II)LSwapWhile$Frame;"⟩
def dkwX1_frameAt_1 : List UInt8 := [185, 0, 60, 2, 0, 192, 0, 181, 176]
abbrev dktX1_frameAt_1 : List UInt8 := dkwX1_frameAt_1 ++ []
def dkwX1_frameAt_0 : List UInt8 := [42, 27, 182, 1, 47, 78, 28, 45, 180, 0, 198, 185, 0, 71, 1, 0, 184, 0, 150, 45, 180, 0, 198, 28]
abbrev dktX1_frameAt_0 : List UInt8 := dkwX1_frameAt_0 ++ dktX1_frameAt_1
theorem dksX1_frameAt_0 : cX1_frameAt.data.toList.drop 0 = dktX1_frameAt_0 := by decide +kernel
theorem dksX1_frameAt_1 : cX1_frameAt.data.toList.drop 24 = dktX1_frameAt_1 := dk_seg dksX1_frameAt_0 24 rfl rfl
theorem dX1_frameAt_0 : decode cX1_frameAt 0 = .ok (.aload_n 0, 1) := dk_42 (dk_at dksX1_frameAt_0 0 rfl rfl)
theorem dX1_frameAt_1 : decode cX1_frameAt 1 = .ok (.iload_n 1, 1) := dk_27 (dk_at dksX1_frameAt_0 1 rfl rfl)
theorem dX1_frameAt_2 : decode cX1_frameAt 2 = .ok (.invokevirtual 303, 3) := dk_182 1 47 (dk_at dksX1_frameAt_0 2 rfl rfl)
theorem dX1_frameAt_5 : decode cX1_frameAt 5 = .ok (.astore_n 3, 1) := dk_78 (dk_at dksX1_frameAt_0 5 rfl rfl)
theorem dX1_frameAt_6 : decode cX1_frameAt 6 = .ok (.iload_n 2, 1) := dk_28 (dk_at dksX1_frameAt_0 6 rfl rfl)
theorem dX1_frameAt_7 : decode cX1_frameAt 7 = .ok (.aload_n 3, 1) := dk_45 (dk_at dksX1_frameAt_0 7 rfl rfl)
theorem dX1_frameAt_8 : decode cX1_frameAt 8 = .ok (.getfield 198, 3) := dk_180 0 198 (dk_at dksX1_frameAt_0 8 rfl rfl)
theorem dX1_frameAt_11 : decode cX1_frameAt 11 = .ok (.invokeinterface 71 1, 5) := by decide +kernel
theorem dX1_frameAt_16 : decode cX1_frameAt 16 = .ok (.invokestatic 150, 3) := dk_184 0 150 (dk_at dksX1_frameAt_0 16 rfl rfl)
theorem dX1_frameAt_19 : decode cX1_frameAt 19 = .ok (.aload_n 3, 1) := dk_45 (dk_at dksX1_frameAt_0 19 rfl rfl)
theorem dX1_frameAt_20 : decode cX1_frameAt 20 = .ok (.getfield 198, 3) := dk_180 0 198 (dk_at dksX1_frameAt_0 20 rfl rfl)
theorem dX1_frameAt_23 : decode cX1_frameAt 23 = .ok (.iload_n 2, 1) := dk_28 (dk_at dksX1_frameAt_0 23 rfl rfl)
theorem dX1_frameAt_24 : decode cX1_frameAt 24 = .ok (.invokeinterface 60 2, 5) := by decide +kernel
theorem dX1_frameAt_29 : decode cX1_frameAt 29 = .ok (.checkcast 181, 3) := dk_192 0 181 (dk_at dksX1_frameAt_1 5 rfl rfl)
theorem dX1_frameAt_32 : decode cX1_frameAt 32 = .ok (.areturn, 1) := dk_176 (dk_at dksX1_frameAt_1 8 rfl rfl)
abbrev cX1_local : ByteArray := prog_1_method_46_code
def yX1_local : MethodName := ⟨RX1, "local", "(III)I"⟩
def dkwX1_local_2 : List UInt8 := [180, 1, 69, 29, 46, 172]
abbrev dktX1_local_2 : List UInt8 := dkwX1_local_2 ++ []
def dkwX1_local_1 : List UInt8 := [185, 0, 71, 1, 0, 184, 0, 150, 25, 4, 180, 0, 198, 28, 185, 0, 60, 2, 0, 192, 0, 181]
abbrev dktX1_local_1 : List UInt8 := dkwX1_local_1 ++ dktX1_local_2
def dkwX1_local_0 : List UInt8 := [42, 27, 182, 1, 47, 58, 4, 29, 3, 6, 184, 0, 75, 184, 0, 79, 28, 25, 4, 180, 0, 198]
abbrev dktX1_local_0 : List UInt8 := dkwX1_local_0 ++ dktX1_local_1
theorem dksX1_local_0 : cX1_local.data.toList.drop 0 = dktX1_local_0 := by decide +kernel
theorem dksX1_local_1 : cX1_local.data.toList.drop 22 = dktX1_local_1 := dk_seg dksX1_local_0 22 rfl rfl
theorem dksX1_local_2 : cX1_local.data.toList.drop 44 = dktX1_local_2 := dk_seg dksX1_local_1 22 rfl rfl
theorem dX1_local_0 : decode cX1_local 0 = .ok (.aload_n 0, 1) := dk_42 (dk_at dksX1_local_0 0 rfl rfl)
theorem dX1_local_1 : decode cX1_local 1 = .ok (.iload_n 1, 1) := dk_27 (dk_at dksX1_local_0 1 rfl rfl)
theorem dX1_local_2 : decode cX1_local 2 = .ok (.invokevirtual 303, 3) := dk_182 1 47 (dk_at dksX1_local_0 2 rfl rfl)
theorem dX1_local_5 : decode cX1_local 5 = .ok (.astore 4, 2) := dk_58 4 (dk_at dksX1_local_0 5 rfl rfl)
theorem dX1_local_7 : decode cX1_local 7 = .ok (.iload_n 3, 1) := dk_29 (dk_at dksX1_local_0 7 rfl rfl)
theorem dX1_local_8 : decode cX1_local 8 = .ok (.iconst 0, 1) := dk_3 (dk_at dksX1_local_0 8 rfl rfl)
theorem dX1_local_9 : decode cX1_local 9 = .ok (.iconst 3, 1) := dk_6 (dk_at dksX1_local_0 9 rfl rfl)
theorem dX1_local_10 : decode cX1_local 10 = .ok (.invokestatic 75, 3) := dk_184 0 75 (dk_at dksX1_local_0 10 rfl rfl)
theorem dX1_local_13 : decode cX1_local 13 = .ok (.invokestatic 79, 3) := dk_184 0 79 (dk_at dksX1_local_0 13 rfl rfl)
theorem dX1_local_16 : decode cX1_local 16 = .ok (.iload_n 2, 1) := dk_28 (dk_at dksX1_local_0 16 rfl rfl)
theorem dX1_local_17 : decode cX1_local 17 = .ok (.aload 4, 2) := dk_25 4 (dk_at dksX1_local_0 17 rfl rfl)
theorem dX1_local_19 : decode cX1_local 19 = .ok (.getfield 198, 3) := dk_180 0 198 (dk_at dksX1_local_0 19 rfl rfl)
theorem dX1_local_22 : decode cX1_local 22 = .ok (.invokeinterface 71 1, 5) := by decide +kernel
theorem dX1_local_27 : decode cX1_local 27 = .ok (.invokestatic 150, 3) := dk_184 0 150 (dk_at dksX1_local_1 5 rfl rfl)
theorem dX1_local_30 : decode cX1_local 30 = .ok (.aload 4, 2) := dk_25 4 (dk_at dksX1_local_1 8 rfl rfl)
theorem dX1_local_32 : decode cX1_local 32 = .ok (.getfield 198, 3) := dk_180 0 198 (dk_at dksX1_local_1 10 rfl rfl)
theorem dX1_local_35 : decode cX1_local 35 = .ok (.iload_n 2, 1) := dk_28 (dk_at dksX1_local_1 13 rfl rfl)
theorem dX1_local_36 : decode cX1_local 36 = .ok (.invokeinterface 60 2, 5) := by decide +kernel
theorem dX1_local_41 : decode cX1_local 41 = .ok (.checkcast 181, 3) := dk_192 0 181 (dk_at dksX1_local_1 19 rfl rfl)
theorem dX1_local_44 : decode cX1_local 44 = .ok (.getfield 325, 3) := dk_180 1 69 (dk_at dksX1_local_2 0 rfl rfl)
theorem dX1_local_47 : decode cX1_local 47 = .ok (.iload_n 3, 1) := dk_29 (dk_at dksX1_local_2 3 rfl rfl)
theorem dX1_local_48 : decode cX1_local 48 = .ok (.iaload, 1) := dk_46 (dk_at dksX1_local_2 4 rfl rfl)
theorem dX1_local_49 : decode cX1_local 49 = .ok (.ireturn, 1) := dk_172 (dk_at dksX1_local_2 5 rfl rfl)
abbrev cX1_change : ByteArray := prog_1_method_47_code
def yX1_change : MethodName := ⟨RX1, "change", "(CZZI)I"⟩
def dkwX1_change_4 : List UInt8 := [185, 1, 149, 2, 0, 172]
abbrev dktX1_change_4 : List UInt8 := dkwX1_change_4 ++ []
def dkwX1_change_3 : List UInt8 := [185, 0, 71, 1, 0, 182, 1, 81, 58, 5, 42, 182, 1, 38, 42, 180, 0, 38, 25, 5]
abbrev dktX1_change_3 : List UInt8 := dkwX1_change_3 ++ dktX1_change_4
def dkwX1_change_2 : List UInt8 := [16, 30, 162, 0, 7, 4, 167, 0, 4, 3, 184, 0, 99, 42, 27, 28, 29, 21, 4, 42, 180, 0, 41]
abbrev dktX1_change_2 : List UInt8 := dkwX1_change_2 ++ dktX1_change_3
def dkwX1_change_1 : List UInt8 := [184, 0, 75, 153, 0, 7, 4, 167, 0, 4, 3, 184, 0, 79, 42, 180, 0, 38, 185, 0, 71, 1, 0]
abbrev dktX1_change_1 : List UInt8 := dkwX1_change_1 ++ dktX1_change_2
def dkwX1_change_0 : List UInt8 := [27, 16, 119, 159, 0, 15, 27, 16, 109, 159, 0, 9, 27, 16, 111, 160, 0, 19, 21, 4, 4, 17, 0, 200]
abbrev dktX1_change_0 : List UInt8 := dkwX1_change_0 ++ dktX1_change_1
theorem dksX1_change_0 : cX1_change.data.toList.drop 0 = dktX1_change_0 := by decide +kernel
theorem dksX1_change_1 : cX1_change.data.toList.drop 24 = dktX1_change_1 := dk_seg dksX1_change_0 24 rfl rfl
theorem dksX1_change_2 : cX1_change.data.toList.drop 47 = dktX1_change_2 := dk_seg dksX1_change_1 23 rfl rfl
theorem dksX1_change_3 : cX1_change.data.toList.drop 70 = dktX1_change_3 := dk_seg dksX1_change_2 23 rfl rfl
theorem dksX1_change_4 : cX1_change.data.toList.drop 90 = dktX1_change_4 := dk_seg dksX1_change_3 20 rfl rfl
theorem dX1_change_0 : decode cX1_change 0 = .ok (.iload_n 1, 1) := dk_27 (dk_at dksX1_change_0 0 rfl rfl)
theorem dX1_change_1 : decode cX1_change 1 = .ok (.bipush 119, 2) := dk_16 119 (dk_at dksX1_change_0 1 rfl rfl)
theorem dX1_change_3 : decode cX1_change 3 = .ok (.if_icmp .eq 15, 3) := dk_159 0 15 (dk_at dksX1_change_0 3 rfl rfl)
theorem dX1_change_6 : decode cX1_change 6 = .ok (.iload_n 1, 1) := dk_27 (dk_at dksX1_change_0 6 rfl rfl)
theorem dX1_change_7 : decode cX1_change 7 = .ok (.bipush 109, 2) := dk_16 109 (dk_at dksX1_change_0 7 rfl rfl)
theorem dX1_change_9 : decode cX1_change 9 = .ok (.if_icmp .eq 9, 3) := dk_159 0 9 (dk_at dksX1_change_0 9 rfl rfl)
theorem dX1_change_12 : decode cX1_change 12 = .ok (.iload_n 1, 1) := dk_27 (dk_at dksX1_change_0 12 rfl rfl)
theorem dX1_change_13 : decode cX1_change 13 = .ok (.bipush 111, 2) := dk_16 111 (dk_at dksX1_change_0 13 rfl rfl)
theorem dX1_change_15 : decode cX1_change 15 = .ok (.if_icmp .ne 19, 3) := dk_160 0 19 (dk_at dksX1_change_0 15 rfl rfl)
theorem dX1_change_18 : decode cX1_change 18 = .ok (.iload 4, 2) := dk_21 4 (dk_at dksX1_change_0 18 rfl rfl)
theorem dX1_change_20 : decode cX1_change 20 = .ok (.iconst 1, 1) := dk_4 (dk_at dksX1_change_0 20 rfl rfl)
theorem dX1_change_21 : decode cX1_change 21 = .ok (.sipush 200, 3) := dk_17 0 200 (dk_at dksX1_change_0 21 rfl rfl)
theorem dX1_change_24 : decode cX1_change 24 = .ok (.invokestatic 75, 3) := dk_184 0 75 (dk_at dksX1_change_1 0 rfl rfl)
theorem dX1_change_27 : decode cX1_change 27 = .ok (.ifCond .eq 7, 3) := dk_153 0 7 (dk_at dksX1_change_1 3 rfl rfl)
theorem dX1_change_30 : decode cX1_change 30 = .ok (.iconst 1, 1) := dk_4 (dk_at dksX1_change_1 6 rfl rfl)
theorem dX1_change_31 : decode cX1_change 31 = .ok (.goto 4, 3) := dk_167 0 4 (dk_at dksX1_change_1 7 rfl rfl)
theorem dX1_change_34 : decode cX1_change 34 = .ok (.iconst 0, 1) := dk_3 (dk_at dksX1_change_1 10 rfl rfl)
theorem dX1_change_35 : decode cX1_change 35 = .ok (.invokestatic 79, 3) := dk_184 0 79 (dk_at dksX1_change_1 11 rfl rfl)
theorem dX1_change_38 : decode cX1_change 38 = .ok (.aload_n 0, 1) := dk_42 (dk_at dksX1_change_1 14 rfl rfl)
theorem dX1_change_39 : decode cX1_change 39 = .ok (.getfield 38, 3) := dk_180 0 38 (dk_at dksX1_change_1 15 rfl rfl)
theorem dX1_change_42 : decode cX1_change 42 = .ok (.invokeinterface 71 1, 5) := by decide +kernel
theorem dX1_change_47 : decode cX1_change 47 = .ok (.bipush 30, 2) := dk_16 30 (dk_at dksX1_change_2 0 rfl rfl)
theorem dX1_change_49 : decode cX1_change 49 = .ok (.if_icmp .ge 7, 3) := dk_162 0 7 (dk_at dksX1_change_2 2 rfl rfl)
theorem dX1_change_52 : decode cX1_change 52 = .ok (.iconst 1, 1) := dk_4 (dk_at dksX1_change_2 5 rfl rfl)
theorem dX1_change_53 : decode cX1_change 53 = .ok (.goto 4, 3) := dk_167 0 4 (dk_at dksX1_change_2 6 rfl rfl)
theorem dX1_change_56 : decode cX1_change 56 = .ok (.iconst 0, 1) := dk_3 (dk_at dksX1_change_2 9 rfl rfl)
theorem dX1_change_57 : decode cX1_change 57 = .ok (.invokestatic 99, 3) := dk_184 0 99 (dk_at dksX1_change_2 10 rfl rfl)
theorem dX1_change_60 : decode cX1_change 60 = .ok (.aload_n 0, 1) := dk_42 (dk_at dksX1_change_2 13 rfl rfl)
theorem dX1_change_61 : decode cX1_change 61 = .ok (.iload_n 1, 1) := dk_27 (dk_at dksX1_change_2 14 rfl rfl)
theorem dX1_change_62 : decode cX1_change 62 = .ok (.iload_n 2, 1) := dk_28 (dk_at dksX1_change_2 15 rfl rfl)
theorem dX1_change_63 : decode cX1_change 63 = .ok (.iload_n 3, 1) := dk_29 (dk_at dksX1_change_2 16 rfl rfl)
theorem dX1_change_64 : decode cX1_change 64 = .ok (.iload 4, 2) := dk_21 4 (dk_at dksX1_change_2 17 rfl rfl)
theorem dX1_change_66 : decode cX1_change 66 = .ok (.aload_n 0, 1) := dk_42 (dk_at dksX1_change_2 19 rfl rfl)
theorem dX1_change_67 : decode cX1_change 67 = .ok (.getfield 41, 3) := dk_180 0 41 (dk_at dksX1_change_2 20 rfl rfl)
theorem dX1_change_70 : decode cX1_change 70 = .ok (.invokeinterface 71 1, 5) := by decide +kernel
theorem dX1_change_75 : decode cX1_change 75 = .ok (.invokevirtual 337, 3) := dk_182 1 81 (dk_at dksX1_change_3 5 rfl rfl)
theorem dX1_change_78 : decode cX1_change 78 = .ok (.astore 5, 2) := dk_58 5 (dk_at dksX1_change_3 8 rfl rfl)
theorem dX1_change_80 : decode cX1_change 80 = .ok (.aload_n 0, 1) := dk_42 (dk_at dksX1_change_3 10 rfl rfl)
theorem dX1_change_81 : decode cX1_change 81 = .ok (.invokevirtual 294, 3) := dk_182 1 38 (dk_at dksX1_change_3 11 rfl rfl)
theorem dX1_change_84 : decode cX1_change 84 = .ok (.aload_n 0, 1) := dk_42 (dk_at dksX1_change_3 14 rfl rfl)
theorem dX1_change_85 : decode cX1_change 85 = .ok (.getfield 38, 3) := dk_180 0 38 (dk_at dksX1_change_3 15 rfl rfl)
theorem dX1_change_88 : decode cX1_change 88 = .ok (.aload 5, 2) := dk_25 5 (dk_at dksX1_change_3 18 rfl rfl)
theorem dX1_change_90 : decode cX1_change 90 = .ok (.invokeinterface 405 2, 5) := by decide +kernel
theorem dX1_change_95 : decode cX1_change 95 = .ok (.ireturn, 1) := dk_172 (dk_at dksX1_change_4 5 rfl rfl)
abbrev cX1_changed : ByteArray := prog_1_method_48_code
def yX1_changed : MethodName := ⟨RX1, "changed", "(I)C"⟩
def dkwX1_changed_1 : List UInt8 := [192, 0, 163, 180, 1, 11, 172]
abbrev dktX1_changed_1 : List UInt8 := dkwX1_changed_1 ++ []
def dkwX1_changed_0 : List UInt8 := [27, 42, 180, 0, 38, 185, 0, 71, 1, 0, 184, 0, 150, 42, 180, 0, 38, 27, 185, 0, 60, 2, 0]
abbrev dktX1_changed_0 : List UInt8 := dkwX1_changed_0 ++ dktX1_changed_1
theorem dksX1_changed_0 : cX1_changed.data.toList.drop 0 = dktX1_changed_0 := by decide +kernel
theorem dksX1_changed_1 : cX1_changed.data.toList.drop 23 = dktX1_changed_1 := dk_seg dksX1_changed_0 23 rfl rfl
theorem dX1_changed_0 : decode cX1_changed 0 = .ok (.iload_n 1, 1) := dk_27 (dk_at dksX1_changed_0 0 rfl rfl)
theorem dX1_changed_1 : decode cX1_changed 1 = .ok (.aload_n 0, 1) := dk_42 (dk_at dksX1_changed_0 1 rfl rfl)
theorem dX1_changed_2 : decode cX1_changed 2 = .ok (.getfield 38, 3) := dk_180 0 38 (dk_at dksX1_changed_0 2 rfl rfl)
theorem dX1_changed_5 : decode cX1_changed 5 = .ok (.invokeinterface 71 1, 5) := by decide +kernel
theorem dX1_changed_10 : decode cX1_changed 10 = .ok (.invokestatic 150, 3) := dk_184 0 150 (dk_at dksX1_changed_0 10 rfl rfl)
theorem dX1_changed_13 : decode cX1_changed 13 = .ok (.aload_n 0, 1) := dk_42 (dk_at dksX1_changed_0 13 rfl rfl)
theorem dX1_changed_14 : decode cX1_changed 14 = .ok (.getfield 38, 3) := dk_180 0 38 (dk_at dksX1_changed_0 14 rfl rfl)
theorem dX1_changed_17 : decode cX1_changed 17 = .ok (.iload_n 1, 1) := dk_27 (dk_at dksX1_changed_0 17 rfl rfl)
theorem dX1_changed_18 : decode cX1_changed 18 = .ok (.invokeinterface 60 2, 5) := by decide +kernel
theorem dX1_changed_23 : decode cX1_changed 23 = .ok (.checkcast 163, 3) := dk_192 0 163 (dk_at dksX1_changed_1 0 rfl rfl)
theorem dX1_changed_26 : decode cX1_changed 26 = .ok (.getfield 267, 3) := dk_180 1 11 (dk_at dksX1_changed_1 3 rfl rfl)
theorem dX1_changed_29 : decode cX1_changed 29 = .ok (.ireturn, 1) := dk_172 (dk_at dksX1_changed_1 6 rfl rfl)
abbrev cX1_against : ByteArray := prog_1_method_52_code
def yX1_against : MethodName := ⟨RX1, "against", "()I"⟩
def dkwX1_against_1 : List UInt8 := [180, 0, 41, 3, 185, 0, 60, 2, 0, 192, 0, 163, 182, 1, 17, 172]
abbrev dktX1_against_1 : List UInt8 := dkwX1_against_1 ++ []
def dkwX1_against_0 : List UInt8 := [42, 180, 0, 41, 185, 1, 14, 1, 0, 153, 0, 11, 187, 1, 153, 89, 183, 1, 155, 191, 42, 42]
abbrev dktX1_against_0 : List UInt8 := dkwX1_against_0 ++ dktX1_against_1
theorem dksX1_against_0 : cX1_against.data.toList.drop 0 = dktX1_against_0 := by decide +kernel
theorem dksX1_against_1 : cX1_against.data.toList.drop 22 = dktX1_against_1 := dk_seg dksX1_against_0 22 rfl rfl
theorem dX1_against_0 : decode cX1_against 0 = .ok (.aload_n 0, 1) := dk_42 (dk_at dksX1_against_0 0 rfl rfl)
theorem dX1_against_1 : decode cX1_against 1 = .ok (.getfield 41, 3) := dk_180 0 41 (dk_at dksX1_against_0 1 rfl rfl)
theorem dX1_against_4 : decode cX1_against 4 = .ok (.invokeinterface 270 1, 5) := by decide +kernel
theorem dX1_against_9 : decode cX1_against 9 = .ok (.ifCond .eq 11, 3) := dk_153 0 11 (dk_at dksX1_against_0 9 rfl rfl)
theorem dX1_against_12 : decode cX1_against 12 = .ok (.new 409, 3) := dk_187 1 153 (dk_at dksX1_against_0 12 rfl rfl)
theorem dX1_against_15 : decode cX1_against 15 = .ok (.dup, 1) := dk_89 (dk_at dksX1_against_0 15 rfl rfl)
theorem dX1_against_16 : decode cX1_against 16 = .ok (.invokespecial 411, 3) := dk_183 1 155 (dk_at dksX1_against_0 16 rfl rfl)
theorem dX1_against_19 : decode cX1_against 19 = .ok (.athrow, 1) := dk_191 (dk_at dksX1_against_0 19 rfl rfl)
theorem dX1_against_20 : decode cX1_against 20 = .ok (.aload_n 0, 1) := dk_42 (dk_at dksX1_against_0 20 rfl rfl)
theorem dX1_against_21 : decode cX1_against 21 = .ok (.aload_n 0, 1) := dk_42 (dk_at dksX1_against_0 21 rfl rfl)
theorem dX1_against_22 : decode cX1_against 22 = .ok (.getfield 41, 3) := dk_180 0 41 (dk_at dksX1_against_1 0 rfl rfl)
theorem dX1_against_25 : decode cX1_against 25 = .ok (.iconst 0, 1) := dk_3 (dk_at dksX1_against_1 3 rfl rfl)
theorem dX1_against_26 : decode cX1_against 26 = .ok (.invokeinterface 60 2, 5) := by decide +kernel
theorem dX1_against_31 : decode cX1_against 31 = .ok (.checkcast 163, 3) := dk_192 0 163 (dk_at dksX1_against_1 9 rfl rfl)
theorem dX1_against_34 : decode cX1_against 34 = .ok (.invokevirtual 273, 3) := dk_182 1 17 (dk_at dksX1_against_1 12 rfl rfl)
theorem dX1_against_37 : decode cX1_against 37 = .ok (.ireturn, 1) := dk_172 (dk_at dksX1_against_1 15 rfl rfl)
abbrev cX1_shape : ByteArray := prog_1_method_57_code
def yX1_shape : MethodName := ⟨RX1, "shape", "(I)I"⟩
def dkwX1_shape_0 : List UInt8 := [42, 27, 182, 1, 156, 182, 1, 160, 172]
abbrev dktX1_shape_0 : List UInt8 := dkwX1_shape_0 ++ []
theorem dksX1_shape_0 : cX1_shape.data.toList.drop 0 = dktX1_shape_0 := by decide +kernel
theorem dX1_shape_0 : decode cX1_shape 0 = .ok (.aload_n 0, 1) := dk_42 (dk_at dksX1_shape_0 0 rfl rfl)
theorem dX1_shape_1 : decode cX1_shape 1 = .ok (.iload_n 1, 1) := dk_27 (dk_at dksX1_shape_0 1 rfl rfl)
theorem dX1_shape_2 : decode cX1_shape 2 = .ok (.invokevirtual 412, 3) := dk_182 1 156 (dk_at dksX1_shape_0 2 rfl rfl)
theorem dX1_shape_5 : decode cX1_shape 5 = .ok (.invokevirtual 416, 3) := dk_182 1 160 (dk_at dksX1_shape_0 5 rfl rfl)
theorem dX1_shape_8 : decode cX1_shape 8 = .ok (.ireturn, 1) := dk_172 (dk_at dksX1_shape_0 8 rfl rfl)
abbrev cX1_thingAt : ByteArray := prog_1_method_56_code
def yX1_thingAt : MethodName := ⟨RX1, "thingAt", "(I)LSwapWhile$Thing;"⟩
def dkwX1_thingAt_1 : List UInt8 := [192, 1, 5, 176]
abbrev dktX1_thingAt_1 : List UInt8 := dkwX1_thingAt_1 ++ []
def dkwX1_thingAt_0 : List UInt8 := [27, 42, 180, 0, 28, 185, 0, 71, 1, 0, 184, 0, 150, 42, 180, 0, 28, 27, 185, 0, 60, 2, 0]
abbrev dktX1_thingAt_0 : List UInt8 := dkwX1_thingAt_0 ++ dktX1_thingAt_1
theorem dksX1_thingAt_0 : cX1_thingAt.data.toList.drop 0 = dktX1_thingAt_0 := by decide +kernel
theorem dksX1_thingAt_1 : cX1_thingAt.data.toList.drop 23 = dktX1_thingAt_1 := dk_seg dksX1_thingAt_0 23 rfl rfl
theorem dX1_thingAt_0 : decode cX1_thingAt 0 = .ok (.iload_n 1, 1) := dk_27 (dk_at dksX1_thingAt_0 0 rfl rfl)
theorem dX1_thingAt_1 : decode cX1_thingAt 1 = .ok (.aload_n 0, 1) := dk_42 (dk_at dksX1_thingAt_0 1 rfl rfl)
theorem dX1_thingAt_2 : decode cX1_thingAt 2 = .ok (.getfield 28, 3) := dk_180 0 28 (dk_at dksX1_thingAt_0 2 rfl rfl)
theorem dX1_thingAt_5 : decode cX1_thingAt 5 = .ok (.invokeinterface 71 1, 5) := by decide +kernel
theorem dX1_thingAt_10 : decode cX1_thingAt 10 = .ok (.invokestatic 150, 3) := dk_184 0 150 (dk_at dksX1_thingAt_0 10 rfl rfl)
theorem dX1_thingAt_13 : decode cX1_thingAt 13 = .ok (.aload_n 0, 1) := dk_42 (dk_at dksX1_thingAt_0 13 rfl rfl)
theorem dX1_thingAt_14 : decode cX1_thingAt 14 = .ok (.getfield 28, 3) := dk_180 0 28 (dk_at dksX1_thingAt_0 14 rfl rfl)
theorem dX1_thingAt_17 : decode cX1_thingAt 17 = .ok (.iload_n 1, 1) := dk_27 (dk_at dksX1_thingAt_0 17 rfl rfl)
theorem dX1_thingAt_18 : decode cX1_thingAt 18 = .ok (.invokeinterface 60 2, 5) := by decide +kernel
theorem dX1_thingAt_23 : decode cX1_thingAt 23 = .ok (.checkcast 261, 3) := dk_192 1 5 (dk_at dksX1_thingAt_1 0 rfl rfl)
theorem dX1_thingAt_26 : decode cX1_thingAt 26 = .ok (.areturn, 1) := dk_176 (dk_at dksX1_thingAt_1 3 rfl rfl)
abbrev cX1_field : ByteArray := prog_1_method_58_code
def yX1_field : MethodName := ⟨RX1, "field", "(II)I"⟩
def dkwX1_field_0 : List UInt8 := [42, 27, 182, 1, 156, 180, 1, 108, 78, 28, 45, 190, 184, 0, 150, 45, 28, 46, 172]
abbrev dktX1_field_0 : List UInt8 := dkwX1_field_0 ++ []
theorem dksX1_field_0 : cX1_field.data.toList.drop 0 = dktX1_field_0 := by decide +kernel
theorem dX1_field_0 : decode cX1_field 0 = .ok (.aload_n 0, 1) := dk_42 (dk_at dksX1_field_0 0 rfl rfl)
theorem dX1_field_1 : decode cX1_field 1 = .ok (.iload_n 1, 1) := dk_27 (dk_at dksX1_field_0 1 rfl rfl)
theorem dX1_field_2 : decode cX1_field 2 = .ok (.invokevirtual 412, 3) := dk_182 1 156 (dk_at dksX1_field_0 2 rfl rfl)
theorem dX1_field_5 : decode cX1_field 5 = .ok (.getfield 364, 3) := dk_180 1 108 (dk_at dksX1_field_0 5 rfl rfl)
theorem dX1_field_8 : decode cX1_field 8 = .ok (.astore_n 3, 1) := dk_78 (dk_at dksX1_field_0 8 rfl rfl)
theorem dX1_field_9 : decode cX1_field 9 = .ok (.iload_n 2, 1) := dk_28 (dk_at dksX1_field_0 9 rfl rfl)
theorem dX1_field_10 : decode cX1_field 10 = .ok (.aload_n 3, 1) := dk_45 (dk_at dksX1_field_0 10 rfl rfl)
theorem dX1_field_11 : decode cX1_field 11 = .ok (.arraylength, 1) := dk_190 (dk_at dksX1_field_0 11 rfl rfl)
theorem dX1_field_12 : decode cX1_field 12 = .ok (.invokestatic 150, 3) := dk_184 0 150 (dk_at dksX1_field_0 12 rfl rfl)
theorem dX1_field_15 : decode cX1_field 15 = .ok (.aload_n 3, 1) := dk_45 (dk_at dksX1_field_0 15 rfl rfl)
theorem dX1_field_16 : decode cX1_field 16 = .ok (.iload_n 2, 1) := dk_28 (dk_at dksX1_field_0 16 rfl rfl)
theorem dX1_field_17 : decode cX1_field 17 = .ok (.iaload, 1) := dk_46 (dk_at dksX1_field_0 17 rfl rfl)
theorem dX1_field_18 : decode cX1_field 18 = .ok (.ireturn, 1) := dk_172 (dk_at dksX1_field_0 18 rfl rfl)
abbrev cX1_fieldIn : ByteArray := prog_1_method_59_code
def yX1_fieldIn : MethodName := ⟨RX1, "fieldIn", "(III)I"⟩
def dkwX1_fieldIn_1 : List UInt8 := [180, 0, 22, 182, 1, 161, 58, 5, 29, 25, 5, 190, 184, 0, 150, 25, 5, 29, 46, 172]
abbrev dktX1_fieldIn_1 : List UInt8 := dkwX1_fieldIn_1 ++ []
def dkwX1_fieldIn_0 : List UInt8 := [42, 27, 182, 1, 156, 58, 4, 28, 42, 180, 0, 22, 185, 0, 71, 1, 0, 184, 0, 150, 25, 4, 28, 42]
abbrev dktX1_fieldIn_0 : List UInt8 := dkwX1_fieldIn_0 ++ dktX1_fieldIn_1
theorem dksX1_fieldIn_0 : cX1_fieldIn.data.toList.drop 0 = dktX1_fieldIn_0 := by decide +kernel
theorem dksX1_fieldIn_1 : cX1_fieldIn.data.toList.drop 24 = dktX1_fieldIn_1 := dk_seg dksX1_fieldIn_0 24 rfl rfl
theorem dX1_fieldIn_0 : decode cX1_fieldIn 0 = .ok (.aload_n 0, 1) := dk_42 (dk_at dksX1_fieldIn_0 0 rfl rfl)
theorem dX1_fieldIn_1 : decode cX1_fieldIn 1 = .ok (.iload_n 1, 1) := dk_27 (dk_at dksX1_fieldIn_0 1 rfl rfl)
theorem dX1_fieldIn_2 : decode cX1_fieldIn 2 = .ok (.invokevirtual 412, 3) := dk_182 1 156 (dk_at dksX1_fieldIn_0 2 rfl rfl)
theorem dX1_fieldIn_5 : decode cX1_fieldIn 5 = .ok (.astore 4, 2) := dk_58 4 (dk_at dksX1_fieldIn_0 5 rfl rfl)
theorem dX1_fieldIn_7 : decode cX1_fieldIn 7 = .ok (.iload_n 2, 1) := dk_28 (dk_at dksX1_fieldIn_0 7 rfl rfl)
theorem dX1_fieldIn_8 : decode cX1_fieldIn 8 = .ok (.aload_n 0, 1) := dk_42 (dk_at dksX1_fieldIn_0 8 rfl rfl)
theorem dX1_fieldIn_9 : decode cX1_fieldIn 9 = .ok (.getfield 22, 3) := dk_180 0 22 (dk_at dksX1_fieldIn_0 9 rfl rfl)
theorem dX1_fieldIn_12 : decode cX1_fieldIn 12 = .ok (.invokeinterface 71 1, 5) := by decide +kernel
theorem dX1_fieldIn_17 : decode cX1_fieldIn 17 = .ok (.invokestatic 150, 3) := dk_184 0 150 (dk_at dksX1_fieldIn_0 17 rfl rfl)
theorem dX1_fieldIn_20 : decode cX1_fieldIn 20 = .ok (.aload 4, 2) := dk_25 4 (dk_at dksX1_fieldIn_0 20 rfl rfl)
theorem dX1_fieldIn_22 : decode cX1_fieldIn 22 = .ok (.iload_n 2, 1) := dk_28 (dk_at dksX1_fieldIn_0 22 rfl rfl)
theorem dX1_fieldIn_23 : decode cX1_fieldIn 23 = .ok (.aload_n 0, 1) := dk_42 (dk_at dksX1_fieldIn_0 23 rfl rfl)
theorem dX1_fieldIn_24 : decode cX1_fieldIn 24 = .ok (.getfield 22, 3) := dk_180 0 22 (dk_at dksX1_fieldIn_1 0 rfl rfl)
theorem dX1_fieldIn_27 : decode cX1_fieldIn 27 = .ok (.invokevirtual 417, 3) := dk_182 1 161 (dk_at dksX1_fieldIn_1 3 rfl rfl)
theorem dX1_fieldIn_30 : decode cX1_fieldIn 30 = .ok (.astore 5, 2) := dk_58 5 (dk_at dksX1_fieldIn_1 6 rfl rfl)
theorem dX1_fieldIn_32 : decode cX1_fieldIn 32 = .ok (.iload_n 3, 1) := dk_29 (dk_at dksX1_fieldIn_1 8 rfl rfl)
theorem dX1_fieldIn_33 : decode cX1_fieldIn 33 = .ok (.aload 5, 2) := dk_25 5 (dk_at dksX1_fieldIn_1 9 rfl rfl)
theorem dX1_fieldIn_35 : decode cX1_fieldIn 35 = .ok (.arraylength, 1) := dk_190 (dk_at dksX1_fieldIn_1 11 rfl rfl)
theorem dX1_fieldIn_36 : decode cX1_fieldIn 36 = .ok (.invokestatic 150, 3) := dk_184 0 150 (dk_at dksX1_fieldIn_1 12 rfl rfl)
theorem dX1_fieldIn_39 : decode cX1_fieldIn 39 = .ok (.aload 5, 2) := dk_25 5 (dk_at dksX1_fieldIn_1 15 rfl rfl)
theorem dX1_fieldIn_41 : decode cX1_fieldIn 41 = .ok (.iload_n 3, 1) := dk_29 (dk_at dksX1_fieldIn_1 17 rfl rfl)
theorem dX1_fieldIn_42 : decode cX1_fieldIn 42 = .ok (.iaload, 1) := dk_46 (dk_at dksX1_fieldIn_1 18 rfl rfl)
theorem dX1_fieldIn_43 : decode cX1_fieldIn 43 = .ok (.ireturn, 1) := dk_172 (dk_at dksX1_fieldIn_1 19 rfl rfl)
abbrev cX1_entry : ByteArray := prog_1_method_60_code
def yX1_entry : MethodName := ⟨RX1, "entry", "(I)I"⟩
def dkwX1_entry_0 : List UInt8 := [27, 7, 184, 0, 150, 42, 180, 0, 47, 27, 46, 172]
abbrev dktX1_entry_0 : List UInt8 := dkwX1_entry_0 ++ []
theorem dksX1_entry_0 : cX1_entry.data.toList.drop 0 = dktX1_entry_0 := by decide +kernel
theorem dX1_entry_0 : decode cX1_entry 0 = .ok (.iload_n 1, 1) := dk_27 (dk_at dksX1_entry_0 0 rfl rfl)
theorem dX1_entry_1 : decode cX1_entry 1 = .ok (.iconst 4, 1) := dk_7 (dk_at dksX1_entry_0 1 rfl rfl)
theorem dX1_entry_2 : decode cX1_entry 2 = .ok (.invokestatic 150, 3) := dk_184 0 150 (dk_at dksX1_entry_0 2 rfl rfl)
theorem dX1_entry_5 : decode cX1_entry 5 = .ok (.aload_n 0, 1) := dk_42 (dk_at dksX1_entry_0 5 rfl rfl)
theorem dX1_entry_6 : decode cX1_entry 6 = .ok (.getfield 47, 3) := dk_180 0 47 (dk_at dksX1_entry_0 6 rfl rfl)
theorem dX1_entry_9 : decode cX1_entry 9 = .ok (.iload_n 1, 1) := dk_27 (dk_at dksX1_entry_0 9 rfl rfl)
theorem dX1_entry_10 : decode cX1_entry 10 = .ok (.iaload, 1) := dk_46 (dk_at dksX1_entry_0 10 rfl rfl)
theorem dX1_entry_11 : decode cX1_entry 11 = .ok (.ireturn, 1) := dk_172 (dk_at dksX1_entry_0 11 rfl rfl)
abbrev cX1_putAt : ByteArray := prog_1_method_63_code
def yX1_putAt : MethodName := ⟨RX1, "putAt", "(I)I"⟩
def dkwX1_putAt_0 : List UInt8 := [42, 27, 3, 182, 1, 166, 172]
abbrev dktX1_putAt_0 : List UInt8 := dkwX1_putAt_0 ++ []
theorem dksX1_putAt_0 : cX1_putAt.data.toList.drop 0 = dktX1_putAt_0 := by decide +kernel
theorem dX1_putAt_0 : decode cX1_putAt 0 = .ok (.aload_n 0, 1) := dk_42 (dk_at dksX1_putAt_0 0 rfl rfl)
theorem dX1_putAt_1 : decode cX1_putAt 1 = .ok (.iload_n 1, 1) := dk_27 (dk_at dksX1_putAt_0 1 rfl rfl)
theorem dX1_putAt_2 : decode cX1_putAt 2 = .ok (.iconst 0, 1) := dk_3 (dk_at dksX1_putAt_0 2 rfl rfl)
theorem dX1_putAt_3 : decode cX1_putAt 3 = .ok (.invokevirtual 422, 3) := dk_182 1 166 (dk_at dksX1_putAt_0 3 rfl rfl)
theorem dX1_putAt_6 : decode cX1_putAt 6 = .ok (.ireturn, 1) := dk_172 (dk_at dksX1_putAt_0 6 rfl rfl)
abbrev cX1_putOf : ByteArray := prog_1_method_62_code
def yX1_putOf : MethodName := ⟨RX1, "putOf", "(II)I"⟩
def dkwX1_putOf_1 : List UInt8 := [192, 1, 165, 28, 46, 172]
abbrev dktX1_putOf_1 : List UInt8 := dkwX1_putOf_1 ++ []
def dkwX1_putOf_0 : List UInt8 := [27, 42, 180, 0, 44, 185, 0, 71, 1, 0, 184, 0, 150, 42, 180, 0, 44, 27, 185, 0, 60, 2, 0]
abbrev dktX1_putOf_0 : List UInt8 := dkwX1_putOf_0 ++ dktX1_putOf_1
theorem dksX1_putOf_0 : cX1_putOf.data.toList.drop 0 = dktX1_putOf_0 := by decide +kernel
theorem dksX1_putOf_1 : cX1_putOf.data.toList.drop 23 = dktX1_putOf_1 := dk_seg dksX1_putOf_0 23 rfl rfl
theorem dX1_putOf_0 : decode cX1_putOf 0 = .ok (.iload_n 1, 1) := dk_27 (dk_at dksX1_putOf_0 0 rfl rfl)
theorem dX1_putOf_1 : decode cX1_putOf 1 = .ok (.aload_n 0, 1) := dk_42 (dk_at dksX1_putOf_0 1 rfl rfl)
theorem dX1_putOf_2 : decode cX1_putOf 2 = .ok (.getfield 44, 3) := dk_180 0 44 (dk_at dksX1_putOf_0 2 rfl rfl)
theorem dX1_putOf_5 : decode cX1_putOf 5 = .ok (.invokeinterface 71 1, 5) := by decide +kernel
theorem dX1_putOf_10 : decode cX1_putOf 10 = .ok (.invokestatic 150, 3) := dk_184 0 150 (dk_at dksX1_putOf_0 10 rfl rfl)
theorem dX1_putOf_13 : decode cX1_putOf 13 = .ok (.aload_n 0, 1) := dk_42 (dk_at dksX1_putOf_0 13 rfl rfl)
theorem dX1_putOf_14 : decode cX1_putOf 14 = .ok (.getfield 44, 3) := dk_180 0 44 (dk_at dksX1_putOf_0 14 rfl rfl)
theorem dX1_putOf_17 : decode cX1_putOf 17 = .ok (.iload_n 1, 1) := dk_27 (dk_at dksX1_putOf_0 17 rfl rfl)
theorem dX1_putOf_18 : decode cX1_putOf 18 = .ok (.invokeinterface 60 2, 5) := by decide +kernel
theorem dX1_putOf_23 : decode cX1_putOf 23 = .ok (.checkcast 421, 3) := dk_192 1 165 (dk_at dksX1_putOf_1 0 rfl rfl)
theorem dX1_putOf_26 : decode cX1_putOf 26 = .ok (.iload_n 2, 1) := dk_28 (dk_at dksX1_putOf_1 3 rfl rfl)
theorem dX1_putOf_27 : decode cX1_putOf 27 = .ok (.iaload, 1) := dk_46 (dk_at dksX1_putOf_1 4 rfl rfl)
theorem dX1_putOf_28 : decode cX1_putOf 28 = .ok (.ireturn, 1) := dk_172 (dk_at dksX1_putOf_1 5 rfl rfl)
abbrev cX1_putIn : ByteArray := prog_1_method_64_code
def yX1_putIn : MethodName := ⟨RX1, "putIn", "(I)I"⟩
def dkwX1_putIn_0 : List UInt8 := [42, 27, 4, 182, 1, 166, 172]
abbrev dktX1_putIn_0 : List UInt8 := dkwX1_putIn_0 ++ []
theorem dksX1_putIn_0 : cX1_putIn.data.toList.drop 0 = dktX1_putIn_0 := by decide +kernel
theorem dX1_putIn_0 : decode cX1_putIn 0 = .ok (.aload_n 0, 1) := dk_42 (dk_at dksX1_putIn_0 0 rfl rfl)
theorem dX1_putIn_1 : decode cX1_putIn 1 = .ok (.iload_n 1, 1) := dk_27 (dk_at dksX1_putIn_0 1 rfl rfl)
theorem dX1_putIn_2 : decode cX1_putIn 2 = .ok (.iconst 1, 1) := dk_4 (dk_at dksX1_putIn_0 2 rfl rfl)
theorem dX1_putIn_3 : decode cX1_putIn 3 = .ok (.invokevirtual 422, 3) := dk_182 1 166 (dk_at dksX1_putIn_0 3 rfl rfl)
theorem dX1_putIn_6 : decode cX1_putIn 6 = .ok (.ireturn, 1) := dk_172 (dk_at dksX1_putIn_0 6 rfl rfl)
abbrev cX1_carriedShare : ByteArray := prog_1_method_66_code
def yX1_carriedShare : MethodName := ⟨RX1, "carriedShare", "()F"⟩
def dkwX1_carriedShare_3 : List UInt8 := [167, 255, 218, 27, 134, 42, 180, 0, 28, 185, 0, 71, 1, 0, 134, 110, 174]
abbrev dktX1_carriedShare_3 : List UInt8 := dkwX1_carriedShare_3 ++ []
def dkwX1_carriedShare_2 : List UInt8 := [192, 1, 5, 78, 27, 45, 42, 180, 0, 158, 182, 1, 172, 153, 0, 7, 4, 167, 0, 4, 3, 96, 60]
abbrev dktX1_carriedShare_2 : List UInt8 := dkwX1_carriedShare_2 ++ dktX1_carriedShare_3
def dkwX1_carriedShare_1 : List UInt8 := [180, 0, 28, 185, 0, 201, 1, 0, 77, 44, 185, 0, 205, 1, 0, 153, 0, 35, 44, 185, 0, 211, 1, 0]
abbrev dktX1_carriedShare_1 : List UInt8 := dkwX1_carriedShare_1 ++ dktX1_carriedShare_2
def dkwX1_carriedShare_0 : List UInt8 := [42, 180, 0, 28, 185, 1, 14, 1, 0, 154, 0, 7, 4, 167, 0, 4, 3, 184, 1, 169, 3, 60, 42]
abbrev dktX1_carriedShare_0 : List UInt8 := dkwX1_carriedShare_0 ++ dktX1_carriedShare_1
theorem dksX1_carriedShare_0 : cX1_carriedShare.data.toList.drop 0 = dktX1_carriedShare_0 := by decide +kernel
theorem dksX1_carriedShare_1 : cX1_carriedShare.data.toList.drop 23 = dktX1_carriedShare_1 := dk_seg dksX1_carriedShare_0 23 rfl rfl
theorem dksX1_carriedShare_2 : cX1_carriedShare.data.toList.drop 47 = dktX1_carriedShare_2 := dk_seg dksX1_carriedShare_1 24 rfl rfl
theorem dksX1_carriedShare_3 : cX1_carriedShare.data.toList.drop 70 = dktX1_carriedShare_3 := dk_seg dksX1_carriedShare_2 23 rfl rfl
theorem dX1_carriedShare_0 : decode cX1_carriedShare 0 = .ok (.aload_n 0, 1) := dk_42 (dk_at dksX1_carriedShare_0 0 rfl rfl)
theorem dX1_carriedShare_1 : decode cX1_carriedShare 1 = .ok (.getfield 28, 3) := dk_180 0 28 (dk_at dksX1_carriedShare_0 1 rfl rfl)
theorem dX1_carriedShare_4 : decode cX1_carriedShare 4 = .ok (.invokeinterface 270 1, 5) := by decide +kernel
theorem dX1_carriedShare_9 : decode cX1_carriedShare 9 = .ok (.ifCond .ne 7, 3) := dk_154 0 7 (dk_at dksX1_carriedShare_0 9 rfl rfl)
theorem dX1_carriedShare_12 : decode cX1_carriedShare 12 = .ok (.iconst 1, 1) := dk_4 (dk_at dksX1_carriedShare_0 12 rfl rfl)
theorem dX1_carriedShare_13 : decode cX1_carriedShare 13 = .ok (.goto 4, 3) := dk_167 0 4 (dk_at dksX1_carriedShare_0 13 rfl rfl)
theorem dX1_carriedShare_16 : decode cX1_carriedShare 16 = .ok (.iconst 0, 1) := dk_3 (dk_at dksX1_carriedShare_0 16 rfl rfl)
theorem dX1_carriedShare_17 : decode cX1_carriedShare 17 = .ok (.invokestatic 425, 3) := dk_184 1 169 (dk_at dksX1_carriedShare_0 17 rfl rfl)
theorem dX1_carriedShare_20 : decode cX1_carriedShare 20 = .ok (.iconst 0, 1) := dk_3 (dk_at dksX1_carriedShare_0 20 rfl rfl)
theorem dX1_carriedShare_21 : decode cX1_carriedShare 21 = .ok (.istore_n 1, 1) := dk_60 (dk_at dksX1_carriedShare_0 21 rfl rfl)
theorem dX1_carriedShare_22 : decode cX1_carriedShare 22 = .ok (.aload_n 0, 1) := dk_42 (dk_at dksX1_carriedShare_0 22 rfl rfl)
theorem dX1_carriedShare_23 : decode cX1_carriedShare 23 = .ok (.getfield 28, 3) := dk_180 0 28 (dk_at dksX1_carriedShare_1 0 rfl rfl)
theorem dX1_carriedShare_26 : decode cX1_carriedShare 26 = .ok (.invokeinterface 201 1, 5) := by decide +kernel
theorem dX1_carriedShare_31 : decode cX1_carriedShare 31 = .ok (.astore_n 2, 1) := dk_77 (dk_at dksX1_carriedShare_1 8 rfl rfl)
theorem dX1_carriedShare_32 : decode cX1_carriedShare 32 = .ok (.aload_n 2, 1) := dk_44 (dk_at dksX1_carriedShare_1 9 rfl rfl)
theorem dX1_carriedShare_33 : decode cX1_carriedShare 33 = .ok (.invokeinterface 205 1, 5) := by decide +kernel
theorem dX1_carriedShare_38 : decode cX1_carriedShare 38 = .ok (.ifCond .eq 35, 3) := dk_153 0 35 (dk_at dksX1_carriedShare_1 15 rfl rfl)
theorem dX1_carriedShare_41 : decode cX1_carriedShare 41 = .ok (.aload_n 2, 1) := dk_44 (dk_at dksX1_carriedShare_1 18 rfl rfl)
theorem dX1_carriedShare_42 : decode cX1_carriedShare 42 = .ok (.invokeinterface 211 1, 5) := by decide +kernel
theorem dX1_carriedShare_47 : decode cX1_carriedShare 47 = .ok (.checkcast 261, 3) := dk_192 1 5 (dk_at dksX1_carriedShare_2 0 rfl rfl)
theorem dX1_carriedShare_50 : decode cX1_carriedShare 50 = .ok (.astore_n 3, 1) := dk_78 (dk_at dksX1_carriedShare_2 3 rfl rfl)
theorem dX1_carriedShare_51 : decode cX1_carriedShare 51 = .ok (.iload_n 1, 1) := dk_27 (dk_at dksX1_carriedShare_2 4 rfl rfl)
theorem dX1_carriedShare_52 : decode cX1_carriedShare 52 = .ok (.aload_n 3, 1) := dk_45 (dk_at dksX1_carriedShare_2 5 rfl rfl)
theorem dX1_carriedShare_53 : decode cX1_carriedShare 53 = .ok (.aload_n 0, 1) := dk_42 (dk_at dksX1_carriedShare_2 6 rfl rfl)
theorem dX1_carriedShare_54 : decode cX1_carriedShare 54 = .ok (.getfield 158, 3) := dk_180 0 158 (dk_at dksX1_carriedShare_2 7 rfl rfl)
theorem dX1_carriedShare_57 : decode cX1_carriedShare 57 = .ok (.invokevirtual 428, 3) := dk_182 1 172 (dk_at dksX1_carriedShare_2 10 rfl rfl)
theorem dX1_carriedShare_60 : decode cX1_carriedShare 60 = .ok (.ifCond .eq 7, 3) := dk_153 0 7 (dk_at dksX1_carriedShare_2 13 rfl rfl)
theorem dX1_carriedShare_63 : decode cX1_carriedShare 63 = .ok (.iconst 1, 1) := dk_4 (dk_at dksX1_carriedShare_2 16 rfl rfl)
theorem dX1_carriedShare_64 : decode cX1_carriedShare 64 = .ok (.goto 4, 3) := dk_167 0 4 (dk_at dksX1_carriedShare_2 17 rfl rfl)
theorem dX1_carriedShare_67 : decode cX1_carriedShare 67 = .ok (.iconst 0, 1) := dk_3 (dk_at dksX1_carriedShare_2 20 rfl rfl)
theorem dX1_carriedShare_68 : decode cX1_carriedShare 68 = .ok (.iadd, 1) := dk_96 (dk_at dksX1_carriedShare_2 21 rfl rfl)
theorem dX1_carriedShare_69 : decode cX1_carriedShare 69 = .ok (.istore_n 1, 1) := dk_60 (dk_at dksX1_carriedShare_2 22 rfl rfl)
theorem dX1_carriedShare_70 : decode cX1_carriedShare 70 = .ok (.goto (-38), 3) := dk_167 255 218 (dk_at dksX1_carriedShare_3 0 rfl rfl)
theorem dX1_carriedShare_73 : decode cX1_carriedShare 73 = .ok (.iload_n 1, 1) := dk_27 (dk_at dksX1_carriedShare_3 3 rfl rfl)
theorem dX1_carriedShare_74 : decode cX1_carriedShare 74 = .ok (.i2f, 1) := dk_134 (dk_at dksX1_carriedShare_3 4 rfl rfl)
theorem dX1_carriedShare_75 : decode cX1_carriedShare 75 = .ok (.aload_n 0, 1) := dk_42 (dk_at dksX1_carriedShare_3 5 rfl rfl)
theorem dX1_carriedShare_76 : decode cX1_carriedShare 76 = .ok (.getfield 28, 3) := dk_180 0 28 (dk_at dksX1_carriedShare_3 6 rfl rfl)
theorem dX1_carriedShare_79 : decode cX1_carriedShare 79 = .ok (.invokeinterface 71 1, 5) := by decide +kernel
theorem dX1_carriedShare_84 : decode cX1_carriedShare 84 = .ok (.i2f, 1) := dk_134 (dk_at dksX1_carriedShare_3 14 rfl rfl)
theorem dX1_carriedShare_85 : decode cX1_carriedShare 85 = .ok (.fdiv, 1) := dk_110 (dk_at dksX1_carriedShare_3 15 rfl rfl)
theorem dX1_carriedShare_86 : decode cX1_carriedShare 86 = .ok (.freturn, 1) := dk_174 (dk_at dksX1_carriedShare_3 16 rfl rfl)
abbrev cX1_requireNumber : ByteArray := prog_1_method_5_code
def yX1_requireNumber : MethodName := ⟨RX1, "requireNumber", "(Z)V"⟩
def dkwX1_requireNumber_0 : List UInt8 := [26, 154, 0, 11, 187, 0, 13, 89, 183, 0, 15, 191, 177]
abbrev dktX1_requireNumber_0 : List UInt8 := dkwX1_requireNumber_0 ++ []
theorem dksX1_requireNumber_0 : cX1_requireNumber.data.toList.drop 0 = dktX1_requireNumber_0 := by decide +kernel
theorem dX1_requireNumber_0 : decode cX1_requireNumber 0 = .ok (.iload_n 0, 1) := dk_26 (dk_at dksX1_requireNumber_0 0 rfl rfl)
theorem dX1_requireNumber_1 : decode cX1_requireNumber 1 = .ok (.ifCond .ne 11, 3) := dk_154 0 11 (dk_at dksX1_requireNumber_0 1 rfl rfl)
theorem dX1_requireNumber_4 : decode cX1_requireNumber 4 = .ok (.new 13, 3) := dk_187 0 13 (dk_at dksX1_requireNumber_0 4 rfl rfl)
theorem dX1_requireNumber_7 : decode cX1_requireNumber 7 = .ok (.dup, 1) := dk_89 (dk_at dksX1_requireNumber_0 7 rfl rfl)
theorem dX1_requireNumber_8 : decode cX1_requireNumber 8 = .ok (.invokespecial 15, 3) := dk_183 0 15 (dk_at dksX1_requireNumber_0 8 rfl rfl)
theorem dX1_requireNumber_11 : decode cX1_requireNumber 11 = .ok (.athrow, 1) := dk_191 (dk_at dksX1_requireNumber_0 11 rfl rfl)
theorem dX1_requireNumber_12 : decode cX1_requireNumber 12 = .ok (.return_, 1) := dk_177 (dk_at dksX1_requireNumber_0 12 rfl rfl)
abbrev cX1_meanFrames : ByteArray := prog_1_method_67_code
def yX1_meanFrames : MethodName := ⟨RX1, "meanFrames", "()D"⟩
def dkwX1_meanFrames_3 : List UInt8 := [3, 184, 1, 169, 27, 135, 28, 135, 111, 175]
abbrev dktX1_meanFrames_3 : List UInt8 := dkwX1_meanFrames_3 ++ []
def dkwX1_meanFrames_2 : List UInt8 := [153, 0, 7, 4, 167, 0, 4, 3, 96, 61, 132, 5, 1, 167, 255, 211, 28, 158, 0, 7, 4, 167, 0, 4]
abbrev dktX1_meanFrames_2 : List UInt8 := dkwX1_meanFrames_2 ++ dktX1_meanFrames_3
def dkwX1_meanFrames_1 : List UInt8 := [21, 5, 50, 58, 6, 27, 25, 6, 180, 0, 198, 185, 0, 71, 1, 0, 96, 60, 28, 25, 6, 182, 1, 51]
abbrev dktX1_meanFrames_1 : List UInt8 := dkwX1_meanFrames_1 ++ dktX1_meanFrames_2
def dkwX1_meanFrames_0 : List UInt8 := [3, 60, 3, 61, 42, 180, 0, 34, 78, 45, 190, 54, 4, 3, 54, 5, 21, 5, 21, 4, 162, 0, 44, 45]
abbrev dktX1_meanFrames_0 : List UInt8 := dkwX1_meanFrames_0 ++ dktX1_meanFrames_1
theorem dksX1_meanFrames_0 : cX1_meanFrames.data.toList.drop 0 = dktX1_meanFrames_0 := by decide +kernel
theorem dksX1_meanFrames_1 : cX1_meanFrames.data.toList.drop 24 = dktX1_meanFrames_1 := dk_seg dksX1_meanFrames_0 24 rfl rfl
theorem dksX1_meanFrames_2 : cX1_meanFrames.data.toList.drop 48 = dktX1_meanFrames_2 := dk_seg dksX1_meanFrames_1 24 rfl rfl
theorem dksX1_meanFrames_3 : cX1_meanFrames.data.toList.drop 72 = dktX1_meanFrames_3 := dk_seg dksX1_meanFrames_2 24 rfl rfl
theorem dX1_meanFrames_0 : decode cX1_meanFrames 0 = .ok (.iconst 0, 1) := dk_3 (dk_at dksX1_meanFrames_0 0 rfl rfl)
theorem dX1_meanFrames_1 : decode cX1_meanFrames 1 = .ok (.istore_n 1, 1) := dk_60 (dk_at dksX1_meanFrames_0 1 rfl rfl)
theorem dX1_meanFrames_2 : decode cX1_meanFrames 2 = .ok (.iconst 0, 1) := dk_3 (dk_at dksX1_meanFrames_0 2 rfl rfl)
theorem dX1_meanFrames_3 : decode cX1_meanFrames 3 = .ok (.istore_n 2, 1) := dk_61 (dk_at dksX1_meanFrames_0 3 rfl rfl)
theorem dX1_meanFrames_4 : decode cX1_meanFrames 4 = .ok (.aload_n 0, 1) := dk_42 (dk_at dksX1_meanFrames_0 4 rfl rfl)
theorem dX1_meanFrames_5 : decode cX1_meanFrames 5 = .ok (.getfield 34, 3) := dk_180 0 34 (dk_at dksX1_meanFrames_0 5 rfl rfl)
theorem dX1_meanFrames_8 : decode cX1_meanFrames 8 = .ok (.astore_n 3, 1) := dk_78 (dk_at dksX1_meanFrames_0 8 rfl rfl)
theorem dX1_meanFrames_9 : decode cX1_meanFrames 9 = .ok (.aload_n 3, 1) := dk_45 (dk_at dksX1_meanFrames_0 9 rfl rfl)
theorem dX1_meanFrames_10 : decode cX1_meanFrames 10 = .ok (.arraylength, 1) := dk_190 (dk_at dksX1_meanFrames_0 10 rfl rfl)
theorem dX1_meanFrames_11 : decode cX1_meanFrames 11 = .ok (.istore 4, 2) := dk_54 4 (dk_at dksX1_meanFrames_0 11 rfl rfl)
theorem dX1_meanFrames_13 : decode cX1_meanFrames 13 = .ok (.iconst 0, 1) := dk_3 (dk_at dksX1_meanFrames_0 13 rfl rfl)
theorem dX1_meanFrames_14 : decode cX1_meanFrames 14 = .ok (.istore 5, 2) := dk_54 5 (dk_at dksX1_meanFrames_0 14 rfl rfl)
theorem dX1_meanFrames_16 : decode cX1_meanFrames 16 = .ok (.iload 5, 2) := dk_21 5 (dk_at dksX1_meanFrames_0 16 rfl rfl)
theorem dX1_meanFrames_18 : decode cX1_meanFrames 18 = .ok (.iload 4, 2) := dk_21 4 (dk_at dksX1_meanFrames_0 18 rfl rfl)
theorem dX1_meanFrames_20 : decode cX1_meanFrames 20 = .ok (.if_icmp .ge 44, 3) := dk_162 0 44 (dk_at dksX1_meanFrames_0 20 rfl rfl)
theorem dX1_meanFrames_23 : decode cX1_meanFrames 23 = .ok (.aload_n 3, 1) := dk_45 (dk_at dksX1_meanFrames_0 23 rfl rfl)
theorem dX1_meanFrames_24 : decode cX1_meanFrames 24 = .ok (.iload 5, 2) := dk_21 5 (dk_at dksX1_meanFrames_1 0 rfl rfl)
theorem dX1_meanFrames_26 : decode cX1_meanFrames 26 = .ok (.aaload, 1) := dk_50 (dk_at dksX1_meanFrames_1 2 rfl rfl)
theorem dX1_meanFrames_27 : decode cX1_meanFrames 27 = .ok (.astore 6, 2) := dk_58 6 (dk_at dksX1_meanFrames_1 3 rfl rfl)
theorem dX1_meanFrames_29 : decode cX1_meanFrames 29 = .ok (.iload_n 1, 1) := dk_27 (dk_at dksX1_meanFrames_1 5 rfl rfl)
theorem dX1_meanFrames_30 : decode cX1_meanFrames 30 = .ok (.aload 6, 2) := dk_25 6 (dk_at dksX1_meanFrames_1 6 rfl rfl)
theorem dX1_meanFrames_32 : decode cX1_meanFrames 32 = .ok (.getfield 198, 3) := dk_180 0 198 (dk_at dksX1_meanFrames_1 8 rfl rfl)
theorem dX1_meanFrames_35 : decode cX1_meanFrames 35 = .ok (.invokeinterface 71 1, 5) := by decide +kernel
theorem dX1_meanFrames_40 : decode cX1_meanFrames 40 = .ok (.iadd, 1) := dk_96 (dk_at dksX1_meanFrames_1 16 rfl rfl)
theorem dX1_meanFrames_41 : decode cX1_meanFrames 41 = .ok (.istore_n 1, 1) := dk_60 (dk_at dksX1_meanFrames_1 17 rfl rfl)
theorem dX1_meanFrames_42 : decode cX1_meanFrames 42 = .ok (.iload_n 2, 1) := dk_28 (dk_at dksX1_meanFrames_1 18 rfl rfl)
theorem dX1_meanFrames_43 : decode cX1_meanFrames 43 = .ok (.aload 6, 2) := dk_25 6 (dk_at dksX1_meanFrames_1 19 rfl rfl)
theorem dX1_meanFrames_45 : decode cX1_meanFrames 45 = .ok (.invokevirtual 307, 3) := dk_182 1 51 (dk_at dksX1_meanFrames_1 21 rfl rfl)
theorem dX1_meanFrames_48 : decode cX1_meanFrames 48 = .ok (.ifCond .eq 7, 3) := dk_153 0 7 (dk_at dksX1_meanFrames_2 0 rfl rfl)
theorem dX1_meanFrames_51 : decode cX1_meanFrames 51 = .ok (.iconst 1, 1) := dk_4 (dk_at dksX1_meanFrames_2 3 rfl rfl)
theorem dX1_meanFrames_52 : decode cX1_meanFrames 52 = .ok (.goto 4, 3) := dk_167 0 4 (dk_at dksX1_meanFrames_2 4 rfl rfl)
theorem dX1_meanFrames_55 : decode cX1_meanFrames 55 = .ok (.iconst 0, 1) := dk_3 (dk_at dksX1_meanFrames_2 7 rfl rfl)
theorem dX1_meanFrames_56 : decode cX1_meanFrames 56 = .ok (.iadd, 1) := dk_96 (dk_at dksX1_meanFrames_2 8 rfl rfl)
theorem dX1_meanFrames_57 : decode cX1_meanFrames 57 = .ok (.istore_n 2, 1) := dk_61 (dk_at dksX1_meanFrames_2 9 rfl rfl)
theorem dX1_meanFrames_58 : decode cX1_meanFrames 58 = .ok (.iinc 5 1, 3) := dk_132 5 1 (dk_at dksX1_meanFrames_2 10 rfl rfl)
theorem dX1_meanFrames_61 : decode cX1_meanFrames 61 = .ok (.goto (-45), 3) := dk_167 255 211 (dk_at dksX1_meanFrames_2 13 rfl rfl)
theorem dX1_meanFrames_64 : decode cX1_meanFrames 64 = .ok (.iload_n 2, 1) := dk_28 (dk_at dksX1_meanFrames_2 16 rfl rfl)
theorem dX1_meanFrames_65 : decode cX1_meanFrames 65 = .ok (.ifCond .le 7, 3) := dk_158 0 7 (dk_at dksX1_meanFrames_2 17 rfl rfl)
theorem dX1_meanFrames_68 : decode cX1_meanFrames 68 = .ok (.iconst 1, 1) := dk_4 (dk_at dksX1_meanFrames_2 20 rfl rfl)
theorem dX1_meanFrames_69 : decode cX1_meanFrames 69 = .ok (.goto 4, 3) := dk_167 0 4 (dk_at dksX1_meanFrames_2 21 rfl rfl)
theorem dX1_meanFrames_72 : decode cX1_meanFrames 72 = .ok (.iconst 0, 1) := dk_3 (dk_at dksX1_meanFrames_3 0 rfl rfl)
theorem dX1_meanFrames_73 : decode cX1_meanFrames 73 = .ok (.invokestatic 425, 3) := dk_184 1 169 (dk_at dksX1_meanFrames_3 1 rfl rfl)
theorem dX1_meanFrames_76 : decode cX1_meanFrames 76 = .ok (.iload_n 1, 1) := dk_27 (dk_at dksX1_meanFrames_3 4 rfl rfl)
theorem dX1_meanFrames_77 : decode cX1_meanFrames 77 = .ok (.i2d, 1) := dk_135 (dk_at dksX1_meanFrames_3 5 rfl rfl)
theorem dX1_meanFrames_78 : decode cX1_meanFrames 78 = .ok (.iload_n 2, 1) := dk_28 (dk_at dksX1_meanFrames_3 6 rfl rfl)
theorem dX1_meanFrames_79 : decode cX1_meanFrames 79 = .ok (.i2d, 1) := dk_135 (dk_at dksX1_meanFrames_3 7 rfl rfl)
theorem dX1_meanFrames_80 : decode cX1_meanFrames 80 = .ok (.ddiv, 1) := dk_111 (dk_at dksX1_meanFrames_3 8 rfl rfl)
theorem dX1_meanFrames_81 : decode cX1_meanFrames 81 = .ok (.dreturn, 1) := dk_175 (dk_at dksX1_meanFrames_3 9 rfl rfl)
theorem q65 : (Jvm.Cond.initialized "SwapWhile") ∈ lw_all := lw_g (lw_at lw_m1 1 rfl) rfl
theorem q113 : (Jvm.Cond.instantiable "SwapWhile" (12 : Nat)) ∈ lw_all := lw_g (lw_at lw_m1 49 rfl) rfl
theorem q115 : (Jvm.Cond.instanceMethod ({ cls := "SwapWhile", name := "<init>", desc := "()V" } : Jvm.MethodName)) ∈ lw_all := lw_g (lw_at lw_m1 51 rfl) rfl
theorem q116 : (Jvm.Cond.code ({ cls := "SwapWhile", name := "<init>", desc := "()V" } : Jvm.MethodName) prog_1_method_6_code (1 : Nat) (Option.none : Option Jvm.ClassFile.FieldType)) ∈ lw_all := lw_g (lw_at lw_m1 52 rfl) rfl
theorem q117 : (Jvm.Cond.methodLink "SwapWhile" (16 : Nat) ({ cls := "java/lang/Object", name := "<init>", desc := "()V" } : Jvm.MethodName)) ∈ lw_all := lw_g (lw_at lw_m1 53 rfl) rfl
theorem q120 : (Jvm.Cond.classLink "SwapWhile" (19 : Nat) "java/util/ArrayList") ∈ lw_all := lw_g (lw_at lw_m1 56 rfl) rfl
theorem q122 : (Jvm.Cond.methodLink "SwapWhile" (21 : Nat) ({ cls := "java/util/ArrayList", name := "<init>", desc := "()V" } : Jvm.MethodName)) ∈ lw_all := lw_g (lw_at lw_m1 58 rfl) rfl
theorem q149 : (Jvm.Cond.classLink "SwapWhile" (31 : Nat) "SwapWhile$Strand") ∈ lw_all := lw_g (lw_at lw_m1 85 rfl) rfl
theorem q152 : (Jvm.Cond.methodLinkNest "SwapWhile" (33 : Nat) ({ cls := "SwapWhile$Strand", name := "<init>", desc := "()V" } : Jvm.MethodName) "SwapWhile") ∈ lw_tbl := lw_at lw_m1 88 rfl
theorem q159 : (Jvm.Cond.fieldLinkNest "SwapWhile" (198 : Nat) "SwapWhile$Strand" "frames" "Ljava/util/List;" "SwapWhile") ∈ lw_tbl := lw_at lw_m1 95 rfl
theorem q161 : (Jvm.Cond.fieldLinkNest "SwapWhile" (390 : Nat) "SwapWhile$Strand" "state" "C" "SwapWhile") ∈ lw_tbl := lw_at lw_m1 97 rfl
theorem q167 : (Jvm.Cond.classLink "SwapWhile" (51 : Nat) "SwapWhile$Version") ∈ lw_all := lw_g (lw_at lw_m1 103 rfl) rfl
theorem q169 : (Jvm.Cond.methodLink "SwapWhile" (53 : Nat) ({ cls := "SwapWhile$Version", name := "<init>", desc := "()V" } : Jvm.MethodName)) ∈ lw_all := lw_g (lw_at lw_m1 105 rfl) rfl
theorem q217 : (Jvm.Cond.selects "SwapWhile" ({ cls := "java/lang/Object", name := "getClass", desc := "()Ljava/lang/Class;" } : Jvm.MethodName) ({ cls := "java/lang/Object", name := "getClass", desc := "()Ljava/lang/Class;" } : Jvm.MethodName)) ∈ lw_all := lw_g (lw_at lw_m1 153 rfl) rfl
theorem q273 : (Jvm.Cond.fieldLinkNest "SwapWhile" (96 : Nat) "SwapWhile$Version" "functions" "Ljava/util/List;" "SwapWhile") ∈ lw_tbl := lw_at lw_m1 209 rfl
theorem q275 : (Jvm.Cond.fieldLinkNest "SwapWhile" (113 : Nat) "SwapWhile$Version" "fields" "[I" "SwapWhile") ∈ lw_tbl := lw_at lw_m1 211 rfl
theorem q278 : (Jvm.Cond.fieldLinkNest "SwapWhile" (128 : Nat) "SwapWhile$Version" "forward" "[LSwapWhile$Carry;" "SwapWhile") ∈ lw_tbl := lw_at lw_m1 214 rfl
theorem q281 : (Jvm.Cond.fieldLinkNest "SwapWhile" (124 : Nat) "SwapWhile$Version" "back" "[LSwapWhile$Carry;" "SwapWhile") ∈ lw_tbl := lw_at lw_m1 217 rfl
theorem q283 : (Jvm.Cond.fieldLinkNest "SwapWhile" (139 : Nat) "SwapWhile$Version" "maps" "[[I" "SwapWhile") ∈ lw_tbl := lw_at lw_m1 219 rfl
theorem q296 : (Jvm.Cond.interfaceEntry "SwapWhile" (54 : Nat)) ∈ lw_tbl := lw_at lw_m1 232 rfl
theorem q297 : (Jvm.Cond.methodLink "SwapWhile" (54 : Nat) ({ cls := "java/util/List", name := "add", desc := "(Ljava/lang/Object;)Z" } : Jvm.MethodName)) ∈ lw_all := lw_g (lw_at lw_m1 233 rfl) rfl
theorem q298 : (Jvm.Cond.interfaceEntry "SwapWhile" (60 : Nat)) ∈ lw_tbl := lw_at lw_m1 234 rfl
theorem q299 : (Jvm.Cond.methodLink "SwapWhile" (60 : Nat) ({ cls := "java/util/List", name := "get", desc := "(I)Ljava/lang/Object;" } : Jvm.MethodName)) ∈ lw_all := lw_g (lw_at lw_m1 235 rfl) rfl
theorem q317 : (Jvm.Cond.methodLink "SwapWhile" (64 : Nat) ({ cls := "SwapWhile$Version", name := "<init>", desc := "(LSwapWhile$Version;)V" } : Jvm.MethodName)) ∈ lw_all := lw_g (lw_at lw_m2 13 rfl) rfl
theorem q355 : (Jvm.Cond.fieldLinkNest "SwapWhile" (131 : Nat) "SwapWhile$Carry" "from" "[I" "SwapWhile") ∈ lw_tbl := lw_at lw_m2 51 rfl
theorem q357 : (Jvm.Cond.fieldLinkNest "SwapWhile" (136 : Nat) "SwapWhile$Carry" "numbers" "[I" "SwapWhile") ∈ lw_tbl := lw_at lw_m2 53 rfl
theorem q363 : (Jvm.Cond.fieldLink "SwapWhile" (22 : Nat) "SwapWhile" "versions" "Ljava/util/List;") ∈ lw_all := lw_g (lw_at lw_m2 59 rfl) rfl
theorem q364 : (Jvm.Cond.fieldLink "SwapWhile" (28 : Nat) "SwapWhile" "things" "Ljava/util/List;") ∈ lw_all := lw_g (lw_at lw_m2 60 rfl) rfl
theorem q365 : (Jvm.Cond.fieldLink "SwapWhile" (34 : Nat) "SwapWhile" "strands" "[LSwapWhile$Strand;") ∈ lw_all := lw_g (lw_at lw_m2 61 rfl) rfl
theorem q366 : (Jvm.Cond.fieldLink "SwapWhile" (38 : Nat) "SwapWhile" "changes" "Ljava/util/List;") ∈ lw_all := lw_g (lw_at lw_m2 62 rfl) rfl
theorem q367 : (Jvm.Cond.fieldLink "SwapWhile" (41 : Nat) "SwapWhile" "queue" "Ljava/util/List;") ∈ lw_all := lw_g (lw_at lw_m2 63 rfl) rfl
theorem q368 : (Jvm.Cond.fieldLink "SwapWhile" (44 : Nat) "SwapWhile" "puts" "Ljava/util/List;") ∈ lw_all := lw_g (lw_at lw_m2 64 rfl) rfl
theorem q369 : (Jvm.Cond.fieldLink "SwapWhile" (47 : Nat) "SwapWhile" "table" "[I") ∈ lw_all := lw_g (lw_at lw_m2 65 rfl) rfl
theorem q370 : (Jvm.Cond.fieldLink "SwapWhile" (67 : Nat) "SwapWhile" "draft" "LSwapWhile$Version;") ∈ lw_all := lw_g (lw_at lw_m2 66 rfl) rfl
theorem q371 : (Jvm.Cond.fieldLink "SwapWhile" (158 : Nat) "SwapWhile" "present" "I") ∈ lw_all := lw_g (lw_at lw_m2 67 rfl) rfl
theorem q372 : (Jvm.Cond.fieldLink "SwapWhile" (334 : Nat) "SwapWhile" "limit" "I") ∈ lw_all := lw_g (lw_at lw_m2 68 rfl) rfl
theorem q373 : (Jvm.Cond.fieldLink "SwapWhile" (331 : Nat) "SwapWhile" "isWatched" "Z") ∈ lw_all := lw_g (lw_at lw_m2 69 rfl) rfl
theorem q374 : (Jvm.Cond.fieldLink "SwapWhile" (291 : Nat) "SwapWhile" "steps" "J") ∈ lw_all := lw_g (lw_at lw_m2 70 rfl) rfl
theorem q375 : (Jvm.Cond.laysFinal "SwapWhile" "SwapWhile" "versions" "Ljava/util/List;") ∈ lw_all := lw_g (lw_at lw_m2 71 rfl) rfl
theorem q376 : (Jvm.Cond.soleField "SwapWhile" "versions") ∈ lw_all := lw_g (lw_at lw_m2 72 rfl) rfl
theorem q377 : (Jvm.Cond.laysFinal "SwapWhile" "SwapWhile" "things" "Ljava/util/List;") ∈ lw_all := lw_g (lw_at lw_m2 73 rfl) rfl
theorem q378 : (Jvm.Cond.soleField "SwapWhile" "things") ∈ lw_all := lw_g (lw_at lw_m2 74 rfl) rfl
theorem q379 : (Jvm.Cond.laysFinal "SwapWhile" "SwapWhile" "strands" "[LSwapWhile$Strand;") ∈ lw_all := lw_g (lw_at lw_m2 75 rfl) rfl
theorem q380 : (Jvm.Cond.soleField "SwapWhile" "strands") ∈ lw_all := lw_g (lw_at lw_m2 76 rfl) rfl
theorem q381 : (Jvm.Cond.laysFinal "SwapWhile" "SwapWhile" "changes" "Ljava/util/List;") ∈ lw_all := lw_g (lw_at lw_m2 77 rfl) rfl
theorem q382 : (Jvm.Cond.soleField "SwapWhile" "changes") ∈ lw_all := lw_g (lw_at lw_m2 78 rfl) rfl
theorem q383 : (Jvm.Cond.laysFinal "SwapWhile" "SwapWhile" "queue" "Ljava/util/List;") ∈ lw_all := lw_g (lw_at lw_m2 79 rfl) rfl
theorem q384 : (Jvm.Cond.soleField "SwapWhile" "queue") ∈ lw_all := lw_g (lw_at lw_m2 80 rfl) rfl
theorem q385 : (Jvm.Cond.laysFinal "SwapWhile" "SwapWhile" "puts" "Ljava/util/List;") ∈ lw_all := lw_g (lw_at lw_m2 81 rfl) rfl
theorem q386 : (Jvm.Cond.soleField "SwapWhile" "puts") ∈ lw_all := lw_g (lw_at lw_m2 82 rfl) rfl
theorem q387 : (Jvm.Cond.laysFinal "SwapWhile" "SwapWhile" "table" "[I") ∈ lw_all := lw_g (lw_at lw_m2 83 rfl) rfl
theorem q388 : (Jvm.Cond.soleField "SwapWhile" "table") ∈ lw_all := lw_g (lw_at lw_m2 84 rfl) rfl
theorem q389 : (Jvm.Cond.lays "SwapWhile" "SwapWhile" "draft" "LSwapWhile$Version;") ∈ lw_all := lw_g (lw_at lw_m2 85 rfl) rfl
theorem q390 : (Jvm.Cond.soleField "SwapWhile" "draft") ∈ lw_all := lw_g (lw_at lw_m2 86 rfl) rfl
theorem q391 : (Jvm.Cond.lays "SwapWhile" "SwapWhile" "present" "I") ∈ lw_all := lw_g (lw_at lw_m2 87 rfl) rfl
theorem q392 : (Jvm.Cond.soleField "SwapWhile" "present") ∈ lw_all := lw_g (lw_at lw_m2 88 rfl) rfl
theorem q393 : (Jvm.Cond.lays "SwapWhile" "SwapWhile" "limit" "I") ∈ lw_all := lw_g (lw_at lw_m2 89 rfl) rfl
theorem q394 : (Jvm.Cond.soleField "SwapWhile" "limit") ∈ lw_all := lw_g (lw_at lw_m2 90 rfl) rfl
theorem q395 : (Jvm.Cond.lays "SwapWhile" "SwapWhile" "isWatched" "Z") ∈ lw_all := lw_g (lw_at lw_m2 91 rfl) rfl
theorem q396 : (Jvm.Cond.soleField "SwapWhile" "isWatched") ∈ lw_all := lw_g (lw_at lw_m2 92 rfl) rfl
theorem q397 : (Jvm.Cond.lays "SwapWhile" "SwapWhile" "steps" "J") ∈ lw_all := lw_g (lw_at lw_m2 93 rfl) rfl
theorem q398 : (Jvm.Cond.soleField "SwapWhile" "steps") ∈ lw_all := lw_g (lw_at lw_m2 94 rfl) rfl
theorem q399 : (Jvm.Cond.superclass "SwapWhile" "java/lang/Object") ∈ lw_all := lw_g (lw_at lw_m2 95 rfl) rfl
theorem q401 : (Jvm.Cond.instanceMethod ({ cls := "SwapWhile", name := "queued", desc := "()I" } : Jvm.MethodName)) ∈ lw_all := lw_g (lw_at lw_m2 97 rfl) rfl
theorem q402 : (Jvm.Cond.selects "SwapWhile" ({ cls := "SwapWhile", name := "queued", desc := "()I" } : Jvm.MethodName) ({ cls := "SwapWhile", name := "queued", desc := "()I" } : Jvm.MethodName)) ∈ lw_all := lw_g (lw_at lw_m2 98 rfl) rfl
theorem q403 : (Jvm.Cond.code ({ cls := "SwapWhile", name := "queued", desc := "()I" } : Jvm.MethodName) prog_1_method_49_code (1 : Nat) (Option.some Jvm.ClassFile.FieldType.int)) ∈ lw_all := lw_g (lw_at lw_m2 99 rfl) rfl
theorem q404 : (Jvm.Cond.interfaceEntry "SwapWhile" (71 : Nat)) ∈ lw_tbl := lw_at lw_m2 100 rfl
theorem q405 : (Jvm.Cond.methodLink "SwapWhile" (71 : Nat) ({ cls := "java/util/List", name := "size", desc := "()I" } : Jvm.MethodName)) ∈ lw_all := lw_g (lw_at lw_m2 101 rfl) rfl
theorem q414 : (Jvm.Cond.instanceMethod ({ cls := "SwapWhile", name := "present", desc := "()I" } : Jvm.MethodName)) ∈ lw_all := lw_g (lw_at lw_m2 110 rfl) rfl
theorem q415 : (Jvm.Cond.selects "SwapWhile" ({ cls := "SwapWhile", name := "present", desc := "()I" } : Jvm.MethodName) ({ cls := "SwapWhile", name := "present", desc := "()I" } : Jvm.MethodName)) ∈ lw_all := lw_g (lw_at lw_m2 111 rfl) rfl
theorem q416 : (Jvm.Cond.code ({ cls := "SwapWhile", name := "present", desc := "()I" } : Jvm.MethodName) prog_1_method_50_code (1 : Nat) (Option.some Jvm.ClassFile.FieldType.int)) ∈ lw_all := lw_g (lw_at lw_m2 112 rfl) rfl
theorem q418 : (Jvm.Cond.instanceMethod ({ cls := "SwapWhile", name := "versions", desc := "()I" } : Jvm.MethodName)) ∈ lw_all := lw_g (lw_at lw_m2 114 rfl) rfl
theorem q419 : (Jvm.Cond.selects "SwapWhile" ({ cls := "SwapWhile", name := "versions", desc := "()I" } : Jvm.MethodName) ({ cls := "SwapWhile", name := "versions", desc := "()I" } : Jvm.MethodName)) ∈ lw_all := lw_g (lw_at lw_m2 115 rfl) rfl
theorem q420 : (Jvm.Cond.code ({ cls := "SwapWhile", name := "versions", desc := "()I" } : Jvm.MethodName) prog_1_method_51_code (1 : Nat) (Option.some Jvm.ClassFile.FieldType.int)) ∈ lw_all := lw_g (lw_at lw_m2 116 rfl) rfl
theorem q422 : (Jvm.Cond.instanceMethod ({ cls := "SwapWhile", name := "watch", desc := "(I)Z" } : Jvm.MethodName)) ∈ lw_all := lw_g (lw_at lw_m2 118 rfl) rfl
theorem q423 : (Jvm.Cond.selects "SwapWhile" ({ cls := "SwapWhile", name := "watch", desc := "(I)Z" } : Jvm.MethodName) ({ cls := "SwapWhile", name := "watch", desc := "(I)Z" } : Jvm.MethodName)) ∈ lw_all := lw_g (lw_at lw_m2 119 rfl) rfl
theorem q424 : (Jvm.Cond.code ({ cls := "SwapWhile", name := "watch", desc := "(I)Z" } : Jvm.MethodName) prog_1_method_53_code (3 : Nat) (Option.some Jvm.ClassFile.FieldType.boolean)) ∈ lw_all := lw_g (lw_at lw_m2 120 rfl) rfl
theorem q426 : (Jvm.Cond.instanceMethod ({ cls := "SwapWhile", name := "isWatched", desc := "()Z" } : Jvm.MethodName)) ∈ lw_all := lw_g (lw_at lw_m2 122 rfl) rfl
theorem q427 : (Jvm.Cond.selects "SwapWhile" ({ cls := "SwapWhile", name := "isWatched", desc := "()Z" } : Jvm.MethodName) ({ cls := "SwapWhile", name := "isWatched", desc := "()Z" } : Jvm.MethodName)) ∈ lw_all := lw_g (lw_at lw_m2 123 rfl) rfl
theorem q428 : (Jvm.Cond.code ({ cls := "SwapWhile", name := "isWatched", desc := "()Z" } : Jvm.MethodName) prog_1_method_54_code (1 : Nat) (Option.some Jvm.ClassFile.FieldType.boolean)) ∈ lw_all := lw_g (lw_at lw_m2 124 rfl) rfl
theorem q430 : (Jvm.Cond.instanceMethod ({ cls := "SwapWhile", name := "objects", desc := "()I" } : Jvm.MethodName)) ∈ lw_all := lw_g (lw_at lw_m2 126 rfl) rfl
theorem q431 : (Jvm.Cond.selects "SwapWhile" ({ cls := "SwapWhile", name := "objects", desc := "()I" } : Jvm.MethodName) ({ cls := "SwapWhile", name := "objects", desc := "()I" } : Jvm.MethodName)) ∈ lw_all := lw_g (lw_at lw_m2 127 rfl) rfl
theorem q432 : (Jvm.Cond.code ({ cls := "SwapWhile", name := "objects", desc := "()I" } : Jvm.MethodName) prog_1_method_55_code (1 : Nat) (Option.some Jvm.ClassFile.FieldType.int)) ∈ lw_all := lw_g (lw_at lw_m2 128 rfl) rfl
theorem q434 : (Jvm.Cond.instanceMethod ({ cls := "SwapWhile", name := "puts", desc := "()I" } : Jvm.MethodName)) ∈ lw_all := lw_g (lw_at lw_m2 130 rfl) rfl
theorem q435 : (Jvm.Cond.selects "SwapWhile" ({ cls := "SwapWhile", name := "puts", desc := "()I" } : Jvm.MethodName) ({ cls := "SwapWhile", name := "puts", desc := "()I" } : Jvm.MethodName)) ∈ lw_all := lw_g (lw_at lw_m2 131 rfl) rfl
theorem q436 : (Jvm.Cond.code ({ cls := "SwapWhile", name := "puts", desc := "()I" } : Jvm.MethodName) prog_1_method_61_code (1 : Nat) (Option.some Jvm.ClassFile.FieldType.int)) ∈ lw_all := lw_g (lw_at lw_m2 132 rfl) rfl
theorem q438 : (Jvm.Cond.instanceMethod ({ cls := "SwapWhile", name := "steps", desc := "()J" } : Jvm.MethodName)) ∈ lw_all := lw_g (lw_at lw_m2 134 rfl) rfl
theorem q439 : (Jvm.Cond.selects "SwapWhile" ({ cls := "SwapWhile", name := "steps", desc := "()J" } : Jvm.MethodName) ({ cls := "SwapWhile", name := "steps", desc := "()J" } : Jvm.MethodName)) ∈ lw_all := lw_g (lw_at lw_m2 135 rfl) rfl
theorem q440 : (Jvm.Cond.code ({ cls := "SwapWhile", name := "steps", desc := "()J" } : Jvm.MethodName) prog_1_method_65_code (1 : Nat) (Option.some Jvm.ClassFile.FieldType.long)) ∈ lw_all := lw_g (lw_at lw_m2 136 rfl) rfl
theorem q447 : (Jvm.Cond.instanceMethod ({ cls := "SwapWhile", name := "add", desc := "(ICIII)I" } : Jvm.MethodName)) ∈ lw_all := lw_g (lw_at lw_m2 143 rfl) rfl
theorem q448 : (Jvm.Cond.selects "SwapWhile" ({ cls := "SwapWhile", name := "add", desc := "(ICIII)I" } : Jvm.MethodName) ({ cls := "SwapWhile", name := "add", desc := "(ICIII)I" } : Jvm.MethodName)) ∈ lw_all := lw_g (lw_at lw_m2 144 rfl) rfl
theorem q449 : (Jvm.Cond.code ({ cls := "SwapWhile", name := "add", desc := "(ICIII)I" } : Jvm.MethodName) prog_1_method_11_code (8 : Nat) (Option.some Jvm.ClassFile.FieldType.int)) ∈ lw_all := lw_g (lw_at lw_m2 145 rfl) rfl
theorem q450 : (Jvm.Cond.methodLink "SwapWhile" (83 : Nat) ({ cls := "SwapWhile", name := "requireFunction", desc := "(I)V" } : Jvm.MethodName)) ∈ lw_all := lw_g (lw_at lw_m2 146 rfl) rfl
theorem q451 : (Jvm.Cond.static ({ cls := "SwapWhile", name := "requireFunction", desc := "(I)V" } : Jvm.MethodName)) ∈ lw_all := lw_g (lw_at lw_m2 147 rfl) rfl
theorem q452 : (Jvm.Cond.code ({ cls := "SwapWhile", name := "requireFunction", desc := "(I)V" } : Jvm.MethodName) prog_1_method_8_code (1 : Nat) (Option.none : Option Jvm.ClassFile.FieldType)) ∈ lw_all := lw_g (lw_at lw_m2 148 rfl) rfl
theorem q453 : (Jvm.Cond.methodLink "SwapWhile" (75 : Nat) ({ cls := "SwapWhile", name := "isIn", desc := "(III)Z" } : Jvm.MethodName)) ∈ lw_all := lw_g (lw_at lw_m2 149 rfl) rfl
theorem q454 : (Jvm.Cond.static ({ cls := "SwapWhile", name := "isIn", desc := "(III)Z" } : Jvm.MethodName)) ∈ lw_all := lw_g (lw_at lw_m2 150 rfl) rfl
theorem q455 : (Jvm.Cond.code ({ cls := "SwapWhile", name := "isIn", desc := "(III)Z" } : Jvm.MethodName) prog_1_method_1_code (3 : Nat) (Option.some Jvm.ClassFile.FieldType.boolean)) ∈ lw_all := lw_g (lw_at lw_m2 151 rfl) rfl
theorem q456 : (Jvm.Cond.methodLink "SwapWhile" (79 : Nat) ({ cls := "SwapWhile", name := "requireValid", desc := "(Z)V" } : Jvm.MethodName)) ∈ lw_all := lw_g (lw_at lw_m2 152 rfl) rfl
theorem q457 : (Jvm.Cond.static ({ cls := "SwapWhile", name := "requireValid", desc := "(Z)V" } : Jvm.MethodName)) ∈ lw_all := lw_g (lw_at lw_m2 153 rfl) rfl
theorem q458 : (Jvm.Cond.code ({ cls := "SwapWhile", name := "requireValid", desc := "(Z)V" } : Jvm.MethodName) prog_1_method_3_code (1 : Nat) (Option.none : Option Jvm.ClassFile.FieldType)) ∈ lw_all := lw_g (lw_at lw_m2 154 rfl) rfl
theorem q459 : (Jvm.Cond.classLink "SwapWhile" (7 : Nat) "java/lang/IllegalArgumentException") ∈ lw_all := lw_g (lw_at lw_m2 155 rfl) rfl
theorem q503 : (Jvm.Cond.methodLink "SwapWhile" (9 : Nat) ({ cls := "java/lang/IllegalArgumentException", name := "<init>", desc := "()V" } : Jvm.MethodName)) ∈ lw_all := lw_g (lw_at lw_m2 199 rfl) rfl
theorem q526 : (Jvm.Cond.methodLink "SwapWhile" (87 : Nat) ({ cls := "SwapWhile$Code", name := "by", desc := "(C)LSwapWhile$Code;" } : Jvm.MethodName)) ∈ lw_all := lw_g (lw_at lw_m2 222 rfl) rfl
theorem q542 : (Jvm.Cond.methodLink "SwapWhile" (93 : Nat) ({ cls := "SwapWhile$Code", name := "areIn", desc := "(III)Z" } : Jvm.MethodName)) ∈ lw_all := lw_g (lw_at lw_m2 238 rfl) rfl
theorem q583 : (Jvm.Cond.classLink "SwapWhile" (55 : Nat) "java/util/List") ∈ lw_all := lw_g (lw_at lw_m3 39 rfl) rfl
theorem q584 : (Jvm.Cond.methodLink "SwapWhile" (99 : Nat) ({ cls := "SwapWhile", name := "requireState", desc := "(Z)V" } : Jvm.MethodName)) ∈ lw_all := lw_g (lw_at lw_m3 40 rfl) rfl
theorem q585 : (Jvm.Cond.static ({ cls := "SwapWhile", name := "requireState", desc := "(Z)V" } : Jvm.MethodName)) ∈ lw_all := lw_g (lw_at lw_m3 41 rfl) rfl
theorem q586 : (Jvm.Cond.code ({ cls := "SwapWhile", name := "requireState", desc := "(Z)V" } : Jvm.MethodName) prog_1_method_4_code (1 : Nat) (Option.none : Option Jvm.ClassFile.FieldType)) ∈ lw_all := lw_g (lw_at lw_m3 42 rfl) rfl
theorem q587 : (Jvm.Cond.classLink "SwapWhile" (10 : Nat) "java/lang/IllegalStateException") ∈ lw_all := lw_g (lw_at lw_m3 43 rfl) rfl
theorem q596 : (Jvm.Cond.methodLink "SwapWhile" (12 : Nat) ({ cls := "java/lang/IllegalStateException", name := "<init>", desc := "()V" } : Jvm.MethodName)) ∈ lw_all := lw_g (lw_at lw_m3 52 rfl) rfl
theorem q602 : (Jvm.Cond.classLink "SwapWhile" (102 : Nat) "SwapWhile$Instruction") ∈ lw_all := lw_g (lw_at lw_m3 58 rfl) rfl
theorem q604 : (Jvm.Cond.methodLink "SwapWhile" (104 : Nat) ({ cls := "SwapWhile$Instruction", name := "<init>", desc := "(LSwapWhile$Code;III)V" } : Jvm.MethodName)) ∈ lw_all := lw_g (lw_at lw_m3 60 rfl) rfl
theorem q614 : (Jvm.Cond.fieldLinkNest "SwapWhile" (357 : Nat) "SwapWhile$Instruction" "code" "LSwapWhile$Code;" "SwapWhile") ∈ lw_tbl := lw_at lw_m3 70 rfl
theorem q616 : (Jvm.Cond.fieldLinkNest "SwapWhile" (347 : Nat) "SwapWhile$Instruction" "a" "I" "SwapWhile") ∈ lw_tbl := lw_at lw_m3 72 rfl
theorem q621 : (Jvm.Cond.fieldLinkNest "SwapWhile" (341 : Nat) "SwapWhile$Instruction" "b" "I" "SwapWhile") ∈ lw_tbl := lw_at lw_m3 77 rfl
theorem q623 : (Jvm.Cond.fieldLinkNest "SwapWhile" (350 : Nat) "SwapWhile$Instruction" "c" "I" "SwapWhile") ∈ lw_tbl := lw_at lw_m3 79 rfl
theorem q637 : (Jvm.Cond.instanceMethod ({ cls := "SwapWhile", name := "empty", desc := "(I)I" } : Jvm.MethodName)) ∈ lw_all := lw_g (lw_at lw_m3 93 rfl) rfl
theorem q638 : (Jvm.Cond.selects "SwapWhile" ({ cls := "SwapWhile", name := "empty", desc := "(I)I" } : Jvm.MethodName) ({ cls := "SwapWhile", name := "empty", desc := "(I)I" } : Jvm.MethodName)) ∈ lw_all := lw_g (lw_at lw_m3 94 rfl) rfl
theorem q639 : (Jvm.Cond.code ({ cls := "SwapWhile", name := "empty", desc := "(I)I" } : Jvm.MethodName) prog_1_method_12_code (3 : Nat) (Option.some Jvm.ClassFile.FieldType.int)) ∈ lw_all := lw_g (lw_at lw_m3 95 rfl) rfl
theorem q640 : (Jvm.Cond.interfaceEntry "SwapWhile" (107 : Nat)) ∈ lw_tbl := lw_at lw_m3 96 rfl
theorem q641 : (Jvm.Cond.methodLink "SwapWhile" (107 : Nat) ({ cls := "java/util/List", name := "clear", desc := "()V" } : Jvm.MethodName)) ∈ lw_all := lw_g (lw_at lw_m3 97 rfl) rfl
theorem q653 : (Jvm.Cond.instanceMethod ({ cls := "SwapWhile", name := "setFields", desc := "(II)I" } : Jvm.MethodName)) ∈ lw_all := lw_g (lw_at lw_m3 109 rfl) rfl
theorem q654 : (Jvm.Cond.selects "SwapWhile" ({ cls := "SwapWhile", name := "setFields", desc := "(II)I" } : Jvm.MethodName) ({ cls := "SwapWhile", name := "setFields", desc := "(II)I" } : Jvm.MethodName)) ∈ lw_all := lw_g (lw_at lw_m3 110 rfl) rfl
theorem q655 : (Jvm.Cond.code ({ cls := "SwapWhile", name := "setFields", desc := "(II)I" } : Jvm.MethodName) prog_1_method_13_code (4 : Nat) (Option.some Jvm.ClassFile.FieldType.int)) ∈ lw_all := lw_g (lw_at lw_m3 111 rfl) rfl
theorem q656 : (Jvm.Cond.methodLink "SwapWhile" (110 : Nat) ({ cls := "SwapWhile", name := "requireKind", desc := "(I)V" } : Jvm.MethodName)) ∈ lw_all := lw_g (lw_at lw_m3 112 rfl) rfl
theorem q657 : (Jvm.Cond.static ({ cls := "SwapWhile", name := "requireKind", desc := "(I)V" } : Jvm.MethodName)) ∈ lw_all := lw_g (lw_at lw_m3 113 rfl) rfl
theorem q658 : (Jvm.Cond.code ({ cls := "SwapWhile", name := "requireKind", desc := "(I)V" } : Jvm.MethodName) prog_1_method_9_code (1 : Nat) (Option.none : Option Jvm.ClassFile.FieldType)) ∈ lw_all := lw_g (lw_at lw_m3 114 rfl) rfl
theorem q659 : (Jvm.Cond.methodLink "SwapWhile" (116 : Nat) ({ cls := "SwapWhile", name := "latest", desc := "()LSwapWhile$Version;" } : Jvm.MethodName)) ∈ lw_all := lw_g (lw_at lw_m3 115 rfl) rfl
theorem q660 : (Jvm.Cond.privateMethod ({ cls := "SwapWhile", name := "latest", desc := "()LSwapWhile$Version;" } : Jvm.MethodName)) ∈ lw_tbl := lw_at lw_m3 116 rfl
theorem q661 : (Jvm.Cond.instanceMethod ({ cls := "SwapWhile", name := "latest", desc := "()LSwapWhile$Version;" } : Jvm.MethodName)) ∈ lw_all := lw_g (lw_at lw_m3 117 rfl) rfl
theorem q662 : (Jvm.Cond.code ({ cls := "SwapWhile", name := "latest", desc := "()LSwapWhile$Version;" } : Jvm.MethodName) prog_1_method_7_code (1 : Nat) (Option.some (Jvm.ClassFile.FieldType.object "SwapWhile$Version"))) ∈ lw_all := lw_g (lw_at lw_m3 118 rfl) rfl
theorem q663 : (Jvm.Cond.methodLink "SwapWhile" (120 : Nat) ({ cls := "SwapWhile$Version", name := "setFields", desc := "(III)V" } : Jvm.MethodName)) ∈ lw_all := lw_g (lw_at lw_m3 119 rfl) rfl
theorem q668 : (Jvm.Cond.instanceMethod ({ cls := "SwapWhile", name := "setCarry", desc := "(IZIII)I" } : Jvm.MethodName)) ∈ lw_all := lw_g (lw_at lw_m3 124 rfl) rfl
theorem q669 : (Jvm.Cond.selects "SwapWhile" ({ cls := "SwapWhile", name := "setCarry", desc := "(IZIII)I" } : Jvm.MethodName) ({ cls := "SwapWhile", name := "setCarry", desc := "(IZIII)I" } : Jvm.MethodName)) ∈ lw_all := lw_g (lw_at lw_m3 125 rfl) rfl
theorem q670 : (Jvm.Cond.code ({ cls := "SwapWhile", name := "setCarry", desc := "(IZIII)I" } : Jvm.MethodName) prog_1_method_14_code (10 : Nat) (Option.some Jvm.ClassFile.FieldType.int)) ∈ lw_all := lw_g (lw_at lw_m3 126 rfl) rfl
theorem q675 : (Jvm.Cond.instanceMethod ({ cls := "SwapWhile", name := "map", desc := "(III)I" } : Jvm.MethodName)) ∈ lw_all := lw_g (lw_at lw_m3 131 rfl) rfl
theorem q676 : (Jvm.Cond.selects "SwapWhile" ({ cls := "SwapWhile", name := "map", desc := "(III)I" } : Jvm.MethodName) ({ cls := "SwapWhile", name := "map", desc := "(III)I" } : Jvm.MethodName)) ∈ lw_all := lw_g (lw_at lw_m3 132 rfl) rfl
theorem q677 : (Jvm.Cond.code ({ cls := "SwapWhile", name := "map", desc := "(III)I" } : Jvm.MethodName) prog_1_method_15_code (4 : Nat) (Option.some Jvm.ClassFile.FieldType.int)) ∈ lw_all := lw_g (lw_at lw_m3 133 rfl) rfl
theorem q678 : (Jvm.Cond.methodLink "SwapWhile" (143 : Nat) ({ cls := "SwapWhile$Version", name := "countMapped", desc := "(I)I" } : Jvm.MethodName)) ∈ lw_all := lw_g (lw_at lw_m3 134 rfl) rfl
theorem q686 : (Jvm.Cond.instanceMethod ({ cls := "SwapWhile", name := "publish", desc := "()I" } : Jvm.MethodName)) ∈ lw_all := lw_g (lw_at lw_m3 142 rfl) rfl
theorem q687 : (Jvm.Cond.selects "SwapWhile" ({ cls := "SwapWhile", name := "publish", desc := "()I" } : Jvm.MethodName) ({ cls := "SwapWhile", name := "publish", desc := "()I" } : Jvm.MethodName)) ∈ lw_all := lw_g (lw_at lw_m3 143 rfl) rfl
theorem q688 : (Jvm.Cond.code ({ cls := "SwapWhile", name := "publish", desc := "()I" } : Jvm.MethodName) prog_1_method_16_code (1 : Nat) (Option.some Jvm.ClassFile.FieldType.int)) ∈ lw_all := lw_g (lw_at lw_m3 144 rfl) rfl
theorem q689 : (Jvm.Cond.methodLink "SwapWhile" (147 : Nat) ({ cls := "SwapWhile$Version", name := "dropMapsBeyond", desc := "()V" } : Jvm.MethodName)) ∈ lw_all := lw_g (lw_at lw_m3 145 rfl) rfl
theorem q732 : (Jvm.Cond.instanceMethod ({ cls := "SwapWhile", name := "isTouched", desc := "(II)Z" } : Jvm.MethodName)) ∈ lw_all := lw_g (lw_at lw_m3 188 rfl) rfl
theorem q733 : (Jvm.Cond.selects "SwapWhile" ({ cls := "SwapWhile", name := "isTouched", desc := "(II)Z" } : Jvm.MethodName) ({ cls := "SwapWhile", name := "isTouched", desc := "(II)Z" } : Jvm.MethodName)) ∈ lw_all := lw_g (lw_at lw_m3 189 rfl) rfl
theorem q734 : (Jvm.Cond.code ({ cls := "SwapWhile", name := "isTouched", desc := "(II)Z" } : Jvm.MethodName) prog_1_method_17_code (3 : Nat) (Option.some Jvm.ClassFile.FieldType.boolean)) ∈ lw_all := lw_g (lw_at lw_m3 190 rfl) rfl
theorem q735 : (Jvm.Cond.methodLink "SwapWhile" (150 : Nat) ({ cls := "SwapWhile", name := "requireIndex", desc := "(II)V" } : Jvm.MethodName)) ∈ lw_all := lw_g (lw_at lw_m3 191 rfl) rfl
theorem q736 : (Jvm.Cond.static ({ cls := "SwapWhile", name := "requireIndex", desc := "(II)V" } : Jvm.MethodName)) ∈ lw_all := lw_g (lw_at lw_m3 192 rfl) rfl
theorem q737 : (Jvm.Cond.code ({ cls := "SwapWhile", name := "requireIndex", desc := "(II)V" } : Jvm.MethodName) prog_1_method_2_code (2 : Nat) (Option.none : Option Jvm.ClassFile.FieldType)) ∈ lw_all := lw_g (lw_at lw_m3 193 rfl) rfl
theorem q738 : (Jvm.Cond.classLink "SwapWhile" (1 : Nat) "java/lang/IndexOutOfBoundsException") ∈ lw_all := lw_g (lw_at lw_m3 194 rfl) rfl
theorem q747 : (Jvm.Cond.methodLink "SwapWhile" (3 : Nat) ({ cls := "java/lang/IndexOutOfBoundsException", name := "<init>", desc := "()V" } : Jvm.MethodName)) ∈ lw_all := lw_g (lw_at lw_m3 203 rfl) rfl
theorem q753 : (Jvm.Cond.methodLink "SwapWhile" (154 : Nat) ({ cls := "SwapWhile$Version", name := "touches", desc := "(LSwapWhile$Version;I)Z" } : Jvm.MethodName)) ∈ lw_all := lw_g (lw_at lw_m3 209 rfl) rfl
theorem q780 : (Jvm.Cond.selects "SwapWhile" ({ cls := "java/lang/Object", name := "equals", desc := "(Ljava/lang/Object;)Z" } : Jvm.MethodName) ({ cls := "java/lang/Object", name := "equals", desc := "(Ljava/lang/Object;)Z" } : Jvm.MethodName)) ∈ lw_all := lw_g (lw_at lw_m3 236 rfl) rfl
theorem q940 : (Jvm.Cond.instanceMethod ({ cls := "SwapWhile", name := "start", desc := "(II)I" } : Jvm.MethodName)) ∈ lw_all := lw_g (lw_at lw_m4 156 rfl) rfl
theorem q941 : (Jvm.Cond.selects "SwapWhile" ({ cls := "SwapWhile", name := "start", desc := "(II)I" } : Jvm.MethodName) ({ cls := "SwapWhile", name := "start", desc := "(II)I" } : Jvm.MethodName)) ∈ lw_all := lw_g (lw_at lw_m4 157 rfl) rfl
theorem q942 : (Jvm.Cond.code ({ cls := "SwapWhile", name := "start", desc := "(II)I" } : Jvm.MethodName) prog_1_method_30_code (5 : Nat) (Option.some Jvm.ClassFile.FieldType.int)) ∈ lw_all := lw_g (lw_at lw_m4 158 rfl) rfl
theorem q943 : (Jvm.Cond.methodLink "SwapWhile" (303 : Nat) ({ cls := "SwapWhile", name := "strandAt", desc := "(I)LSwapWhile$Strand;" } : Jvm.MethodName)) ∈ lw_all := lw_g (lw_at lw_m4 159 rfl) rfl
theorem q944 : (Jvm.Cond.privateMethod ({ cls := "SwapWhile", name := "strandAt", desc := "(I)LSwapWhile$Strand;" } : Jvm.MethodName)) ∈ lw_tbl := lw_at lw_m4 160 rfl
theorem q945 : (Jvm.Cond.instanceMethod ({ cls := "SwapWhile", name := "strandAt", desc := "(I)LSwapWhile$Strand;" } : Jvm.MethodName)) ∈ lw_all := lw_g (lw_at lw_m4 161 rfl) rfl
theorem q946 : (Jvm.Cond.code ({ cls := "SwapWhile", name := "strandAt", desc := "(I)LSwapWhile$Strand;" } : Jvm.MethodName) prog_1_method_10_code (2 : Nat) (Option.some (Jvm.ClassFile.FieldType.object "SwapWhile$Strand"))) ∈ lw_all := lw_g (lw_at lw_m4 162 rfl) rfl
theorem q947 : (Jvm.Cond.methodLink "SwapWhile" (307 : Nat) ({ cls := "SwapWhile$Strand", name := "isAlive", desc := "()Z" } : Jvm.MethodName)) ∈ lw_all := lw_g (lw_at lw_m4 163 rfl) rfl
theorem q951 : (Jvm.Cond.methodLink "SwapWhile" (310 : Nat) ({ cls := "SwapWhile$Strand", name := "end", desc := "(C)V" } : Jvm.MethodName)) ∈ lw_all := lw_g (lw_at lw_m4 167 rfl) rfl
theorem q957 : (Jvm.Cond.classLink "SwapWhile" (181 : Nat) "SwapWhile$Frame") ∈ lw_all := lw_g (lw_at lw_m4 173 rfl) rfl
theorem q959 : (Jvm.Cond.methodLink "SwapWhile" (313 : Nat) ({ cls := "SwapWhile$Frame", name := "<init>", desc := "(IIII)V" } : Jvm.MethodName)) ∈ lw_all := lw_g (lw_at lw_m4 175 rfl) rfl
theorem q967 : (Jvm.Cond.fieldLinkNest "SwapWhile" (180 : Nat) "SwapWhile$Frame" "function" "I" "SwapWhile") ∈ lw_tbl := lw_at lw_m4 183 rfl
theorem q969 : (Jvm.Cond.fieldLinkNest "SwapWhile" (328 : Nat) "SwapWhile$Frame" "into" "I" "SwapWhile") ∈ lw_tbl := lw_at lw_m4 185 rfl
theorem q971 : (Jvm.Cond.fieldLinkNest "SwapWhile" (325 : Nat) "SwapWhile$Frame" "locals" "[I" "SwapWhile") ∈ lw_tbl := lw_at lw_m4 187 rfl
theorem q973 : (Jvm.Cond.fieldLinkNest "SwapWhile" (189 : Nat) "SwapWhile$Frame" "place" "I" "SwapWhile") ∈ lw_tbl := lw_at lw_m4 189 rfl
theorem q986 : (Jvm.Cond.methodLink "SwapWhile" (294 : Nat) ({ cls := "SwapWhile", name := "look", desc := "()V" } : Jvm.MethodName)) ∈ lw_all := lw_g (lw_at lw_m4 202 rfl) rfl
theorem q987 : (Jvm.Cond.privateMethod ({ cls := "SwapWhile", name := "look", desc := "()V" } : Jvm.MethodName)) ∈ lw_tbl := lw_at lw_m4 203 rfl
theorem q988 : (Jvm.Cond.instanceMethod ({ cls := "SwapWhile", name := "look", desc := "()V" } : Jvm.MethodName)) ∈ lw_all := lw_g (lw_at lw_m4 204 rfl) rfl
theorem q989 : (Jvm.Cond.code ({ cls := "SwapWhile", name := "look", desc := "()V" } : Jvm.MethodName) prog_1_method_26_code (4 : Nat) (Option.none : Option Jvm.ClassFile.FieldType)) ∈ lw_all := lw_g (lw_at lw_m4 205 rfl) rfl
theorem q990 : (Jvm.Cond.interfaceEntry "SwapWhile" (270 : Nat)) ∈ lw_tbl := lw_at lw_m4 206 rfl
theorem q991 : (Jvm.Cond.methodLink "SwapWhile" (270 : Nat) ({ cls := "java/util/List", name := "isEmpty", desc := "()Z" } : Jvm.MethodName)) ∈ lw_all := lw_g (lw_at lw_m4 207 rfl) rfl
theorem q999 : (Jvm.Cond.classLink "SwapWhile" (163 : Nat) "SwapWhile$Change") ∈ lw_all := lw_g (lw_at lw_m4 215 rfl) rfl
theorem q1000 : (Jvm.Cond.methodLink "SwapWhile" (225 : Nat) ({ cls := "SwapWhile", name := "canLead", desc := "(LSwapWhile$Change;)Z" } : Jvm.MethodName)) ∈ lw_all := lw_g (lw_at lw_m4 216 rfl) rfl
theorem q1001 : (Jvm.Cond.privateMethod ({ cls := "SwapWhile", name := "canLead", desc := "(LSwapWhile$Change;)Z" } : Jvm.MethodName)) ∈ lw_tbl := lw_at lw_m4 217 rfl
theorem q1002 : (Jvm.Cond.instanceMethod ({ cls := "SwapWhile", name := "canLead", desc := "(LSwapWhile$Change;)Z" } : Jvm.MethodName)) ∈ lw_all := lw_g (lw_at lw_m4 218 rfl) rfl
theorem q1003 : (Jvm.Cond.code ({ cls := "SwapWhile", name := "canLead", desc := "(LSwapWhile$Change;)Z" } : Jvm.MethodName) prog_1_method_23_code (2 : Nat) (Option.some Jvm.ClassFile.FieldType.boolean)) ∈ lw_all := lw_g (lw_at lw_m4 219 rfl) rfl
theorem q1004 : (Jvm.Cond.methodLink "SwapWhile" (162 : Nat) ({ cls := "SwapWhile$Change", name := "target", desc := "(I)I" } : Jvm.MethodName)) ∈ lw_all := lw_g (lw_at lw_m4 220 rfl) rfl
theorem q1008 : (Jvm.Cond.methodLink "SwapWhile" (273 : Nat) ({ cls := "SwapWhile", name := "countAgainst", desc := "(LSwapWhile$Change;)I" } : Jvm.MethodName)) ∈ lw_all := lw_g (lw_at lw_m4 224 rfl) rfl
theorem q1009 : (Jvm.Cond.privateMethod ({ cls := "SwapWhile", name := "countAgainst", desc := "(LSwapWhile$Change;)I" } : Jvm.MethodName)) ∈ lw_tbl := lw_at lw_m4 225 rfl
theorem q1010 : (Jvm.Cond.instanceMethod ({ cls := "SwapWhile", name := "countAgainst", desc := "(LSwapWhile$Change;)I" } : Jvm.MethodName)) ∈ lw_all := lw_g (lw_at lw_m4 226 rfl) rfl
theorem q1011 : (Jvm.Cond.code ({ cls := "SwapWhile", name := "countAgainst", desc := "(LSwapWhile$Change;)I" } : Jvm.MethodName) prog_1_method_22_code (4 : Nat) (Option.some Jvm.ClassFile.FieldType.int)) ∈ lw_all := lw_g (lw_at lw_m4 227 rfl) rfl
theorem q1012 : (Jvm.Cond.privateMethod ({ cls := "SwapWhile", name := "lambda$countAgainst$0", desc := "(ILSwapWhile$Change;LSwapWhile$Frame;)Z" } : Jvm.MethodName)) ∈ lw_tbl := lw_at lw_m4 228 rfl
theorem q1013 : (Jvm.Cond.instanceMethod ({ cls := "SwapWhile", name := "lambda$countAgainst$0", desc := "(ILSwapWhile$Change;LSwapWhile$Frame;)Z" } : Jvm.MethodName)) ∈ lw_all := lw_g (lw_at lw_m4 229 rfl) rfl
theorem q1014 : (Jvm.Cond.code ({ cls := "SwapWhile", name := "lambda$countAgainst$0", desc := "(ILSwapWhile$Change;LSwapWhile$Frame;)Z" } : Jvm.MethodName) prog_1_method_69_code (4 : Nat) (Option.some Jvm.ClassFile.FieldType.boolean)) ∈ lw_all := lw_g (lw_at lw_m4 230 rfl) rfl
theorem q1015 : (Jvm.Cond.methodLink "SwapWhile" (239 : Nat) ({ cls := "SwapWhile$Frame", name := "isOf", desc := "(I)Z" } : Jvm.MethodName)) ∈ lw_all := lw_g (lw_at lw_m4 231 rfl) rfl
theorem q1021 : (Jvm.Cond.methodLink "SwapWhile" (243 : Nat) ({ cls := "SwapWhile", name := "isTouched", desc := "(LSwapWhile$Change;LSwapWhile$Frame;)Z" } : Jvm.MethodName)) ∈ lw_all := lw_g (lw_at lw_m4 237 rfl) rfl
theorem q1022 : (Jvm.Cond.privateMethod ({ cls := "SwapWhile", name := "isTouched", desc := "(LSwapWhile$Change;LSwapWhile$Frame;)Z" } : Jvm.MethodName)) ∈ lw_tbl := lw_at lw_m4 238 rfl
theorem q1023 : (Jvm.Cond.instanceMethod ({ cls := "SwapWhile", name := "isTouched", desc := "(LSwapWhile$Change;LSwapWhile$Frame;)Z" } : Jvm.MethodName)) ∈ lw_all := lw_g (lw_at lw_m4 239 rfl) rfl
theorem q1024 : (Jvm.Cond.code ({ cls := "SwapWhile", name := "isTouched", desc := "(LSwapWhile$Change;LSwapWhile$Frame;)Z" } : Jvm.MethodName) prog_1_method_19_code (4 : Nat) (Option.some Jvm.ClassFile.FieldType.boolean)) ∈ lw_all := lw_g (lw_at lw_m5 0 rfl) rfl
theorem q1025 : (Jvm.Cond.methodLink "SwapWhile" (173 : Nat) ({ cls := "SwapWhile", name := "laterOf", desc := "(LSwapWhile$Change;)LSwapWhile$Version;" } : Jvm.MethodName)) ∈ lw_all := lw_g (lw_at lw_m5 1 rfl) rfl
theorem q1026 : (Jvm.Cond.privateMethod ({ cls := "SwapWhile", name := "laterOf", desc := "(LSwapWhile$Change;)LSwapWhile$Version;" } : Jvm.MethodName)) ∈ lw_tbl := lw_at lw_m5 2 rfl
theorem q1027 : (Jvm.Cond.instanceMethod ({ cls := "SwapWhile", name := "laterOf", desc := "(LSwapWhile$Change;)LSwapWhile$Version;" } : Jvm.MethodName)) ∈ lw_all := lw_g (lw_at lw_m5 3 rfl) rfl
theorem q1028 : (Jvm.Cond.code ({ cls := "SwapWhile", name := "laterOf", desc := "(LSwapWhile$Change;)LSwapWhile$Version;" } : Jvm.MethodName) prog_1_method_18_code (2 : Nat) (Option.some (Jvm.ClassFile.FieldType.object "SwapWhile$Version"))) ∈ lw_all := lw_g (lw_at lw_m5 4 rfl) rfl
theorem q1029 : (Jvm.Cond.methodLink "SwapWhile" (167 : Nat) ({ cls := "java/lang/Math", name := "max", desc := "(II)I" } : Jvm.MethodName)) ∈ lw_all := lw_g (lw_at lw_m5 5 rfl) rfl
theorem q1030 : (Jvm.Cond.methodLink "SwapWhile" (177 : Nat) ({ cls := "java/lang/Math", name := "min", desc := "(II)I" } : Jvm.MethodName)) ∈ lw_all := lw_g (lw_at lw_m5 6 rfl) rfl
theorem q1031 : (Jvm.Cond.privateMethod ({ cls := "SwapWhile", name := "lambda$countAgainst$1", desc := "(LSwapWhile$FrameTest;LSwapWhile$Change;LSwapWhile$Frame;)Z" } : Jvm.MethodName)) ∈ lw_tbl := lw_at lw_m5 7 rfl
theorem q1032 : (Jvm.Cond.instanceMethod ({ cls := "SwapWhile", name := "lambda$countAgainst$1", desc := "(LSwapWhile$FrameTest;LSwapWhile$Change;LSwapWhile$Frame;)Z" } : Jvm.MethodName)) ∈ lw_all := lw_g (lw_at lw_m5 8 rfl) rfl
theorem q1033 : (Jvm.Cond.code ({ cls := "SwapWhile", name := "lambda$countAgainst$1", desc := "(LSwapWhile$FrameTest;LSwapWhile$Change;LSwapWhile$Frame;)Z" } : Jvm.MethodName) prog_1_method_68_code (4 : Nat) (Option.some Jvm.ClassFile.FieldType.boolean)) ∈ lw_all := lw_g (lw_at lw_m5 9 rfl) rfl
theorem q1034 : (Jvm.Cond.interfaceEntry "SwapWhile" (215 : Nat)) ∈ lw_tbl := lw_at lw_m5 10 rfl
theorem q1035 : (Jvm.Cond.methodLink "SwapWhile" (215 : Nat) ({ cls := "SwapWhile$FrameTest", name := "holds", desc := "(LSwapWhile$Frame;)Z" } : Jvm.MethodName)) ∈ lw_all := lw_g (lw_at lw_m5 11 rfl) rfl
theorem q1038 : (Jvm.Cond.methodLink "SwapWhile" (247 : Nat) ({ cls := "SwapWhile", name := "placeFor", desc := "(LSwapWhile$Change;LSwapWhile$Frame;)I" } : Jvm.MethodName)) ∈ lw_all := lw_g (lw_at lw_m5 14 rfl) rfl
theorem q1039 : (Jvm.Cond.privateMethod ({ cls := "SwapWhile", name := "placeFor", desc := "(LSwapWhile$Change;LSwapWhile$Frame;)I" } : Jvm.MethodName)) ∈ lw_tbl := lw_at lw_m5 15 rfl
theorem q1040 : (Jvm.Cond.instanceMethod ({ cls := "SwapWhile", name := "placeFor", desc := "(LSwapWhile$Change;LSwapWhile$Frame;)I" } : Jvm.MethodName)) ∈ lw_all := lw_g (lw_at lw_m5 16 rfl) rfl
theorem q1041 : (Jvm.Cond.code ({ cls := "SwapWhile", name := "placeFor", desc := "(LSwapWhile$Change;LSwapWhile$Frame;)I" } : Jvm.MethodName) prog_1_method_20_code (4 : Nat) (Option.some Jvm.ClassFile.FieldType.int)) ∈ lw_all := lw_g (lw_at lw_m5 17 rfl) rfl
theorem q1042 : (Jvm.Cond.methodLink "SwapWhile" (192 : Nat) ({ cls := "SwapWhile$Version", name := "backPlace", desc := "(II)I" } : Jvm.MethodName)) ∈ lw_all := lw_g (lw_at lw_m5 18 rfl) rfl
theorem q1046 : (Jvm.Cond.methodLink "SwapWhile" (195 : Nat) ({ cls := "SwapWhile$Version", name := "forwardPlace", desc := "(II)I" } : Jvm.MethodName)) ∈ lw_all := lw_g (lw_at lw_m5 22 rfl) rfl
theorem q1050 : (Jvm.Cond.methodLink "SwapWhile" (235 : Nat) ({ cls := "SwapWhile", name := "count", desc := "(LSwapWhile$FrameTest;)I" } : Jvm.MethodName)) ∈ lw_all := lw_g (lw_at lw_m5 26 rfl) rfl
theorem q1051 : (Jvm.Cond.privateMethod ({ cls := "SwapWhile", name := "count", desc := "(LSwapWhile$FrameTest;)I" } : Jvm.MethodName)) ∈ lw_tbl := lw_at lw_m5 27 rfl
theorem q1052 : (Jvm.Cond.instanceMethod ({ cls := "SwapWhile", name := "count", desc := "(LSwapWhile$FrameTest;)I" } : Jvm.MethodName)) ∈ lw_all := lw_g (lw_at lw_m5 28 rfl) rfl
theorem q1053 : (Jvm.Cond.code ({ cls := "SwapWhile", name := "count", desc := "(LSwapWhile$FrameTest;)I" } : Jvm.MethodName) prog_1_method_21_code (9 : Nat) (Option.some Jvm.ClassFile.FieldType.int)) ∈ lw_all := lw_g (lw_at lw_m5 29 rfl) rfl
theorem q1054 : (Jvm.Cond.interfaceEntry "SwapWhile" (201 : Nat)) ∈ lw_tbl := lw_at lw_m5 30 rfl
theorem q1055 : (Jvm.Cond.methodLink "SwapWhile" (201 : Nat) ({ cls := "java/util/List", name := "iterator", desc := "()Ljava/util/Iterator;" } : Jvm.MethodName)) ∈ lw_all := lw_g (lw_at lw_m5 31 rfl) rfl
theorem q1056 : (Jvm.Cond.interfaceEntry "SwapWhile" (205 : Nat)) ∈ lw_tbl := lw_at lw_m5 32 rfl
theorem q1057 : (Jvm.Cond.methodLink "SwapWhile" (205 : Nat) ({ cls := "java/util/Iterator", name := "hasNext", desc := "()Z" } : Jvm.MethodName)) ∈ lw_all := lw_g (lw_at lw_m5 33 rfl) rfl
theorem q1058 : (Jvm.Cond.interfaceEntry "SwapWhile" (211 : Nat)) ∈ lw_tbl := lw_at lw_m5 34 rfl
theorem q1059 : (Jvm.Cond.methodLink "SwapWhile" (211 : Nat) ({ cls := "java/util/Iterator", name := "next", desc := "()Ljava/lang/Object;" } : Jvm.MethodName)) ∈ lw_all := lw_g (lw_at lw_m5 35 rfl) rfl
theorem q1060 : (Jvm.Cond.interfaceEntry "SwapWhile" (277 : Nat)) ∈ lw_tbl := lw_at lw_m5 36 rfl
theorem q1061 : (Jvm.Cond.methodLink "SwapWhile" (277 : Nat) ({ cls := "java/util/List", name := "remove", desc := "(I)Ljava/lang/Object;" } : Jvm.MethodName)) ∈ lw_all := lw_g (lw_at lw_m5 37 rfl) rfl
theorem q1073 : (Jvm.Cond.methodLink "SwapWhile" (280 : Nat) ({ cls := "SwapWhile", name := "end", desc := "(LSwapWhile$Change;)V" } : Jvm.MethodName)) ∈ lw_all := lw_g (lw_at lw_m5 49 rfl) rfl
theorem q1074 : (Jvm.Cond.privateMethod ({ cls := "SwapWhile", name := "end", desc := "(LSwapWhile$Change;)V" } : Jvm.MethodName)) ∈ lw_tbl := lw_at lw_m5 50 rfl
theorem q1075 : (Jvm.Cond.instanceMethod ({ cls := "SwapWhile", name := "end", desc := "(LSwapWhile$Change;)V" } : Jvm.MethodName)) ∈ lw_all := lw_g (lw_at lw_m5 51 rfl) rfl
theorem q1076 : (Jvm.Cond.code ({ cls := "SwapWhile", name := "end", desc := "(LSwapWhile$Change;)V" } : Jvm.MethodName) prog_1_method_27_code (2 : Nat) (Option.none : Option Jvm.ClassFile.FieldType)) ∈ lw_all := lw_g (lw_at lw_m5 52 rfl) rfl
theorem q1077 : (Jvm.Cond.methodLink "SwapWhile" (284 : Nat) ({ cls := "SwapWhile", name := "takeEffect", desc := "(LSwapWhile$Change;)V" } : Jvm.MethodName)) ∈ lw_all := lw_g (lw_at lw_m5 53 rfl) rfl
theorem q1078 : (Jvm.Cond.privateMethod ({ cls := "SwapWhile", name := "takeEffect", desc := "(LSwapWhile$Change;)V" } : Jvm.MethodName)) ∈ lw_tbl := lw_at lw_m5 54 rfl
theorem q1079 : (Jvm.Cond.instanceMethod ({ cls := "SwapWhile", name := "takeEffect", desc := "(LSwapWhile$Change;)V" } : Jvm.MethodName)) ∈ lw_all := lw_g (lw_at lw_m5 55 rfl) rfl
theorem q1080 : (Jvm.Cond.code ({ cls := "SwapWhile", name := "takeEffect", desc := "(LSwapWhile$Change;)V" } : Jvm.MethodName) prog_1_method_25_code (9 : Nat) (Option.none : Option Jvm.ClassFile.FieldType)) ∈ lw_all := lw_g (lw_at lw_m5 56 rfl) rfl
theorem q1081 : (Jvm.Cond.methodLink "SwapWhile" (254 : Nat) ({ cls := "SwapWhile", name := "move", desc := "(LSwapWhile$Change;LSwapWhile$Frame;I)V" } : Jvm.MethodName)) ∈ lw_all := lw_g (lw_at lw_m5 57 rfl) rfl
theorem q1082 : (Jvm.Cond.privateMethod ({ cls := "SwapWhile", name := "move", desc := "(LSwapWhile$Change;LSwapWhile$Frame;I)V" } : Jvm.MethodName)) ∈ lw_tbl := lw_at lw_m5 58 rfl
theorem q1083 : (Jvm.Cond.instanceMethod ({ cls := "SwapWhile", name := "move", desc := "(LSwapWhile$Change;LSwapWhile$Frame;I)V" } : Jvm.MethodName)) ∈ lw_all := lw_g (lw_at lw_m5 59 rfl) rfl
theorem q1084 : (Jvm.Cond.code ({ cls := "SwapWhile", name := "move", desc := "(LSwapWhile$Change;LSwapWhile$Frame;I)V" } : Jvm.MethodName) prog_1_method_24_code (5 : Nat) (Option.none : Option Jvm.ClassFile.FieldType)) ∈ lw_all := lw_g (lw_at lw_m5 60 rfl) rfl
theorem q1085 : (Jvm.Cond.methodLink "SwapWhile" (251 : Nat) ({ cls := "SwapWhile$Frame", name := "moveTo", desc := "(II)V" } : Jvm.MethodName)) ∈ lw_all := lw_g (lw_at lw_m5 61 rfl) rfl
theorem q1096 : (Jvm.Cond.classLink "SwapWhile" (261 : Nat) "SwapWhile$Thing") ∈ lw_all := lw_g (lw_at lw_m5 72 rfl) rfl
theorem q1097 : (Jvm.Cond.methodLink "SwapWhile" (263 : Nat) ({ cls := "SwapWhile$Thing", name := "carryTo", desc := "(ILjava/util/List;)V" } : Jvm.MethodName)) ∈ lw_all := lw_g (lw_at lw_m5 73 rfl) rfl
theorem q1131 : (Jvm.Cond.instanceMethod ({ cls := "SwapWhile", name := "step", desc := "(II)I" } : Jvm.MethodName)) ∈ lw_all := lw_g (lw_at lw_m5 107 rfl) rfl
theorem q1132 : (Jvm.Cond.selects "SwapWhile" ({ cls := "SwapWhile", name := "step", desc := "(II)I" } : Jvm.MethodName) ({ cls := "SwapWhile", name := "step", desc := "(II)I" } : Jvm.MethodName)) ∈ lw_all := lw_g (lw_at lw_m5 108 rfl) rfl
theorem q1133 : (Jvm.Cond.code ({ cls := "SwapWhile", name := "step", desc := "(II)I" } : Jvm.MethodName) prog_1_method_40_code (5 : Nat) (Option.some Jvm.ClassFile.FieldType.int)) ∈ lw_all := lw_g (lw_at lw_m5 109 rfl) rfl
theorem q1134 : (Jvm.Cond.methodLink "SwapWhile" (397 : Nat) ({ cls := "SwapWhile", name := "step", desc := "(LSwapWhile$Strand;)V" } : Jvm.MethodName)) ∈ lw_all := lw_g (lw_at lw_m5 110 rfl) rfl
theorem q1135 : (Jvm.Cond.privateMethod ({ cls := "SwapWhile", name := "step", desc := "(LSwapWhile$Strand;)V" } : Jvm.MethodName)) ∈ lw_tbl := lw_at lw_m5 111 rfl
theorem q1136 : (Jvm.Cond.instanceMethod ({ cls := "SwapWhile", name := "step", desc := "(LSwapWhile$Strand;)V" } : Jvm.MethodName)) ∈ lw_all := lw_g (lw_at lw_m5 112 rfl) rfl
theorem q1137 : (Jvm.Cond.code ({ cls := "SwapWhile", name := "step", desc := "(LSwapWhile$Strand;)V" } : Jvm.MethodName) prog_1_method_39_code (4 : Nat) (Option.none : Option Jvm.ClassFile.FieldType)) ∈ lw_all := lw_g (lw_at lw_m5 113 rfl) rfl
theorem q1138 : (Jvm.Cond.methodLink "SwapWhile" (322 : Nat) ({ cls := "SwapWhile$Strand", name := "latest", desc := "()LSwapWhile$Frame;" } : Jvm.MethodName)) ∈ lw_all := lw_g (lw_at lw_m5 114 rfl) rfl
theorem q1147 : (Jvm.Cond.methodLink "SwapWhile" (319 : Nat) ({ cls := "SwapWhile$Frame", name := "version", desc := "()I" } : Jvm.MethodName)) ∈ lw_all := lw_g (lw_at lw_m5 123 rfl) rfl
theorem q1150 : (Jvm.Cond.methodLink "SwapWhile" (382 : Nat) ({ cls := "SwapWhile", name := "giveBack", desc := "(LSwapWhile$Strand;I)V" } : Jvm.MethodName)) ∈ lw_all := lw_g (lw_at lw_m5 126 rfl) rfl
theorem q1151 : (Jvm.Cond.privateMethod ({ cls := "SwapWhile", name := "giveBack", desc := "(LSwapWhile$Strand;I)V" } : Jvm.MethodName)) ∈ lw_tbl := lw_at lw_m5 127 rfl
theorem q1152 : (Jvm.Cond.instanceMethod ({ cls := "SwapWhile", name := "giveBack", desc := "(LSwapWhile$Strand;I)V" } : Jvm.MethodName)) ∈ lw_all := lw_g (lw_at lw_m5 128 rfl) rfl
theorem q1153 : (Jvm.Cond.code ({ cls := "SwapWhile", name := "giveBack", desc := "(LSwapWhile$Strand;I)V" } : Jvm.MethodName) prog_1_method_33_code (4 : Nat) (Option.none : Option Jvm.ClassFile.FieldType)) ∈ lw_all := lw_g (lw_at lw_m5 129 rfl) rfl
theorem q1154 : (Jvm.Cond.methodLink "SwapWhile" (391 : Nat) ({ cls := "SwapWhile", name := "act", desc := "(LSwapWhile$Strand;LSwapWhile$Frame;LSwapWhile$Instruction;)V" } : Jvm.MethodName)) ∈ lw_all := lw_g (lw_at lw_m5 130 rfl) rfl
theorem q1155 : (Jvm.Cond.privateMethod ({ cls := "SwapWhile", name := "act", desc := "(LSwapWhile$Strand;LSwapWhile$Frame;LSwapWhile$Instruction;)V" } : Jvm.MethodName)) ∈ lw_tbl := lw_at lw_m5 131 rfl
theorem q1156 : (Jvm.Cond.instanceMethod ({ cls := "SwapWhile", name := "act", desc := "(LSwapWhile$Strand;LSwapWhile$Frame;LSwapWhile$Instruction;)V" } : Jvm.MethodName)) ∈ lw_all := lw_g (lw_at lw_m5 132 rfl) rfl
theorem q1157 : (Jvm.Cond.code ({ cls := "SwapWhile", name := "act", desc := "(LSwapWhile$Strand;LSwapWhile$Frame;LSwapWhile$Instruction;)V" } : Jvm.MethodName) prog_1_method_37_code (5 : Nat) (Option.none : Option Jvm.ClassFile.FieldType)) ∈ lw_all := lw_g (lw_at lw_m5 133 rfl) rfl
theorem q1158 : (Jvm.Cond.methodLink "SwapWhile" (365 : Nat) ({ cls := "SwapWhile$Code", name := "ordinal", desc := "()I" } : Jvm.MethodName)) ∈ lw_all := lw_g (lw_at lw_m5 134 rfl) rfl
theorem q1167 : (Jvm.Cond.methodLink "SwapWhile" (368 : Nat) ({ cls := "SwapWhile", name := "make", desc := "(LSwapWhile$Strand;LSwapWhile$Frame;LSwapWhile$Instruction;)V" } : Jvm.MethodName)) ∈ lw_all := lw_g (lw_at lw_m5 143 rfl) rfl
theorem q1168 : (Jvm.Cond.privateMethod ({ cls := "SwapWhile", name := "make", desc := "(LSwapWhile$Strand;LSwapWhile$Frame;LSwapWhile$Instruction;)V" } : Jvm.MethodName)) ∈ lw_tbl := lw_at lw_m5 144 rfl
theorem q1169 : (Jvm.Cond.instanceMethod ({ cls := "SwapWhile", name := "make", desc := "(LSwapWhile$Strand;LSwapWhile$Frame;LSwapWhile$Instruction;)V" } : Jvm.MethodName)) ∈ lw_all := lw_g (lw_at lw_m5 145 rfl) rfl
theorem q1170 : (Jvm.Cond.code ({ cls := "SwapWhile", name := "make", desc := "(LSwapWhile$Strand;LSwapWhile$Frame;LSwapWhile$Instruction;)V" } : Jvm.MethodName) prog_1_method_35_code (4 : Nat) (Option.none : Option Jvm.ClassFile.FieldType)) ∈ lw_all := lw_g (lw_at lw_m5 146 rfl) rfl
theorem q1172 : (Jvm.Cond.methodLink "SwapWhile" (344 : Nat) ({ cls := "SwapWhile$Thing", name := "<init>", desc := "(II[I)V" } : Jvm.MethodName)) ∈ lw_all := lw_g (lw_at lw_m5 148 rfl) rfl
theorem q1178 : (Jvm.Cond.fieldLinkNest "SwapWhile" (364 : Nat) "SwapWhile$Thing" "fields" "[I" "SwapWhile") ∈ lw_tbl := lw_at lw_m5 154 rfl
theorem q1185 : (Jvm.Cond.methodLink "SwapWhile" (372 : Nat) ({ cls := "SwapWhile", name := "reach", desc := "(LSwapWhile$Strand;LSwapWhile$Frame;LSwapWhile$Instruction;)V" } : Jvm.MethodName)) ∈ lw_all := lw_g (lw_at lw_m5 161 rfl) rfl
theorem q1186 : (Jvm.Cond.privateMethod ({ cls := "SwapWhile", name := "reach", desc := "(LSwapWhile$Strand;LSwapWhile$Frame;LSwapWhile$Instruction;)V" } : Jvm.MethodName)) ∈ lw_tbl := lw_at lw_m5 162 rfl
theorem q1187 : (Jvm.Cond.instanceMethod ({ cls := "SwapWhile", name := "reach", desc := "(LSwapWhile$Strand;LSwapWhile$Frame;LSwapWhile$Instruction;)V" } : Jvm.MethodName)) ∈ lw_all := lw_g (lw_at lw_m5 163 rfl) rfl
theorem q1188 : (Jvm.Cond.code ({ cls := "SwapWhile", name := "reach", desc := "(LSwapWhile$Strand;LSwapWhile$Frame;LSwapWhile$Instruction;)V" } : Jvm.MethodName) prog_1_method_36_code (5 : Nat) (Option.none : Option Jvm.ClassFile.FieldType)) ∈ lw_all := lw_g (lw_at lw_m5 164 rfl) rfl
theorem q1189 : (Jvm.Cond.methodLink "SwapWhile" (353 : Nat) ({ cls := "SwapWhile", name := "thingFor", desc := "(LSwapWhile$Frame;II)LSwapWhile$Thing;" } : Jvm.MethodName)) ∈ lw_all := lw_g (lw_at lw_m5 165 rfl) rfl
theorem q1190 : (Jvm.Cond.privateMethod ({ cls := "SwapWhile", name := "thingFor", desc := "(LSwapWhile$Frame;II)LSwapWhile$Thing;" } : Jvm.MethodName)) ∈ lw_tbl := lw_at lw_m5 166 rfl
theorem q1191 : (Jvm.Cond.instanceMethod ({ cls := "SwapWhile", name := "thingFor", desc := "(LSwapWhile$Frame;II)LSwapWhile$Thing;" } : Jvm.MethodName)) ∈ lw_all := lw_g (lw_at lw_m5 167 rfl) rfl
theorem q1192 : (Jvm.Cond.code ({ cls := "SwapWhile", name := "thingFor", desc := "(LSwapWhile$Frame;II)LSwapWhile$Thing;" } : Jvm.MethodName) prog_1_method_31_code (6 : Nat) (Option.some (Jvm.ClassFile.FieldType.object "SwapWhile$Thing"))) ∈ lw_all := lw_g (lw_at lw_m5 168 rfl) rfl
theorem q1193 : (Jvm.Cond.methodLink "SwapWhile" (316 : Nat) ({ cls := "SwapWhile$Thing", name := "kind", desc := "()I" } : Jvm.MethodName)) ∈ lw_all := lw_g (lw_at lw_m5 169 rfl) rfl
theorem q1197 : (Jvm.Cond.fieldLink "SwapWhile" (361 : Nat) "SwapWhile$Code" "GET" "LSwapWhile$Code;") ∈ lw_all := lw_g (lw_at lw_m5 173 rfl) rfl
theorem q1199 : (Jvm.Cond.methodLink "SwapWhile" (375 : Nat) ({ cls := "SwapWhile", name := "lead", desc := "(LSwapWhile$Strand;LSwapWhile$Frame;LSwapWhile$Instruction;)V" } : Jvm.MethodName)) ∈ lw_all := lw_g (lw_at lw_m5 175 rfl) rfl
theorem q1200 : (Jvm.Cond.privateMethod ({ cls := "SwapWhile", name := "lead", desc := "(LSwapWhile$Strand;LSwapWhile$Frame;LSwapWhile$Instruction;)V" } : Jvm.MethodName)) ∈ lw_tbl := lw_at lw_m5 176 rfl
theorem q1201 : (Jvm.Cond.instanceMethod ({ cls := "SwapWhile", name := "lead", desc := "(LSwapWhile$Strand;LSwapWhile$Frame;LSwapWhile$Instruction;)V" } : Jvm.MethodName)) ∈ lw_all := lw_g (lw_at lw_m5 177 rfl) rfl
theorem q1202 : (Jvm.Cond.code ({ cls := "SwapWhile", name := "lead", desc := "(LSwapWhile$Strand;LSwapWhile$Frame;LSwapWhile$Instruction;)V" } : Jvm.MethodName) prog_1_method_38_code (5 : Nat) (Option.none : Option Jvm.ClassFile.FieldType)) ∈ lw_all := lw_g (lw_at lw_m5 178 rfl) rfl
theorem q1203 : (Jvm.Cond.methodLink "SwapWhile" (378 : Nat) ({ cls := "SwapWhile", name := "call", desc := "(LSwapWhile$Strand;III)V" } : Jvm.MethodName)) ∈ lw_all := lw_g (lw_at lw_m5 179 rfl) rfl
theorem q1204 : (Jvm.Cond.privateMethod ({ cls := "SwapWhile", name := "call", desc := "(LSwapWhile$Strand;III)V" } : Jvm.MethodName)) ∈ lw_tbl := lw_at lw_m5 180 rfl
theorem q1205 : (Jvm.Cond.instanceMethod ({ cls := "SwapWhile", name := "call", desc := "(LSwapWhile$Strand;III)V" } : Jvm.MethodName)) ∈ lw_all := lw_g (lw_at lw_m5 181 rfl) rfl
theorem q1206 : (Jvm.Cond.code ({ cls := "SwapWhile", name := "call", desc := "(LSwapWhile$Strand;III)V" } : Jvm.MethodName) prog_1_method_32_code (5 : Nat) (Option.none : Option Jvm.ClassFile.FieldType)) ∈ lw_all := lw_g (lw_at lw_m5 182 rfl) rfl
theorem q1207 : (Jvm.Cond.methodLink "SwapWhile" (386 : Nat) ({ cls := "SwapWhile", name := "putOut", desc := "(LSwapWhile$Frame;I)V" } : Jvm.MethodName)) ∈ lw_all := lw_g (lw_at lw_m5 183 rfl) rfl
theorem q1208 : (Jvm.Cond.privateMethod ({ cls := "SwapWhile", name := "putOut", desc := "(LSwapWhile$Frame;I)V" } : Jvm.MethodName)) ∈ lw_tbl := lw_at lw_m5 184 rfl
theorem q1209 : (Jvm.Cond.instanceMethod ({ cls := "SwapWhile", name := "putOut", desc := "(LSwapWhile$Frame;I)V" } : Jvm.MethodName)) ∈ lw_all := lw_g (lw_at lw_m5 185 rfl) rfl
theorem q1210 : (Jvm.Cond.code ({ cls := "SwapWhile", name := "putOut", desc := "(LSwapWhile$Frame;I)V" } : Jvm.MethodName) prog_1_method_34_code (4 : Nat) (Option.none : Option Jvm.ClassFile.FieldType)) ∈ lw_all := lw_g (lw_at lw_m5 186 rfl) rfl
theorem q1211 : (Jvm.Cond.methodLink "SwapWhile" (337 : Nat) ({ cls := "SwapWhile", name := "ask", desc := "(CZZII)LSwapWhile$Change;" } : Jvm.MethodName)) ∈ lw_all := lw_g (lw_at lw_m5 187 rfl) rfl
theorem q1212 : (Jvm.Cond.privateMethod ({ cls := "SwapWhile", name := "ask", desc := "(CZZII)LSwapWhile$Change;" } : Jvm.MethodName)) ∈ lw_tbl := lw_at lw_m5 188 rfl
theorem q1213 : (Jvm.Cond.instanceMethod ({ cls := "SwapWhile", name := "ask", desc := "(CZZII)LSwapWhile$Change;" } : Jvm.MethodName)) ∈ lw_all := lw_g (lw_at lw_m5 189 rfl) rfl
theorem q1214 : (Jvm.Cond.code ({ cls := "SwapWhile", name := "ask", desc := "(CZZII)LSwapWhile$Change;" } : Jvm.MethodName) prog_1_method_29_code (7 : Nat) (Option.some (Jvm.ClassFile.FieldType.object "SwapWhile$Change"))) ∈ lw_all := lw_g (lw_at lw_m5 190 rfl) rfl
theorem q1216 : (Jvm.Cond.methodLink "SwapWhile" (297 : Nat) ({ cls := "SwapWhile$Change", name := "<init>", desc := "(CZZJ)V" } : Jvm.MethodName)) ∈ lw_all := lw_g (lw_at lw_m5 192 rfl) rfl
theorem q1221 : (Jvm.Cond.fieldLinkNest "SwapWhile" (221 : Nat) "SwapWhile$Change" "mode" "C" "SwapWhile") ∈ lw_tbl := lw_at lw_m5 197 rfl
theorem q1223 : (Jvm.Cond.fieldLinkNest "SwapWhile" (185 : Nat) "SwapWhile$Change" "isBack" "Z" "SwapWhile") ∈ lw_tbl := lw_at lw_m5 199 rfl
theorem q1225 : (Jvm.Cond.fieldLinkNest "SwapWhile" (258 : Nat) "SwapWhile$Change" "isAtOnce" "Z" "SwapWhile") ∈ lw_tbl := lw_at lw_m5 201 rfl
theorem q1227 : (Jvm.Cond.fieldLinkNest "SwapWhile" (287 : Nat) "SwapWhile$Change" "last" "J" "SwapWhile") ∈ lw_tbl := lw_at lw_m5 203 rfl
theorem q1229 : (Jvm.Cond.fieldLinkNest "SwapWhile" (267 : Nat) "SwapWhile$Change" "state" "C" "SwapWhile") ∈ lw_tbl := lw_at lw_m5 205 rfl
theorem q1241 : (Jvm.Cond.interfaceEntry "SwapWhile" (300 : Nat)) ∈ lw_tbl := lw_at lw_m5 217 rfl
theorem q1242 : (Jvm.Cond.methodLink "SwapWhile" (300 : Nat) ({ cls := "java/util/List", name := "add", desc := "(ILjava/lang/Object;)V" } : Jvm.MethodName)) ∈ lw_all := lw_g (lw_at lw_m5 218 rfl) rfl
theorem q1485 : (Jvm.Cond.methodLink "SwapWhile" (394 : Nat) ({ cls := "SwapWhile", name := "giveUp", desc := "()V" } : Jvm.MethodName)) ∈ lw_all := lw_g (lw_at lw_m6 221 rfl) rfl
theorem q1486 : (Jvm.Cond.privateMethod ({ cls := "SwapWhile", name := "giveUp", desc := "()V" } : Jvm.MethodName)) ∈ lw_tbl := lw_at lw_m6 222 rfl
theorem q1487 : (Jvm.Cond.instanceMethod ({ cls := "SwapWhile", name := "giveUp", desc := "()V" } : Jvm.MethodName)) ∈ lw_all := lw_g (lw_at lw_m6 223 rfl) rfl
theorem q1488 : (Jvm.Cond.code ({ cls := "SwapWhile", name := "giveUp", desc := "()V" } : Jvm.MethodName) prog_1_method_28_code (4 : Nat) (Option.none : Option Jvm.ClassFile.FieldType)) ∈ lw_all := lw_g (lw_at lw_m6 224 rfl) rfl
theorem q1493 : (Jvm.Cond.instanceMethod ({ cls := "SwapWhile", name := "release", desc := "(I)I" } : Jvm.MethodName)) ∈ lw_all := lw_g (lw_at lw_m6 229 rfl) rfl
theorem q1494 : (Jvm.Cond.selects "SwapWhile" ({ cls := "SwapWhile", name := "release", desc := "(I)I" } : Jvm.MethodName) ({ cls := "SwapWhile", name := "release", desc := "(I)I" } : Jvm.MethodName)) ∈ lw_all := lw_g (lw_at lw_m6 230 rfl) rfl
theorem q1495 : (Jvm.Cond.code ({ cls := "SwapWhile", name := "release", desc := "(I)I" } : Jvm.MethodName) prog_1_method_41_code (3 : Nat) (Option.some Jvm.ClassFile.FieldType.int)) ∈ lw_all := lw_g (lw_at lw_m6 231 rfl) rfl
theorem q1500 : (Jvm.Cond.instanceMethod ({ cls := "SwapWhile", name := "state", desc := "(I)C" } : Jvm.MethodName)) ∈ lw_all := lw_g (lw_at lw_m6 236 rfl) rfl
theorem q1501 : (Jvm.Cond.selects "SwapWhile" ({ cls := "SwapWhile", name := "state", desc := "(I)C" } : Jvm.MethodName) ({ cls := "SwapWhile", name := "state", desc := "(I)C" } : Jvm.MethodName)) ∈ lw_all := lw_g (lw_at lw_m6 237 rfl) rfl
theorem q1502 : (Jvm.Cond.code ({ cls := "SwapWhile", name := "state", desc := "(I)C" } : Jvm.MethodName) prog_1_method_42_code (2 : Nat) (Option.some Jvm.ClassFile.FieldType.char)) ∈ lw_all := lw_g (lw_at lw_m6 238 rfl) rfl
theorem q1507 : (Jvm.Cond.instanceMethod ({ cls := "SwapWhile", name := "frames", desc := "(I)I" } : Jvm.MethodName)) ∈ lw_all := lw_g (lw_at lw_m7 3 rfl) rfl
theorem q1508 : (Jvm.Cond.selects "SwapWhile" ({ cls := "SwapWhile", name := "frames", desc := "(I)I" } : Jvm.MethodName) ({ cls := "SwapWhile", name := "frames", desc := "(I)I" } : Jvm.MethodName)) ∈ lw_all := lw_g (lw_at lw_m7 4 rfl) rfl
theorem q1509 : (Jvm.Cond.code ({ cls := "SwapWhile", name := "frames", desc := "(I)I" } : Jvm.MethodName) prog_1_method_43_code (2 : Nat) (Option.some Jvm.ClassFile.FieldType.int)) ∈ lw_all := lw_g (lw_at lw_m7 5 rfl) rfl
theorem q1514 : (Jvm.Cond.instanceMethod ({ cls := "SwapWhile", name := "at", desc := "(II)I" } : Jvm.MethodName)) ∈ lw_all := lw_g (lw_at lw_m7 10 rfl) rfl
theorem q1515 : (Jvm.Cond.selects "SwapWhile" ({ cls := "SwapWhile", name := "at", desc := "(II)I" } : Jvm.MethodName) ({ cls := "SwapWhile", name := "at", desc := "(II)I" } : Jvm.MethodName)) ∈ lw_all := lw_g (lw_at lw_m7 11 rfl) rfl
theorem q1516 : (Jvm.Cond.code ({ cls := "SwapWhile", name := "at", desc := "(II)I" } : Jvm.MethodName) prog_1_method_45_code (4 : Nat) (Option.some Jvm.ClassFile.FieldType.int)) ∈ lw_all := lw_g (lw_at lw_m7 12 rfl) rfl
theorem q1517 : (Jvm.Cond.methodLink "SwapWhile" (401 : Nat) ({ cls := "SwapWhile", name := "frameAt", desc := "(II)LSwapWhile$Frame;" } : Jvm.MethodName)) ∈ lw_all := lw_g (lw_at lw_m7 13 rfl) rfl
theorem q1518 : (Jvm.Cond.privateMethod ({ cls := "SwapWhile", name := "frameAt", desc := "(II)LSwapWhile$Frame;" } : Jvm.MethodName)) ∈ lw_tbl := lw_at lw_m7 14 rfl
theorem q1519 : (Jvm.Cond.instanceMethod ({ cls := "SwapWhile", name := "frameAt", desc := "(II)LSwapWhile$Frame;" } : Jvm.MethodName)) ∈ lw_all := lw_g (lw_at lw_m7 15 rfl) rfl
theorem q1520 : (Jvm.Cond.code ({ cls := "SwapWhile", name := "frameAt", desc := "(II)LSwapWhile$Frame;" } : Jvm.MethodName) prog_1_method_44_code (4 : Nat) (Option.some (Jvm.ClassFile.FieldType.object "SwapWhile$Frame"))) ∈ lw_all := lw_g (lw_at lw_m7 16 rfl) rfl
theorem q1525 : (Jvm.Cond.instanceMethod ({ cls := "SwapWhile", name := "local", desc := "(III)I" } : Jvm.MethodName)) ∈ lw_all := lw_g (lw_at lw_m7 21 rfl) rfl
theorem q1526 : (Jvm.Cond.selects "SwapWhile" ({ cls := "SwapWhile", name := "local", desc := "(III)I" } : Jvm.MethodName) ({ cls := "SwapWhile", name := "local", desc := "(III)I" } : Jvm.MethodName)) ∈ lw_all := lw_g (lw_at lw_m7 22 rfl) rfl
theorem q1527 : (Jvm.Cond.code ({ cls := "SwapWhile", name := "local", desc := "(III)I" } : Jvm.MethodName) prog_1_method_46_code (5 : Nat) (Option.some Jvm.ClassFile.FieldType.int)) ∈ lw_all := lw_g (lw_at lw_m7 23 rfl) rfl
theorem q1532 : (Jvm.Cond.instanceMethod ({ cls := "SwapWhile", name := "change", desc := "(CZZI)I" } : Jvm.MethodName)) ∈ lw_all := lw_g (lw_at lw_m7 28 rfl) rfl
theorem q1533 : (Jvm.Cond.selects "SwapWhile" ({ cls := "SwapWhile", name := "change", desc := "(CZZI)I" } : Jvm.MethodName) ({ cls := "SwapWhile", name := "change", desc := "(CZZI)I" } : Jvm.MethodName)) ∈ lw_all := lw_g (lw_at lw_m7 29 rfl) rfl
theorem q1534 : (Jvm.Cond.code ({ cls := "SwapWhile", name := "change", desc := "(CZZI)I" } : Jvm.MethodName) prog_1_method_47_code (6 : Nat) (Option.some Jvm.ClassFile.FieldType.int)) ∈ lw_all := lw_g (lw_at lw_m7 30 rfl) rfl
theorem q1535 : (Jvm.Cond.interfaceEntry "SwapWhile" (405 : Nat)) ∈ lw_tbl := lw_at lw_m7 31 rfl
theorem q1536 : (Jvm.Cond.methodLink "SwapWhile" (405 : Nat) ({ cls := "java/util/List", name := "indexOf", desc := "(Ljava/lang/Object;)I" } : Jvm.MethodName)) ∈ lw_all := lw_g (lw_at lw_m7 32 rfl) rfl
theorem q1553 : (Jvm.Cond.instanceMethod ({ cls := "SwapWhile", name := "changed", desc := "(I)C" } : Jvm.MethodName)) ∈ lw_all := lw_g (lw_at lw_m7 49 rfl) rfl
theorem q1554 : (Jvm.Cond.selects "SwapWhile" ({ cls := "SwapWhile", name := "changed", desc := "(I)C" } : Jvm.MethodName) ({ cls := "SwapWhile", name := "changed", desc := "(I)C" } : Jvm.MethodName)) ∈ lw_all := lw_g (lw_at lw_m7 50 rfl) rfl
theorem q1555 : (Jvm.Cond.code ({ cls := "SwapWhile", name := "changed", desc := "(I)C" } : Jvm.MethodName) prog_1_method_48_code (2 : Nat) (Option.some Jvm.ClassFile.FieldType.char)) ∈ lw_all := lw_g (lw_at lw_m7 51 rfl) rfl
theorem q1561 : (Jvm.Cond.instanceMethod ({ cls := "SwapWhile", name := "against", desc := "()I" } : Jvm.MethodName)) ∈ lw_all := lw_g (lw_at lw_m7 57 rfl) rfl
theorem q1562 : (Jvm.Cond.selects "SwapWhile" ({ cls := "SwapWhile", name := "against", desc := "()I" } : Jvm.MethodName) ({ cls := "SwapWhile", name := "against", desc := "()I" } : Jvm.MethodName)) ∈ lw_all := lw_g (lw_at lw_m7 58 rfl) rfl
theorem q1563 : (Jvm.Cond.code ({ cls := "SwapWhile", name := "against", desc := "()I" } : Jvm.MethodName) prog_1_method_52_code (1 : Nat) (Option.some Jvm.ClassFile.FieldType.int)) ∈ lw_all := lw_g (lw_at lw_m7 59 rfl) rfl
theorem q1564 : (Jvm.Cond.classLink "SwapWhile" (409 : Nat) "java/util/NoSuchElementException") ∈ lw_all := lw_g (lw_at lw_m7 60 rfl) rfl
theorem q1565 : (Jvm.Cond.methodLink "SwapWhile" (411 : Nat) ({ cls := "java/util/NoSuchElementException", name := "<init>", desc := "()V" } : Jvm.MethodName)) ∈ lw_all := lw_g (lw_at lw_m7 61 rfl) rfl
theorem q1570 : (Jvm.Cond.instanceMethod ({ cls := "SwapWhile", name := "shape", desc := "(I)I" } : Jvm.MethodName)) ∈ lw_all := lw_g (lw_at lw_m7 66 rfl) rfl
theorem q1571 : (Jvm.Cond.selects "SwapWhile" ({ cls := "SwapWhile", name := "shape", desc := "(I)I" } : Jvm.MethodName) ({ cls := "SwapWhile", name := "shape", desc := "(I)I" } : Jvm.MethodName)) ∈ lw_all := lw_g (lw_at lw_m7 67 rfl) rfl
theorem q1572 : (Jvm.Cond.code ({ cls := "SwapWhile", name := "shape", desc := "(I)I" } : Jvm.MethodName) prog_1_method_57_code (2 : Nat) (Option.some Jvm.ClassFile.FieldType.int)) ∈ lw_all := lw_g (lw_at lw_m7 68 rfl) rfl
theorem q1573 : (Jvm.Cond.methodLink "SwapWhile" (412 : Nat) ({ cls := "SwapWhile", name := "thingAt", desc := "(I)LSwapWhile$Thing;" } : Jvm.MethodName)) ∈ lw_all := lw_g (lw_at lw_m7 69 rfl) rfl
theorem q1574 : (Jvm.Cond.privateMethod ({ cls := "SwapWhile", name := "thingAt", desc := "(I)LSwapWhile$Thing;" } : Jvm.MethodName)) ∈ lw_tbl := lw_at lw_m7 70 rfl
theorem q1575 : (Jvm.Cond.instanceMethod ({ cls := "SwapWhile", name := "thingAt", desc := "(I)LSwapWhile$Thing;" } : Jvm.MethodName)) ∈ lw_all := lw_g (lw_at lw_m7 71 rfl) rfl
theorem q1576 : (Jvm.Cond.code ({ cls := "SwapWhile", name := "thingAt", desc := "(I)LSwapWhile$Thing;" } : Jvm.MethodName) prog_1_method_56_code (2 : Nat) (Option.some (Jvm.ClassFile.FieldType.object "SwapWhile$Thing"))) ∈ lw_all := lw_g (lw_at lw_m7 72 rfl) rfl
theorem q1577 : (Jvm.Cond.methodLink "SwapWhile" (416 : Nat) ({ cls := "SwapWhile$Thing", name := "version", desc := "()I" } : Jvm.MethodName)) ∈ lw_all := lw_g (lw_at lw_m7 73 rfl) rfl
theorem q1582 : (Jvm.Cond.instanceMethod ({ cls := "SwapWhile", name := "field", desc := "(II)I" } : Jvm.MethodName)) ∈ lw_all := lw_g (lw_at lw_m7 78 rfl) rfl
theorem q1583 : (Jvm.Cond.selects "SwapWhile" ({ cls := "SwapWhile", name := "field", desc := "(II)I" } : Jvm.MethodName) ({ cls := "SwapWhile", name := "field", desc := "(II)I" } : Jvm.MethodName)) ∈ lw_all := lw_g (lw_at lw_m7 79 rfl) rfl
theorem q1584 : (Jvm.Cond.code ({ cls := "SwapWhile", name := "field", desc := "(II)I" } : Jvm.MethodName) prog_1_method_58_code (4 : Nat) (Option.some Jvm.ClassFile.FieldType.int)) ∈ lw_all := lw_g (lw_at lw_m7 80 rfl) rfl
theorem q1589 : (Jvm.Cond.instanceMethod ({ cls := "SwapWhile", name := "fieldIn", desc := "(III)I" } : Jvm.MethodName)) ∈ lw_all := lw_g (lw_at lw_m7 85 rfl) rfl
theorem q1590 : (Jvm.Cond.selects "SwapWhile" ({ cls := "SwapWhile", name := "fieldIn", desc := "(III)I" } : Jvm.MethodName) ({ cls := "SwapWhile", name := "fieldIn", desc := "(III)I" } : Jvm.MethodName)) ∈ lw_all := lw_g (lw_at lw_m7 86 rfl) rfl
theorem q1591 : (Jvm.Cond.code ({ cls := "SwapWhile", name := "fieldIn", desc := "(III)I" } : Jvm.MethodName) prog_1_method_59_code (6 : Nat) (Option.some Jvm.ClassFile.FieldType.int)) ∈ lw_all := lw_g (lw_at lw_m7 87 rfl) rfl
theorem q1592 : (Jvm.Cond.methodLink "SwapWhile" (417 : Nat) ({ cls := "SwapWhile$Thing", name := "fieldsIn", desc := "(ILjava/util/List;)[I" } : Jvm.MethodName)) ∈ lw_all := lw_g (lw_at lw_m7 88 rfl) rfl
theorem q1597 : (Jvm.Cond.instanceMethod ({ cls := "SwapWhile", name := "entry", desc := "(I)I" } : Jvm.MethodName)) ∈ lw_all := lw_g (lw_at lw_m7 93 rfl) rfl
theorem q1598 : (Jvm.Cond.selects "SwapWhile" ({ cls := "SwapWhile", name := "entry", desc := "(I)I" } : Jvm.MethodName) ({ cls := "SwapWhile", name := "entry", desc := "(I)I" } : Jvm.MethodName)) ∈ lw_all := lw_g (lw_at lw_m7 94 rfl) rfl
theorem q1599 : (Jvm.Cond.code ({ cls := "SwapWhile", name := "entry", desc := "(I)I" } : Jvm.MethodName) prog_1_method_60_code (2 : Nat) (Option.some Jvm.ClassFile.FieldType.int)) ∈ lw_all := lw_g (lw_at lw_m7 95 rfl) rfl
theorem q1604 : (Jvm.Cond.instanceMethod ({ cls := "SwapWhile", name := "putAt", desc := "(I)I" } : Jvm.MethodName)) ∈ lw_all := lw_g (lw_at lw_m7 100 rfl) rfl
theorem q1605 : (Jvm.Cond.selects "SwapWhile" ({ cls := "SwapWhile", name := "putAt", desc := "(I)I" } : Jvm.MethodName) ({ cls := "SwapWhile", name := "putAt", desc := "(I)I" } : Jvm.MethodName)) ∈ lw_all := lw_g (lw_at lw_m7 101 rfl) rfl
theorem q1606 : (Jvm.Cond.code ({ cls := "SwapWhile", name := "putAt", desc := "(I)I" } : Jvm.MethodName) prog_1_method_63_code (2 : Nat) (Option.some Jvm.ClassFile.FieldType.int)) ∈ lw_all := lw_g (lw_at lw_m7 102 rfl) rfl
theorem q1607 : (Jvm.Cond.methodLink "SwapWhile" (422 : Nat) ({ cls := "SwapWhile", name := "putOf", desc := "(II)I" } : Jvm.MethodName)) ∈ lw_all := lw_g (lw_at lw_m7 103 rfl) rfl
theorem q1608 : (Jvm.Cond.privateMethod ({ cls := "SwapWhile", name := "putOf", desc := "(II)I" } : Jvm.MethodName)) ∈ lw_tbl := lw_at lw_m7 104 rfl
theorem q1609 : (Jvm.Cond.instanceMethod ({ cls := "SwapWhile", name := "putOf", desc := "(II)I" } : Jvm.MethodName)) ∈ lw_all := lw_g (lw_at lw_m7 105 rfl) rfl
theorem q1610 : (Jvm.Cond.code ({ cls := "SwapWhile", name := "putOf", desc := "(II)I" } : Jvm.MethodName) prog_1_method_62_code (3 : Nat) (Option.some Jvm.ClassFile.FieldType.int)) ∈ lw_all := lw_g (lw_at lw_m7 106 rfl) rfl
theorem q1611 : (Jvm.Cond.classLink "SwapWhile" (421 : Nat) "[I") ∈ lw_all := lw_g (lw_at lw_m7 107 rfl) rfl
theorem q1616 : (Jvm.Cond.instanceMethod ({ cls := "SwapWhile", name := "putIn", desc := "(I)I" } : Jvm.MethodName)) ∈ lw_all := lw_g (lw_at lw_m7 112 rfl) rfl
theorem q1617 : (Jvm.Cond.selects "SwapWhile" ({ cls := "SwapWhile", name := "putIn", desc := "(I)I" } : Jvm.MethodName) ({ cls := "SwapWhile", name := "putIn", desc := "(I)I" } : Jvm.MethodName)) ∈ lw_all := lw_g (lw_at lw_m7 113 rfl) rfl
theorem q1618 : (Jvm.Cond.code ({ cls := "SwapWhile", name := "putIn", desc := "(I)I" } : Jvm.MethodName) prog_1_method_64_code (2 : Nat) (Option.some Jvm.ClassFile.FieldType.int)) ∈ lw_all := lw_g (lw_at lw_m7 114 rfl) rfl
theorem q1637 : (Jvm.Cond.instanceMethod ({ cls := "SwapWhile", name := "carriedShare", desc := "()F" } : Jvm.MethodName)) ∈ lw_all := lw_g (lw_at lw_m7 133 rfl) rfl
theorem q1638 : (Jvm.Cond.selects "SwapWhile" ({ cls := "SwapWhile", name := "carriedShare", desc := "()F" } : Jvm.MethodName) ({ cls := "SwapWhile", name := "carriedShare", desc := "()F" } : Jvm.MethodName)) ∈ lw_all := lw_g (lw_at lw_m7 134 rfl) rfl
theorem q1639 : (Jvm.Cond.code ({ cls := "SwapWhile", name := "carriedShare", desc := "()F" } : Jvm.MethodName) prog_1_method_66_code (4 : Nat) (Option.some Jvm.ClassFile.FieldType.float)) ∈ lw_all := lw_g (lw_at lw_m7 135 rfl) rfl
theorem q1640 : (Jvm.Cond.methodLink "SwapWhile" (425 : Nat) ({ cls := "SwapWhile", name := "requireNumber", desc := "(Z)V" } : Jvm.MethodName)) ∈ lw_all := lw_g (lw_at lw_m7 136 rfl) rfl
theorem q1641 : (Jvm.Cond.static ({ cls := "SwapWhile", name := "requireNumber", desc := "(Z)V" } : Jvm.MethodName)) ∈ lw_all := lw_g (lw_at lw_m7 137 rfl) rfl
theorem q1642 : (Jvm.Cond.code ({ cls := "SwapWhile", name := "requireNumber", desc := "(Z)V" } : Jvm.MethodName) prog_1_method_5_code (1 : Nat) (Option.none : Option Jvm.ClassFile.FieldType)) ∈ lw_all := lw_g (lw_at lw_m7 138 rfl) rfl
theorem q1643 : (Jvm.Cond.classLink "SwapWhile" (13 : Nat) "java/lang/ArithmeticException") ∈ lw_all := lw_g (lw_at lw_m7 139 rfl) rfl
theorem q1644 : (Jvm.Cond.methodLink "SwapWhile" (15 : Nat) ({ cls := "java/lang/ArithmeticException", name := "<init>", desc := "()V" } : Jvm.MethodName)) ∈ lw_all := lw_g (lw_at lw_m7 140 rfl) rfl
theorem q1648 : (Jvm.Cond.methodLink "SwapWhile" (428 : Nat) ({ cls := "SwapWhile$Thing", name := "isOf", desc := "(I)Z" } : Jvm.MethodName)) ∈ lw_all := lw_g (lw_at lw_m7 144 rfl) rfl
theorem q1655 : (Jvm.Cond.instanceMethod ({ cls := "SwapWhile", name := "meanFrames", desc := "()D" } : Jvm.MethodName)) ∈ lw_all := lw_g (lw_at lw_m7 151 rfl) rfl
theorem q1656 : (Jvm.Cond.selects "SwapWhile" ({ cls := "SwapWhile", name := "meanFrames", desc := "()D" } : Jvm.MethodName) ({ cls := "SwapWhile", name := "meanFrames", desc := "()D" } : Jvm.MethodName)) ∈ lw_all := lw_g (lw_at lw_m7 152 rfl) rfl
theorem q1657 : (Jvm.Cond.code ({ cls := "SwapWhile", name := "meanFrames", desc := "()D" } : Jvm.MethodName) prog_1_method_67_code (7 : Nat) (Option.some Jvm.ClassFile.FieldType.double)) ∈ lw_all := lw_g (lw_at lw_m7 153 rfl) rfl
theorem q2216 : (Jvm.Cond.castable "SwapWhile" "java/lang/Object") ∈ lw_tbl := lw_at lw_m9 232 rfl
theorem in_X1 : ∀ w ∈ wsX10, w ∈ lw_all := lw_in wsX10 [375, 377, 379, 381, 383, 385, 387, 389, 391, 393, 395, 397] (by decide +kernel) (by decide +kernel)
