/-! SwapWhile$Strand -/
set_option maxRecDepth 100000
def RX2 : String := "SwapWhile$Strand"
def TX2 : u_T := fun k => match k with
  | 0 => ("SwapWhile$Strand", "frames", "Ljava/util/List;", true)
  | _ => ("SwapWhile$Strand", "state", "C", false)
def tyX2 : Nat → FieldType := fun k => match k with
  | 0 => .object "java/util/List"
  | _ => .char
abbrev wsX20 : List Cond := u_ws RX2 TX2 2
theorem nmX2 : ∀ a, a < 2 → ∀ b, b < 2 → a ≠ b → (TX2 a).2.1 ≠ (TX2 b).2.1 := by decide +kernel
theorem tyX2_ok : ∀ k, k < 2 → parseFieldDescriptor (TX2 k).2.2.1 = some (tyX2 k) := by decide +kernel
abbrev cX2_init : ByteArray := prog_19_method_1_code
def yX2_init : MethodName := ⟨RX2, "<init>", "()V"⟩
def dkwX2_init_0 : List UInt8 := [42, 183, 0, 1, 42, 187, 0, 7, 89, 183, 0, 9, 181, 0, 10, 42, 16, 110, 181, 0, 16, 177]
abbrev dktX2_init_0 : List UInt8 := dkwX2_init_0 ++ []
theorem dksX2_init_0 : cX2_init.data.toList.drop 0 = dktX2_init_0 := by decide +kernel
theorem dX2_init_0 : decode cX2_init 0 = .ok (.aload_n 0, 1) := dk_42 (dk_at dksX2_init_0 0 rfl rfl)
theorem dX2_init_1 : decode cX2_init 1 = .ok (.invokespecial 1, 3) := dk_183 0 1 (dk_at dksX2_init_0 1 rfl rfl)
theorem dX2_init_4 : decode cX2_init 4 = .ok (.aload_n 0, 1) := dk_42 (dk_at dksX2_init_0 4 rfl rfl)
theorem dX2_init_5 : decode cX2_init 5 = .ok (.new 7, 3) := dk_187 0 7 (dk_at dksX2_init_0 5 rfl rfl)
theorem dX2_init_8 : decode cX2_init 8 = .ok (.dup, 1) := dk_89 (dk_at dksX2_init_0 8 rfl rfl)
theorem dX2_init_9 : decode cX2_init 9 = .ok (.invokespecial 9, 3) := dk_183 0 9 (dk_at dksX2_init_0 9 rfl rfl)
theorem dX2_init_12 : decode cX2_init 12 = .ok (.putfield 10, 3) := dk_181 0 10 (dk_at dksX2_init_0 12 rfl rfl)
theorem dX2_init_15 : decode cX2_init 15 = .ok (.aload_n 0, 1) := dk_42 (dk_at dksX2_init_0 15 rfl rfl)
theorem dX2_init_16 : decode cX2_init 16 = .ok (.bipush 110, 2) := dk_16 110 (dk_at dksX2_init_0 16 rfl rfl)
theorem dX2_init_18 : decode cX2_init 18 = .ok (.putfield 16, 3) := dk_181 0 16 (dk_at dksX2_init_0 18 rfl rfl)
theorem dX2_init_21 : decode cX2_init 21 = .ok (.return_, 1) := dk_177 (dk_at dksX2_init_0 21 rfl rfl)
abbrev cX2_isAlive : ByteArray := prog_19_method_2_code
def yX2_isAlive : MethodName := ⟨RX2, "isAlive", "()Z"⟩
def dkwX2_isAlive_0 : List UInt8 := [42, 180, 0, 16, 16, 114, 159, 0, 12, 42, 180, 0, 16, 16, 119, 160, 0, 7, 4, 167, 0, 4, 3, 172]
abbrev dktX2_isAlive_0 : List UInt8 := dkwX2_isAlive_0 ++ []
theorem dksX2_isAlive_0 : cX2_isAlive.data.toList.drop 0 = dktX2_isAlive_0 := by decide +kernel
theorem dX2_isAlive_0 : decode cX2_isAlive 0 = .ok (.aload_n 0, 1) := dk_42 (dk_at dksX2_isAlive_0 0 rfl rfl)
theorem dX2_isAlive_1 : decode cX2_isAlive 1 = .ok (.getfield 16, 3) := dk_180 0 16 (dk_at dksX2_isAlive_0 1 rfl rfl)
theorem dX2_isAlive_4 : decode cX2_isAlive 4 = .ok (.bipush 114, 2) := dk_16 114 (dk_at dksX2_isAlive_0 4 rfl rfl)
theorem dX2_isAlive_6 : decode cX2_isAlive 6 = .ok (.if_icmp .eq 12, 3) := dk_159 0 12 (dk_at dksX2_isAlive_0 6 rfl rfl)
theorem dX2_isAlive_9 : decode cX2_isAlive 9 = .ok (.aload_n 0, 1) := dk_42 (dk_at dksX2_isAlive_0 9 rfl rfl)
theorem dX2_isAlive_10 : decode cX2_isAlive 10 = .ok (.getfield 16, 3) := dk_180 0 16 (dk_at dksX2_isAlive_0 10 rfl rfl)
theorem dX2_isAlive_13 : decode cX2_isAlive 13 = .ok (.bipush 119, 2) := dk_16 119 (dk_at dksX2_isAlive_0 13 rfl rfl)
theorem dX2_isAlive_15 : decode cX2_isAlive 15 = .ok (.if_icmp .ne 7, 3) := dk_160 0 7 (dk_at dksX2_isAlive_0 15 rfl rfl)
theorem dX2_isAlive_18 : decode cX2_isAlive 18 = .ok (.iconst 1, 1) := dk_4 (dk_at dksX2_isAlive_0 18 rfl rfl)
theorem dX2_isAlive_19 : decode cX2_isAlive 19 = .ok (.goto 4, 3) := dk_167 0 4 (dk_at dksX2_isAlive_0 19 rfl rfl)
theorem dX2_isAlive_22 : decode cX2_isAlive 22 = .ok (.iconst 0, 1) := dk_3 (dk_at dksX2_isAlive_0 22 rfl rfl)
theorem dX2_isAlive_23 : decode cX2_isAlive 23 = .ok (.ireturn, 1) := dk_172 (dk_at dksX2_isAlive_0 23 rfl rfl)
abbrev cX2_end : ByteArray := prog_19_method_4_code
def yX2_end : MethodName := ⟨RX2, "end", "(C)V"⟩
def dkwX2_end_0 : List UInt8 := [42, 180, 0, 10, 185, 0, 32, 1, 0, 42, 27, 181, 0, 16, 177]
abbrev dktX2_end_0 : List UInt8 := dkwX2_end_0 ++ []
theorem dksX2_end_0 : cX2_end.data.toList.drop 0 = dktX2_end_0 := by decide +kernel
theorem dX2_end_0 : decode cX2_end 0 = .ok (.aload_n 0, 1) := dk_42 (dk_at dksX2_end_0 0 rfl rfl)
theorem dX2_end_1 : decode cX2_end 1 = .ok (.getfield 10, 3) := dk_180 0 10 (dk_at dksX2_end_0 1 rfl rfl)
theorem dX2_end_4 : decode cX2_end 4 = .ok (.invokeinterface 32 1, 5) := by decide +kernel
theorem dX2_end_9 : decode cX2_end 9 = .ok (.aload_n 0, 1) := dk_42 (dk_at dksX2_end_0 9 rfl rfl)
theorem dX2_end_10 : decode cX2_end 10 = .ok (.iload_n 1, 1) := dk_27 (dk_at dksX2_end_0 10 rfl rfl)
theorem dX2_end_11 : decode cX2_end 11 = .ok (.putfield 16, 3) := dk_181 0 16 (dk_at dksX2_end_0 11 rfl rfl)
theorem dX2_end_14 : decode cX2_end 14 = .ok (.return_, 1) := dk_177 (dk_at dksX2_end_0 14 rfl rfl)
abbrev cX2_latest : ByteArray := prog_19_method_3_code
def yX2_latest : MethodName := ⟨RX2, "latest", "()LSwapWhile$Frame;"⟩
def dkwX2_latest_0 : List UInt8 := [42, 180, 0, 10, 42, 180, 0, 10, 185, 0, 20, 1, 0, 4, 100, 185, 0, 26, 2, 0, 192, 0, 30, 176]
abbrev dktX2_latest_0 : List UInt8 := dkwX2_latest_0 ++ []
theorem dksX2_latest_0 : cX2_latest.data.toList.drop 0 = dktX2_latest_0 := by decide +kernel
theorem dX2_latest_0 : decode cX2_latest 0 = .ok (.aload_n 0, 1) := dk_42 (dk_at dksX2_latest_0 0 rfl rfl)
theorem dX2_latest_1 : decode cX2_latest 1 = .ok (.getfield 10, 3) := dk_180 0 10 (dk_at dksX2_latest_0 1 rfl rfl)
theorem dX2_latest_4 : decode cX2_latest 4 = .ok (.aload_n 0, 1) := dk_42 (dk_at dksX2_latest_0 4 rfl rfl)
theorem dX2_latest_5 : decode cX2_latest 5 = .ok (.getfield 10, 3) := dk_180 0 10 (dk_at dksX2_latest_0 5 rfl rfl)
theorem dX2_latest_8 : decode cX2_latest 8 = .ok (.invokeinterface 20 1, 5) := by decide +kernel
theorem dX2_latest_13 : decode cX2_latest 13 = .ok (.iconst 1, 1) := dk_4 (dk_at dksX2_latest_0 13 rfl rfl)
theorem dX2_latest_14 : decode cX2_latest 14 = .ok (.isub, 1) := dk_100 (dk_at dksX2_latest_0 14 rfl rfl)
theorem dX2_latest_15 : decode cX2_latest 15 = .ok (.invokeinterface 26 2, 5) := by decide +kernel
theorem dX2_latest_20 : decode cX2_latest 20 = .ok (.checkcast 30, 3) := dk_192 0 30 (dk_at dksX2_latest_0 20 rfl rfl)
theorem dX2_latest_23 : decode cX2_latest 23 = .ok (.areturn, 1) := dk_176 (dk_at dksX2_latest_0 23 rfl rfl)
theorem q69 : (Jvm.Cond.initialized "SwapWhile$Strand") ∈ lw_all := lw_g (lw_at lw_m1 5 rfl) rfl
theorem q151 : (Jvm.Cond.instantiable "SwapWhile$Strand" (2 : Nat)) ∈ lw_all := lw_g (lw_at lw_m1 87 rfl) rfl
theorem q153 : (Jvm.Cond.instanceMethod ({ cls := "SwapWhile$Strand", name := "<init>", desc := "()V" } : Jvm.MethodName)) ∈ lw_all := lw_g (lw_at lw_m1 89 rfl) rfl
theorem q154 : (Jvm.Cond.code ({ cls := "SwapWhile$Strand", name := "<init>", desc := "()V" } : Jvm.MethodName) prog_19_method_1_code (1 : Nat) (Option.none : Option Jvm.ClassFile.FieldType)) ∈ lw_all := lw_g (lw_at lw_m1 90 rfl) rfl
theorem q155 : (Jvm.Cond.methodLink "SwapWhile$Strand" (1 : Nat) ({ cls := "java/lang/Object", name := "<init>", desc := "()V" } : Jvm.MethodName)) ∈ lw_all := lw_g (lw_at lw_m1 91 rfl) rfl
theorem q156 : (Jvm.Cond.classLink "SwapWhile$Strand" (7 : Nat) "java/util/ArrayList") ∈ lw_all := lw_g (lw_at lw_m1 92 rfl) rfl
theorem q157 : (Jvm.Cond.methodLink "SwapWhile$Strand" (9 : Nat) ({ cls := "java/util/ArrayList", name := "<init>", desc := "()V" } : Jvm.MethodName)) ∈ lw_all := lw_g (lw_at lw_m1 93 rfl) rfl
theorem q158 : (Jvm.Cond.fieldLink "SwapWhile$Strand" (10 : Nat) "SwapWhile$Strand" "frames" "Ljava/util/List;") ∈ lw_all := lw_g (lw_at lw_m1 94 rfl) rfl
theorem q160 : (Jvm.Cond.fieldLink "SwapWhile$Strand" (16 : Nat) "SwapWhile$Strand" "state" "C") ∈ lw_all := lw_g (lw_at lw_m1 96 rfl) rfl
theorem q162 : (Jvm.Cond.laysFinal "SwapWhile$Strand" "SwapWhile$Strand" "frames" "Ljava/util/List;") ∈ lw_all := lw_g (lw_at lw_m1 98 rfl) rfl
theorem q163 : (Jvm.Cond.soleField "SwapWhile$Strand" "frames") ∈ lw_all := lw_g (lw_at lw_m1 99 rfl) rfl
theorem q164 : (Jvm.Cond.lays "SwapWhile$Strand" "SwapWhile$Strand" "state" "C") ∈ lw_all := lw_g (lw_at lw_m1 100 rfl) rfl
theorem q165 : (Jvm.Cond.soleField "SwapWhile$Strand" "state") ∈ lw_all := lw_g (lw_at lw_m1 101 rfl) rfl
theorem q166 : (Jvm.Cond.superclass "SwapWhile$Strand" "java/lang/Object") ∈ lw_all := lw_g (lw_at lw_m1 102 rfl) rfl
theorem q233 : (Jvm.Cond.selects "SwapWhile$Strand" ({ cls := "java/lang/Object", name := "getClass", desc := "()Ljava/lang/Class;" } : Jvm.MethodName) ({ cls := "java/lang/Object", name := "getClass", desc := "()Ljava/lang/Class;" } : Jvm.MethodName)) ∈ lw_all := lw_g (lw_at lw_m1 169 rfl) rfl
theorem q807 : (Jvm.Cond.selects "SwapWhile$Strand" ({ cls := "java/lang/Object", name := "equals", desc := "(Ljava/lang/Object;)Z" } : Jvm.MethodName) ({ cls := "java/lang/Object", name := "equals", desc := "(Ljava/lang/Object;)Z" } : Jvm.MethodName)) ∈ lw_all := lw_g (lw_at lw_m4 23 rfl) rfl
theorem q948 : (Jvm.Cond.instanceMethod ({ cls := "SwapWhile$Strand", name := "isAlive", desc := "()Z" } : Jvm.MethodName)) ∈ lw_all := lw_g (lw_at lw_m4 164 rfl) rfl
theorem q949 : (Jvm.Cond.selects "SwapWhile$Strand" ({ cls := "SwapWhile$Strand", name := "isAlive", desc := "()Z" } : Jvm.MethodName) ({ cls := "SwapWhile$Strand", name := "isAlive", desc := "()Z" } : Jvm.MethodName)) ∈ lw_all := lw_g (lw_at lw_m4 165 rfl) rfl
theorem q950 : (Jvm.Cond.code ({ cls := "SwapWhile$Strand", name := "isAlive", desc := "()Z" } : Jvm.MethodName) prog_19_method_2_code (1 : Nat) (Option.some Jvm.ClassFile.FieldType.boolean)) ∈ lw_all := lw_g (lw_at lw_m4 166 rfl) rfl
theorem q952 : (Jvm.Cond.instanceMethod ({ cls := "SwapWhile$Strand", name := "end", desc := "(C)V" } : Jvm.MethodName)) ∈ lw_all := lw_g (lw_at lw_m4 168 rfl) rfl
theorem q953 : (Jvm.Cond.selects "SwapWhile$Strand" ({ cls := "SwapWhile$Strand", name := "end", desc := "(C)V" } : Jvm.MethodName) ({ cls := "SwapWhile$Strand", name := "end", desc := "(C)V" } : Jvm.MethodName)) ∈ lw_all := lw_g (lw_at lw_m4 169 rfl) rfl
theorem q954 : (Jvm.Cond.code ({ cls := "SwapWhile$Strand", name := "end", desc := "(C)V" } : Jvm.MethodName) prog_19_method_4_code (2 : Nat) (Option.none : Option Jvm.ClassFile.FieldType)) ∈ lw_all := lw_g (lw_at lw_m4 170 rfl) rfl
theorem q955 : (Jvm.Cond.interfaceEntry "SwapWhile$Strand" (32 : Nat)) ∈ lw_tbl := lw_at lw_m4 171 rfl
theorem q956 : (Jvm.Cond.methodLink "SwapWhile$Strand" (32 : Nat) ({ cls := "java/util/List", name := "clear", desc := "()V" } : Jvm.MethodName)) ∈ lw_all := lw_g (lw_at lw_m4 172 rfl) rfl
theorem q1139 : (Jvm.Cond.instanceMethod ({ cls := "SwapWhile$Strand", name := "latest", desc := "()LSwapWhile$Frame;" } : Jvm.MethodName)) ∈ lw_all := lw_g (lw_at lw_m5 115 rfl) rfl
theorem q1140 : (Jvm.Cond.selects "SwapWhile$Strand" ({ cls := "SwapWhile$Strand", name := "latest", desc := "()LSwapWhile$Frame;" } : Jvm.MethodName) ({ cls := "SwapWhile$Strand", name := "latest", desc := "()LSwapWhile$Frame;" } : Jvm.MethodName)) ∈ lw_all := lw_g (lw_at lw_m5 116 rfl) rfl
theorem q1141 : (Jvm.Cond.code ({ cls := "SwapWhile$Strand", name := "latest", desc := "()LSwapWhile$Frame;" } : Jvm.MethodName) prog_19_method_3_code (1 : Nat) (Option.some (Jvm.ClassFile.FieldType.object "SwapWhile$Frame"))) ∈ lw_all := lw_g (lw_at lw_m5 117 rfl) rfl
theorem q1142 : (Jvm.Cond.interfaceEntry "SwapWhile$Strand" (20 : Nat)) ∈ lw_tbl := lw_at lw_m5 118 rfl
theorem q1143 : (Jvm.Cond.methodLink "SwapWhile$Strand" (20 : Nat) ({ cls := "java/util/List", name := "size", desc := "()I" } : Jvm.MethodName)) ∈ lw_all := lw_g (lw_at lw_m5 119 rfl) rfl
theorem q1144 : (Jvm.Cond.interfaceEntry "SwapWhile$Strand" (26 : Nat)) ∈ lw_tbl := lw_at lw_m5 120 rfl
theorem q1145 : (Jvm.Cond.methodLink "SwapWhile$Strand" (26 : Nat) ({ cls := "java/util/List", name := "get", desc := "(I)Ljava/lang/Object;" } : Jvm.MethodName)) ∈ lw_all := lw_g (lw_at lw_m5 121 rfl) rfl
theorem q1146 : (Jvm.Cond.classLink "SwapWhile$Strand" (30 : Nat) "SwapWhile$Frame") ∈ lw_all := lw_g (lw_at lw_m5 122 rfl) rfl
theorem q2213 : (Jvm.Cond.castable "SwapWhile$Strand" "java/lang/Object") ∈ lw_tbl := lw_at lw_m9 229 rfl
theorem in_X2 : ∀ w ∈ wsX20, w ∈ lw_all := lw_in wsX20 [162, 164] (by decide +kernel) (by decide +kernel)

/-! SwapWhile$Version -/
set_option maxRecDepth 100000
def RX3 : String := "SwapWhile$Version"
def TX3 : u_T := fun k => match k with
  | 0 => ("SwapWhile$Version", "functions", "Ljava/util/List;", true)
  | 1 => ("SwapWhile$Version", "fields", "[I", true)
  | 2 => ("SwapWhile$Version", "forward", "[LSwapWhile$Carry;", true)
  | 3 => ("SwapWhile$Version", "back", "[LSwapWhile$Carry;", true)
  | _ => ("SwapWhile$Version", "maps", "[[I", true)
def tyX3 : Nat → FieldType := fun k => match k with
  | 0 => .object "java/util/List"
  | 1 => .array .int
  | 2 => .array (.object "SwapWhile$Carry")
  | 3 => .array (.object "SwapWhile$Carry")
  | _ => .array (.array .int)
abbrev wsX30 : List Cond := u_ws RX3 TX3 5
theorem nmX3 : ∀ a, a < 5 → ∀ b, b < 5 → a ≠ b → (TX3 a).2.1 ≠ (TX3 b).2.1 := by decide +kernel
theorem tyX3_ok : ∀ k, k < 5 → parseFieldDescriptor (TX3 k).2.2.1 = some (tyX3 k) := by decide +kernel
abbrev cX3_init : ByteArray := prog_21_method_1_code
def yX3_init : MethodName := ⟨RX3, "<init>", "()V"⟩
def dkwX3_init_4 : List UInt8 := [180, 0, 18, 4, 184, 0, 42, 177]
abbrev dktX3_init_4 : List UInt8 := dkwX3_init_4 ++ []
def dkwX3_init_3 : List UInt8 := [185, 0, 36, 2, 0, 87, 42, 180, 0, 33, 27, 50, 2, 184, 0, 42, 132, 1, 1, 167, 255, 221, 42]
abbrev dktX3_init_3 : List UInt8 := dkwX3_init_3 ++ dktX3_init_4
def dkwX3_init_2 : List UInt8 := [181, 0, 33, 3, 60, 27, 8, 162, 0, 36, 42, 180, 0, 12, 187, 0, 9, 89, 183, 0, 11]
abbrev dktX3_init_2 : List UInt8 := dkwX3_init_2 ++ dktX3_init_3
def dkwX3_init_1 : List UInt8 := [189, 0, 22, 181, 0, 24, 42, 6, 189, 0, 22, 181, 0, 28, 42, 8, 16, 11, 197, 0, 31, 2]
abbrev dktX3_init_1 : List UInt8 := dkwX3_init_1 ++ dktX3_init_2
def dkwX3_init_0 : List UInt8 := [42, 183, 0, 3, 42, 187, 0, 9, 89, 183, 0, 11, 181, 0, 12, 42, 6, 188, 10, 181, 0, 18, 42, 6]
abbrev dktX3_init_0 : List UInt8 := dkwX3_init_0 ++ dktX3_init_1
theorem dksX3_init_0 : cX3_init.data.toList.drop 0 = dktX3_init_0 := by decide +kernel
theorem dksX3_init_1 : cX3_init.data.toList.drop 24 = dktX3_init_1 := dk_seg dksX3_init_0 24 rfl rfl
theorem dksX3_init_2 : cX3_init.data.toList.drop 46 = dktX3_init_2 := dk_seg dksX3_init_1 22 rfl rfl
theorem dksX3_init_3 : cX3_init.data.toList.drop 67 = dktX3_init_3 := dk_seg dksX3_init_2 21 rfl rfl
theorem dksX3_init_4 : cX3_init.data.toList.drop 90 = dktX3_init_4 := dk_seg dksX3_init_3 23 rfl rfl
theorem dX3_init_0 : decode cX3_init 0 = .ok (.aload_n 0, 1) := dk_42 (dk_at dksX3_init_0 0 rfl rfl)
theorem dX3_init_1 : decode cX3_init 1 = .ok (.invokespecial 3, 3) := dk_183 0 3 (dk_at dksX3_init_0 1 rfl rfl)
theorem dX3_init_4 : decode cX3_init 4 = .ok (.aload_n 0, 1) := dk_42 (dk_at dksX3_init_0 4 rfl rfl)
theorem dX3_init_5 : decode cX3_init 5 = .ok (.new 9, 3) := dk_187 0 9 (dk_at dksX3_init_0 5 rfl rfl)
theorem dX3_init_8 : decode cX3_init 8 = .ok (.dup, 1) := dk_89 (dk_at dksX3_init_0 8 rfl rfl)
theorem dX3_init_9 : decode cX3_init 9 = .ok (.invokespecial 11, 3) := dk_183 0 11 (dk_at dksX3_init_0 9 rfl rfl)
theorem dX3_init_12 : decode cX3_init 12 = .ok (.putfield 12, 3) := dk_181 0 12 (dk_at dksX3_init_0 12 rfl rfl)
theorem dX3_init_15 : decode cX3_init 15 = .ok (.aload_n 0, 1) := dk_42 (dk_at dksX3_init_0 15 rfl rfl)
theorem dX3_init_16 : decode cX3_init 16 = .ok (.iconst 3, 1) := dk_6 (dk_at dksX3_init_0 16 rfl rfl)
theorem dX3_init_17 : decode cX3_init 17 = .ok (.newarray .int, 2) := dk_188_10 (dk_at dksX3_init_0 17 rfl rfl)
theorem dX3_init_19 : decode cX3_init 19 = .ok (.putfield 18, 3) := dk_181 0 18 (dk_at dksX3_init_0 19 rfl rfl)
theorem dX3_init_22 : decode cX3_init 22 = .ok (.aload_n 0, 1) := dk_42 (dk_at dksX3_init_0 22 rfl rfl)
theorem dX3_init_23 : decode cX3_init 23 = .ok (.iconst 3, 1) := dk_6 (dk_at dksX3_init_0 23 rfl rfl)
theorem dX3_init_24 : decode cX3_init 24 = .ok (.anewarray 22, 3) := dk_189 0 22 (dk_at dksX3_init_1 0 rfl rfl)
theorem dX3_init_27 : decode cX3_init 27 = .ok (.putfield 24, 3) := dk_181 0 24 (dk_at dksX3_init_1 3 rfl rfl)
theorem dX3_init_30 : decode cX3_init 30 = .ok (.aload_n 0, 1) := dk_42 (dk_at dksX3_init_1 6 rfl rfl)
theorem dX3_init_31 : decode cX3_init 31 = .ok (.iconst 3, 1) := dk_6 (dk_at dksX3_init_1 7 rfl rfl)
theorem dX3_init_32 : decode cX3_init 32 = .ok (.anewarray 22, 3) := dk_189 0 22 (dk_at dksX3_init_1 8 rfl rfl)
theorem dX3_init_35 : decode cX3_init 35 = .ok (.putfield 28, 3) := dk_181 0 28 (dk_at dksX3_init_1 11 rfl rfl)
theorem dX3_init_38 : decode cX3_init 38 = .ok (.aload_n 0, 1) := dk_42 (dk_at dksX3_init_1 14 rfl rfl)
theorem dX3_init_39 : decode cX3_init 39 = .ok (.iconst 5, 1) := dk_8 (dk_at dksX3_init_1 15 rfl rfl)
theorem dX3_init_40 : decode cX3_init 40 = .ok (.bipush 11, 2) := dk_16 11 (dk_at dksX3_init_1 16 rfl rfl)
theorem dX3_init_42 : decode cX3_init 42 = .ok (.multianewarray 31 2, 4) := by decide +kernel
theorem dX3_init_46 : decode cX3_init 46 = .ok (.putfield 33, 3) := dk_181 0 33 (dk_at dksX3_init_2 0 rfl rfl)
theorem dX3_init_49 : decode cX3_init 49 = .ok (.iconst 0, 1) := dk_3 (dk_at dksX3_init_2 3 rfl rfl)
theorem dX3_init_50 : decode cX3_init 50 = .ok (.istore_n 1, 1) := dk_60 (dk_at dksX3_init_2 4 rfl rfl)
theorem dX3_init_51 : decode cX3_init 51 = .ok (.iload_n 1, 1) := dk_27 (dk_at dksX3_init_2 5 rfl rfl)
theorem dX3_init_52 : decode cX3_init 52 = .ok (.iconst 5, 1) := dk_8 (dk_at dksX3_init_2 6 rfl rfl)
theorem dX3_init_53 : decode cX3_init 53 = .ok (.if_icmp .ge 36, 3) := dk_162 0 36 (dk_at dksX3_init_2 7 rfl rfl)
theorem dX3_init_56 : decode cX3_init 56 = .ok (.aload_n 0, 1) := dk_42 (dk_at dksX3_init_2 10 rfl rfl)
theorem dX3_init_57 : decode cX3_init 57 = .ok (.getfield 12, 3) := dk_180 0 12 (dk_at dksX3_init_2 11 rfl rfl)
theorem dX3_init_60 : decode cX3_init 60 = .ok (.new 9, 3) := dk_187 0 9 (dk_at dksX3_init_2 14 rfl rfl)
theorem dX3_init_63 : decode cX3_init 63 = .ok (.dup, 1) := dk_89 (dk_at dksX3_init_2 17 rfl rfl)
theorem dX3_init_64 : decode cX3_init 64 = .ok (.invokespecial 11, 3) := dk_183 0 11 (dk_at dksX3_init_2 18 rfl rfl)
theorem dX3_init_67 : decode cX3_init 67 = .ok (.invokeinterface 36 2, 5) := by decide +kernel
theorem dX3_init_72 : decode cX3_init 72 = .ok (.pop, 1) := dk_87 (dk_at dksX3_init_3 5 rfl rfl)
theorem dX3_init_73 : decode cX3_init 73 = .ok (.aload_n 0, 1) := dk_42 (dk_at dksX3_init_3 6 rfl rfl)
theorem dX3_init_74 : decode cX3_init 74 = .ok (.getfield 33, 3) := dk_180 0 33 (dk_at dksX3_init_3 7 rfl rfl)
theorem dX3_init_77 : decode cX3_init 77 = .ok (.iload_n 1, 1) := dk_27 (dk_at dksX3_init_3 10 rfl rfl)
theorem dX3_init_78 : decode cX3_init 78 = .ok (.aaload, 1) := dk_50 (dk_at dksX3_init_3 11 rfl rfl)
theorem dX3_init_79 : decode cX3_init 79 = .ok (.iconst (-1), 1) := dk_2 (dk_at dksX3_init_3 12 rfl rfl)
theorem dX3_init_80 : decode cX3_init 80 = .ok (.invokestatic 42, 3) := dk_184 0 42 (dk_at dksX3_init_3 13 rfl rfl)
theorem dX3_init_83 : decode cX3_init 83 = .ok (.iinc 1 1, 3) := dk_132 1 1 (dk_at dksX3_init_3 16 rfl rfl)
theorem dX3_init_86 : decode cX3_init 86 = .ok (.goto (-35), 3) := dk_167 255 221 (dk_at dksX3_init_3 19 rfl rfl)
theorem dX3_init_89 : decode cX3_init 89 = .ok (.aload_n 0, 1) := dk_42 (dk_at dksX3_init_3 22 rfl rfl)
theorem dX3_init_90 : decode cX3_init 90 = .ok (.getfield 18, 3) := dk_180 0 18 (dk_at dksX3_init_4 0 rfl rfl)
theorem dX3_init_93 : decode cX3_init 93 = .ok (.iconst 1, 1) := dk_4 (dk_at dksX3_init_4 3 rfl rfl)
theorem dX3_init_94 : decode cX3_init 94 = .ok (.invokestatic 42, 3) := dk_184 0 42 (dk_at dksX3_init_4 4 rfl rfl)
theorem dX3_init_97 : decode cX3_init 97 = .ok (.return_, 1) := dk_177 (dk_at dksX3_init_4 7 rfl rfl)
abbrev cX3_init_2 : ByteArray := prog_21_method_2_code
def yX3_init_2 : MethodName := ⟨RX3, "<init>", "(LSwapWhile$Version;)V"⟩
def dkwX3_init_2_3 : List UInt8 := [182, 0, 59, 132, 2, 1, 167, 255, 231, 177]
abbrev dktX3_init_2_3 : List UInt8 := dkwX3_init_2_3 ++ []
def dkwX3_init_2_2 : List UInt8 := [167, 255, 216, 3, 61, 28, 6, 162, 0, 26, 42, 28, 43, 180, 0, 18, 28, 46, 43, 180, 0, 18, 28, 46]
abbrev dktX3_init_2_2 : List UInt8 := dkwX3_init_2_2 ++ dktX3_init_2_3
def dkwX3_init_2_1 : List UInt8 := [43, 180, 0, 12, 28, 185, 0, 49, 2, 0, 192, 0, 53, 185, 0, 55, 2, 0, 87, 132, 2, 1]
abbrev dktX3_init_2_1 : List UInt8 := dkwX3_init_2_1 ++ dktX3_init_2_2
def dkwX3_init_2_0 : List UInt8 := [42, 183, 0, 48, 3, 61, 28, 8, 162, 0, 41, 42, 180, 0, 12, 28, 185, 0, 49, 2, 0, 192, 0, 37]
abbrev dktX3_init_2_0 : List UInt8 := dkwX3_init_2_0 ++ dktX3_init_2_1
theorem dksX3_init_2_0 : cX3_init_2.data.toList.drop 0 = dktX3_init_2_0 := by decide +kernel
theorem dksX3_init_2_1 : cX3_init_2.data.toList.drop 24 = dktX3_init_2_1 := dk_seg dksX3_init_2_0 24 rfl rfl
theorem dksX3_init_2_2 : cX3_init_2.data.toList.drop 46 = dktX3_init_2_2 := dk_seg dksX3_init_2_1 22 rfl rfl
theorem dksX3_init_2_3 : cX3_init_2.data.toList.drop 70 = dktX3_init_2_3 := dk_seg dksX3_init_2_2 24 rfl rfl
theorem dX3_init_2_0 : decode cX3_init_2 0 = .ok (.aload_n 0, 1) := dk_42 (dk_at dksX3_init_2_0 0 rfl rfl)
theorem dX3_init_2_1 : decode cX3_init_2 1 = .ok (.invokespecial 48, 3) := dk_183 0 48 (dk_at dksX3_init_2_0 1 rfl rfl)
theorem dX3_init_2_4 : decode cX3_init_2 4 = .ok (.iconst 0, 1) := dk_3 (dk_at dksX3_init_2_0 4 rfl rfl)
theorem dX3_init_2_5 : decode cX3_init_2 5 = .ok (.istore_n 2, 1) := dk_61 (dk_at dksX3_init_2_0 5 rfl rfl)
theorem dX3_init_2_6 : decode cX3_init_2 6 = .ok (.iload_n 2, 1) := dk_28 (dk_at dksX3_init_2_0 6 rfl rfl)
theorem dX3_init_2_7 : decode cX3_init_2 7 = .ok (.iconst 5, 1) := dk_8 (dk_at dksX3_init_2_0 7 rfl rfl)
theorem dX3_init_2_8 : decode cX3_init_2 8 = .ok (.if_icmp .ge 41, 3) := dk_162 0 41 (dk_at dksX3_init_2_0 8 rfl rfl)
theorem dX3_init_2_11 : decode cX3_init_2 11 = .ok (.aload_n 0, 1) := dk_42 (dk_at dksX3_init_2_0 11 rfl rfl)
theorem dX3_init_2_12 : decode cX3_init_2 12 = .ok (.getfield 12, 3) := dk_180 0 12 (dk_at dksX3_init_2_0 12 rfl rfl)
theorem dX3_init_2_15 : decode cX3_init_2 15 = .ok (.iload_n 2, 1) := dk_28 (dk_at dksX3_init_2_0 15 rfl rfl)
theorem dX3_init_2_16 : decode cX3_init_2 16 = .ok (.invokeinterface 49 2, 5) := by decide +kernel
theorem dX3_init_2_21 : decode cX3_init_2 21 = .ok (.checkcast 37, 3) := dk_192 0 37 (dk_at dksX3_init_2_0 21 rfl rfl)
theorem dX3_init_2_24 : decode cX3_init_2 24 = .ok (.aload_n 1, 1) := dk_43 (dk_at dksX3_init_2_1 0 rfl rfl)
theorem dX3_init_2_25 : decode cX3_init_2 25 = .ok (.getfield 12, 3) := dk_180 0 12 (dk_at dksX3_init_2_1 1 rfl rfl)
theorem dX3_init_2_28 : decode cX3_init_2 28 = .ok (.iload_n 2, 1) := dk_28 (dk_at dksX3_init_2_1 4 rfl rfl)
theorem dX3_init_2_29 : decode cX3_init_2 29 = .ok (.invokeinterface 49 2, 5) := by decide +kernel
theorem dX3_init_2_34 : decode cX3_init_2 34 = .ok (.checkcast 53, 3) := dk_192 0 53 (dk_at dksX3_init_2_1 10 rfl rfl)
theorem dX3_init_2_37 : decode cX3_init_2 37 = .ok (.invokeinterface 55 2, 5) := by decide +kernel
theorem dX3_init_2_42 : decode cX3_init_2 42 = .ok (.pop, 1) := dk_87 (dk_at dksX3_init_2_1 18 rfl rfl)
theorem dX3_init_2_43 : decode cX3_init_2 43 = .ok (.iinc 2 1, 3) := dk_132 2 1 (dk_at dksX3_init_2_1 19 rfl rfl)
theorem dX3_init_2_46 : decode cX3_init_2 46 = .ok (.goto (-40), 3) := dk_167 255 216 (dk_at dksX3_init_2_2 0 rfl rfl)
theorem dX3_init_2_49 : decode cX3_init_2 49 = .ok (.iconst 0, 1) := dk_3 (dk_at dksX3_init_2_2 3 rfl rfl)
theorem dX3_init_2_50 : decode cX3_init_2 50 = .ok (.istore_n 2, 1) := dk_61 (dk_at dksX3_init_2_2 4 rfl rfl)
theorem dX3_init_2_51 : decode cX3_init_2 51 = .ok (.iload_n 2, 1) := dk_28 (dk_at dksX3_init_2_2 5 rfl rfl)
theorem dX3_init_2_52 : decode cX3_init_2 52 = .ok (.iconst 3, 1) := dk_6 (dk_at dksX3_init_2_2 6 rfl rfl)
theorem dX3_init_2_53 : decode cX3_init_2 53 = .ok (.if_icmp .ge 26, 3) := dk_162 0 26 (dk_at dksX3_init_2_2 7 rfl rfl)
theorem dX3_init_2_56 : decode cX3_init_2 56 = .ok (.aload_n 0, 1) := dk_42 (dk_at dksX3_init_2_2 10 rfl rfl)
theorem dX3_init_2_57 : decode cX3_init_2 57 = .ok (.iload_n 2, 1) := dk_28 (dk_at dksX3_init_2_2 11 rfl rfl)
theorem dX3_init_2_58 : decode cX3_init_2 58 = .ok (.aload_n 1, 1) := dk_43 (dk_at dksX3_init_2_2 12 rfl rfl)
theorem dX3_init_2_59 : decode cX3_init_2 59 = .ok (.getfield 18, 3) := dk_180 0 18 (dk_at dksX3_init_2_2 13 rfl rfl)
theorem dX3_init_2_62 : decode cX3_init_2 62 = .ok (.iload_n 2, 1) := dk_28 (dk_at dksX3_init_2_2 16 rfl rfl)
theorem dX3_init_2_63 : decode cX3_init_2 63 = .ok (.iaload, 1) := dk_46 (dk_at dksX3_init_2_2 17 rfl rfl)
theorem dX3_init_2_64 : decode cX3_init_2 64 = .ok (.aload_n 1, 1) := dk_43 (dk_at dksX3_init_2_2 18 rfl rfl)
theorem dX3_init_2_65 : decode cX3_init_2 65 = .ok (.getfield 18, 3) := dk_180 0 18 (dk_at dksX3_init_2_2 19 rfl rfl)
theorem dX3_init_2_68 : decode cX3_init_2 68 = .ok (.iload_n 2, 1) := dk_28 (dk_at dksX3_init_2_2 22 rfl rfl)
theorem dX3_init_2_69 : decode cX3_init_2 69 = .ok (.iaload, 1) := dk_46 (dk_at dksX3_init_2_2 23 rfl rfl)
theorem dX3_init_2_70 : decode cX3_init_2 70 = .ok (.invokevirtual 59, 3) := dk_182 0 59 (dk_at dksX3_init_2_3 0 rfl rfl)
theorem dX3_init_2_73 : decode cX3_init_2 73 = .ok (.iinc 2 1, 3) := dk_132 2 1 (dk_at dksX3_init_2_3 3 rfl rfl)
theorem dX3_init_2_76 : decode cX3_init_2 76 = .ok (.goto (-25), 3) := dk_167 255 231 (dk_at dksX3_init_2_3 6 rfl rfl)
theorem dX3_init_2_79 : decode cX3_init_2 79 = .ok (.return_, 1) := dk_177 (dk_at dksX3_init_2_3 9 rfl rfl)
abbrev cX3_setFields : ByteArray := prog_21_method_3_code
def yX3_setFields : MethodName := ⟨RX3, "setFields", "(III)V"⟩
def dkwX3_setFields_1 : List UInt8 := [180, 0, 28, 27, 187, 0, 22, 89, 29, 28, 183, 0, 63, 83, 177]
abbrev dktX3_setFields_1 : List UInt8 := dkwX3_setFields_1 ++ []
def dkwX3_setFields_0 : List UInt8 := [42, 180, 0, 18, 27, 28, 79, 42, 180, 0, 24, 27, 187, 0, 22, 89, 28, 29, 183, 0, 63, 83, 42]
abbrev dktX3_setFields_0 : List UInt8 := dkwX3_setFields_0 ++ dktX3_setFields_1
theorem dksX3_setFields_0 : cX3_setFields.data.toList.drop 0 = dktX3_setFields_0 := by decide +kernel
theorem dksX3_setFields_1 : cX3_setFields.data.toList.drop 23 = dktX3_setFields_1 := dk_seg dksX3_setFields_0 23 rfl rfl
theorem dX3_setFields_0 : decode cX3_setFields 0 = .ok (.aload_n 0, 1) := dk_42 (dk_at dksX3_setFields_0 0 rfl rfl)
theorem dX3_setFields_1 : decode cX3_setFields 1 = .ok (.getfield 18, 3) := dk_180 0 18 (dk_at dksX3_setFields_0 1 rfl rfl)
theorem dX3_setFields_4 : decode cX3_setFields 4 = .ok (.iload_n 1, 1) := dk_27 (dk_at dksX3_setFields_0 4 rfl rfl)
theorem dX3_setFields_5 : decode cX3_setFields 5 = .ok (.iload_n 2, 1) := dk_28 (dk_at dksX3_setFields_0 5 rfl rfl)
theorem dX3_setFields_6 : decode cX3_setFields 6 = .ok (.iastore, 1) := dk_79 (dk_at dksX3_setFields_0 6 rfl rfl)
theorem dX3_setFields_7 : decode cX3_setFields 7 = .ok (.aload_n 0, 1) := dk_42 (dk_at dksX3_setFields_0 7 rfl rfl)
theorem dX3_setFields_8 : decode cX3_setFields 8 = .ok (.getfield 24, 3) := dk_180 0 24 (dk_at dksX3_setFields_0 8 rfl rfl)
theorem dX3_setFields_11 : decode cX3_setFields 11 = .ok (.iload_n 1, 1) := dk_27 (dk_at dksX3_setFields_0 11 rfl rfl)
theorem dX3_setFields_12 : decode cX3_setFields 12 = .ok (.new 22, 3) := dk_187 0 22 (dk_at dksX3_setFields_0 12 rfl rfl)
theorem dX3_setFields_15 : decode cX3_setFields 15 = .ok (.dup, 1) := dk_89 (dk_at dksX3_setFields_0 15 rfl rfl)
theorem dX3_setFields_16 : decode cX3_setFields 16 = .ok (.iload_n 2, 1) := dk_28 (dk_at dksX3_setFields_0 16 rfl rfl)
theorem dX3_setFields_17 : decode cX3_setFields 17 = .ok (.iload_n 3, 1) := dk_29 (dk_at dksX3_setFields_0 17 rfl rfl)
theorem dX3_setFields_18 : decode cX3_setFields 18 = .ok (.invokespecial 63, 3) := dk_183 0 63 (dk_at dksX3_setFields_0 18 rfl rfl)
theorem dX3_setFields_21 : decode cX3_setFields 21 = .ok (.aastore, 1) := dk_83 (dk_at dksX3_setFields_0 21 rfl rfl)
theorem dX3_setFields_22 : decode cX3_setFields 22 = .ok (.aload_n 0, 1) := dk_42 (dk_at dksX3_setFields_0 22 rfl rfl)
theorem dX3_setFields_23 : decode cX3_setFields 23 = .ok (.getfield 28, 3) := dk_180 0 28 (dk_at dksX3_setFields_1 0 rfl rfl)
theorem dX3_setFields_26 : decode cX3_setFields 26 = .ok (.iload_n 1, 1) := dk_27 (dk_at dksX3_setFields_1 3 rfl rfl)
theorem dX3_setFields_27 : decode cX3_setFields 27 = .ok (.new 22, 3) := dk_187 0 22 (dk_at dksX3_setFields_1 4 rfl rfl)
theorem dX3_setFields_30 : decode cX3_setFields 30 = .ok (.dup, 1) := dk_89 (dk_at dksX3_setFields_1 7 rfl rfl)
theorem dX3_setFields_31 : decode cX3_setFields 31 = .ok (.iload_n 3, 1) := dk_29 (dk_at dksX3_setFields_1 8 rfl rfl)
theorem dX3_setFields_32 : decode cX3_setFields 32 = .ok (.iload_n 2, 1) := dk_28 (dk_at dksX3_setFields_1 9 rfl rfl)
theorem dX3_setFields_33 : decode cX3_setFields 33 = .ok (.invokespecial 63, 3) := dk_183 0 63 (dk_at dksX3_setFields_1 10 rfl rfl)
theorem dX3_setFields_36 : decode cX3_setFields 36 = .ok (.aastore, 1) := dk_83 (dk_at dksX3_setFields_1 13 rfl rfl)
theorem dX3_setFields_37 : decode cX3_setFields 37 = .ok (.return_, 1) := dk_177 (dk_at dksX3_setFields_1 14 rfl rfl)
abbrev cX3_countMapped : ByteArray := prog_21_method_5_code
def yX3_countMapped : MethodName := ⟨RX3, "countMapped", "(I)I"⟩
def dkwX3_countMapped_2 : List UInt8 := [167, 255, 226, 28, 172]
abbrev dktX3_countMapped_2 : List UInt8 := dkwX3_countMapped_2 ++ []
def dkwX3_countMapped_1 : List UInt8 := [21, 5, 46, 54, 6, 28, 21, 6, 2, 160, 0, 7, 3, 167, 0, 4, 4, 96, 61, 132, 5, 1]
abbrev dktX3_countMapped_1 : List UInt8 := dkwX3_countMapped_1 ++ dktX3_countMapped_2
def dkwX3_countMapped_0 : List UInt8 := [3, 61, 42, 180, 0, 33, 27, 50, 78, 45, 190, 54, 4, 3, 54, 5, 21, 5, 21, 4, 162, 0, 29, 45]
abbrev dktX3_countMapped_0 : List UInt8 := dkwX3_countMapped_0 ++ dktX3_countMapped_1
theorem dksX3_countMapped_0 : cX3_countMapped.data.toList.drop 0 = dktX3_countMapped_0 := by decide +kernel
theorem dksX3_countMapped_1 : cX3_countMapped.data.toList.drop 24 = dktX3_countMapped_1 := dk_seg dksX3_countMapped_0 24 rfl rfl
theorem dksX3_countMapped_2 : cX3_countMapped.data.toList.drop 46 = dktX3_countMapped_2 := dk_seg dksX3_countMapped_1 22 rfl rfl
theorem dX3_countMapped_0 : decode cX3_countMapped 0 = .ok (.iconst 0, 1) := dk_3 (dk_at dksX3_countMapped_0 0 rfl rfl)
theorem dX3_countMapped_1 : decode cX3_countMapped 1 = .ok (.istore_n 2, 1) := dk_61 (dk_at dksX3_countMapped_0 1 rfl rfl)
theorem dX3_countMapped_2 : decode cX3_countMapped 2 = .ok (.aload_n 0, 1) := dk_42 (dk_at dksX3_countMapped_0 2 rfl rfl)
theorem dX3_countMapped_3 : decode cX3_countMapped 3 = .ok (.getfield 33, 3) := dk_180 0 33 (dk_at dksX3_countMapped_0 3 rfl rfl)
theorem dX3_countMapped_6 : decode cX3_countMapped 6 = .ok (.iload_n 1, 1) := dk_27 (dk_at dksX3_countMapped_0 6 rfl rfl)
theorem dX3_countMapped_7 : decode cX3_countMapped 7 = .ok (.aaload, 1) := dk_50 (dk_at dksX3_countMapped_0 7 rfl rfl)
theorem dX3_countMapped_8 : decode cX3_countMapped 8 = .ok (.astore_n 3, 1) := dk_78 (dk_at dksX3_countMapped_0 8 rfl rfl)
theorem dX3_countMapped_9 : decode cX3_countMapped 9 = .ok (.aload_n 3, 1) := dk_45 (dk_at dksX3_countMapped_0 9 rfl rfl)
theorem dX3_countMapped_10 : decode cX3_countMapped 10 = .ok (.arraylength, 1) := dk_190 (dk_at dksX3_countMapped_0 10 rfl rfl)
theorem dX3_countMapped_11 : decode cX3_countMapped 11 = .ok (.istore 4, 2) := dk_54 4 (dk_at dksX3_countMapped_0 11 rfl rfl)
theorem dX3_countMapped_13 : decode cX3_countMapped 13 = .ok (.iconst 0, 1) := dk_3 (dk_at dksX3_countMapped_0 13 rfl rfl)
theorem dX3_countMapped_14 : decode cX3_countMapped 14 = .ok (.istore 5, 2) := dk_54 5 (dk_at dksX3_countMapped_0 14 rfl rfl)
theorem dX3_countMapped_16 : decode cX3_countMapped 16 = .ok (.iload 5, 2) := dk_21 5 (dk_at dksX3_countMapped_0 16 rfl rfl)
theorem dX3_countMapped_18 : decode cX3_countMapped 18 = .ok (.iload 4, 2) := dk_21 4 (dk_at dksX3_countMapped_0 18 rfl rfl)
theorem dX3_countMapped_20 : decode cX3_countMapped 20 = .ok (.if_icmp .ge 29, 3) := dk_162 0 29 (dk_at dksX3_countMapped_0 20 rfl rfl)
theorem dX3_countMapped_23 : decode cX3_countMapped 23 = .ok (.aload_n 3, 1) := dk_45 (dk_at dksX3_countMapped_0 23 rfl rfl)
theorem dX3_countMapped_24 : decode cX3_countMapped 24 = .ok (.iload 5, 2) := dk_21 5 (dk_at dksX3_countMapped_1 0 rfl rfl)
theorem dX3_countMapped_26 : decode cX3_countMapped 26 = .ok (.iaload, 1) := dk_46 (dk_at dksX3_countMapped_1 2 rfl rfl)
theorem dX3_countMapped_27 : decode cX3_countMapped 27 = .ok (.istore 6, 2) := dk_54 6 (dk_at dksX3_countMapped_1 3 rfl rfl)
theorem dX3_countMapped_29 : decode cX3_countMapped 29 = .ok (.iload_n 2, 1) := dk_28 (dk_at dksX3_countMapped_1 5 rfl rfl)
theorem dX3_countMapped_30 : decode cX3_countMapped 30 = .ok (.iload 6, 2) := dk_21 6 (dk_at dksX3_countMapped_1 6 rfl rfl)
theorem dX3_countMapped_32 : decode cX3_countMapped 32 = .ok (.iconst (-1), 1) := dk_2 (dk_at dksX3_countMapped_1 8 rfl rfl)
theorem dX3_countMapped_33 : decode cX3_countMapped 33 = .ok (.if_icmp .ne 7, 3) := dk_160 0 7 (dk_at dksX3_countMapped_1 9 rfl rfl)
theorem dX3_countMapped_36 : decode cX3_countMapped 36 = .ok (.iconst 0, 1) := dk_3 (dk_at dksX3_countMapped_1 12 rfl rfl)
theorem dX3_countMapped_37 : decode cX3_countMapped 37 = .ok (.goto 4, 3) := dk_167 0 4 (dk_at dksX3_countMapped_1 13 rfl rfl)
theorem dX3_countMapped_40 : decode cX3_countMapped 40 = .ok (.iconst 1, 1) := dk_4 (dk_at dksX3_countMapped_1 16 rfl rfl)
theorem dX3_countMapped_41 : decode cX3_countMapped 41 = .ok (.iadd, 1) := dk_96 (dk_at dksX3_countMapped_1 17 rfl rfl)
theorem dX3_countMapped_42 : decode cX3_countMapped 42 = .ok (.istore_n 2, 1) := dk_61 (dk_at dksX3_countMapped_1 18 rfl rfl)
theorem dX3_countMapped_43 : decode cX3_countMapped 43 = .ok (.iinc 5 1, 3) := dk_132 5 1 (dk_at dksX3_countMapped_1 19 rfl rfl)
theorem dX3_countMapped_46 : decode cX3_countMapped 46 = .ok (.goto (-30), 3) := dk_167 255 226 (dk_at dksX3_countMapped_2 0 rfl rfl)
theorem dX3_countMapped_49 : decode cX3_countMapped 49 = .ok (.iload_n 2, 1) := dk_28 (dk_at dksX3_countMapped_2 3 rfl rfl)
theorem dX3_countMapped_50 : decode cX3_countMapped 50 = .ok (.ireturn, 1) := dk_172 (dk_at dksX3_countMapped_2 4 rfl rfl)
abbrev cX3_dropMapsBeyond : ByteArray := prog_21_method_6_code
def yX3_dropMapsBeyond : MethodName := ⟨RX3, "dropMapsBeyond", "()V"⟩
def dkwX3_dropMapsBeyond_3 : List UInt8 := [46, 79, 132, 2, 1, 167, 255, 188, 132, 1, 1, 167, 255, 175, 177]
abbrev dktX3_dropMapsBeyond_3 : List UInt8 := dkwX3_dropMapsBeyond_3 ++ []
def dkwX3_dropMapsBeyond_2 : List UInt8 := [3, 62, 42, 180, 0, 33, 27, 50, 28, 29, 153, 0, 7, 2, 167, 0, 11, 42, 180, 0, 33, 27, 50, 28]
abbrev dktX3_dropMapsBeyond_2 : List UInt8 := dkwX3_dropMapsBeyond_2 ++ dktX3_dropMapsBeyond_3
def dkwX3_dropMapsBeyond_1 : List UInt8 := [180, 0, 12, 27, 185, 0, 49, 2, 0, 192, 0, 37, 185, 0, 95, 1, 0, 164, 0, 7, 4, 167, 0, 4]
abbrev dktX3_dropMapsBeyond_1 : List UInt8 := dkwX3_dropMapsBeyond_1 ++ dktX3_dropMapsBeyond_2
def dkwX3_dropMapsBeyond_0 : List UInt8 := [3, 60, 27, 8, 162, 0, 82, 3, 61, 28, 16, 10, 163, 0, 68, 42, 180, 0, 33, 27, 50, 28, 46, 42]
abbrev dktX3_dropMapsBeyond_0 : List UInt8 := dkwX3_dropMapsBeyond_0 ++ dktX3_dropMapsBeyond_1
theorem dksX3_dropMapsBeyond_0 : cX3_dropMapsBeyond.data.toList.drop 0 = dktX3_dropMapsBeyond_0 := by decide +kernel
theorem dksX3_dropMapsBeyond_1 : cX3_dropMapsBeyond.data.toList.drop 24 = dktX3_dropMapsBeyond_1 := dk_seg dksX3_dropMapsBeyond_0 24 rfl rfl
theorem dksX3_dropMapsBeyond_2 : cX3_dropMapsBeyond.data.toList.drop 48 = dktX3_dropMapsBeyond_2 := dk_seg dksX3_dropMapsBeyond_1 24 rfl rfl
theorem dksX3_dropMapsBeyond_3 : cX3_dropMapsBeyond.data.toList.drop 72 = dktX3_dropMapsBeyond_3 := dk_seg dksX3_dropMapsBeyond_2 24 rfl rfl
theorem dX3_dropMapsBeyond_0 : decode cX3_dropMapsBeyond 0 = .ok (.iconst 0, 1) := dk_3 (dk_at dksX3_dropMapsBeyond_0 0 rfl rfl)
theorem dX3_dropMapsBeyond_1 : decode cX3_dropMapsBeyond 1 = .ok (.istore_n 1, 1) := dk_60 (dk_at dksX3_dropMapsBeyond_0 1 rfl rfl)
theorem dX3_dropMapsBeyond_2 : decode cX3_dropMapsBeyond 2 = .ok (.iload_n 1, 1) := dk_27 (dk_at dksX3_dropMapsBeyond_0 2 rfl rfl)
theorem dX3_dropMapsBeyond_3 : decode cX3_dropMapsBeyond 3 = .ok (.iconst 5, 1) := dk_8 (dk_at dksX3_dropMapsBeyond_0 3 rfl rfl)
theorem dX3_dropMapsBeyond_4 : decode cX3_dropMapsBeyond 4 = .ok (.if_icmp .ge 82, 3) := dk_162 0 82 (dk_at dksX3_dropMapsBeyond_0 4 rfl rfl)
theorem dX3_dropMapsBeyond_7 : decode cX3_dropMapsBeyond 7 = .ok (.iconst 0, 1) := dk_3 (dk_at dksX3_dropMapsBeyond_0 7 rfl rfl)
theorem dX3_dropMapsBeyond_8 : decode cX3_dropMapsBeyond 8 = .ok (.istore_n 2, 1) := dk_61 (dk_at dksX3_dropMapsBeyond_0 8 rfl rfl)
theorem dX3_dropMapsBeyond_9 : decode cX3_dropMapsBeyond 9 = .ok (.iload_n 2, 1) := dk_28 (dk_at dksX3_dropMapsBeyond_0 9 rfl rfl)
theorem dX3_dropMapsBeyond_10 : decode cX3_dropMapsBeyond 10 = .ok (.bipush 10, 2) := dk_16 10 (dk_at dksX3_dropMapsBeyond_0 10 rfl rfl)
theorem dX3_dropMapsBeyond_12 : decode cX3_dropMapsBeyond 12 = .ok (.if_icmp .gt 68, 3) := dk_163 0 68 (dk_at dksX3_dropMapsBeyond_0 12 rfl rfl)
theorem dX3_dropMapsBeyond_15 : decode cX3_dropMapsBeyond 15 = .ok (.aload_n 0, 1) := dk_42 (dk_at dksX3_dropMapsBeyond_0 15 rfl rfl)
theorem dX3_dropMapsBeyond_16 : decode cX3_dropMapsBeyond 16 = .ok (.getfield 33, 3) := dk_180 0 33 (dk_at dksX3_dropMapsBeyond_0 16 rfl rfl)
theorem dX3_dropMapsBeyond_19 : decode cX3_dropMapsBeyond 19 = .ok (.iload_n 1, 1) := dk_27 (dk_at dksX3_dropMapsBeyond_0 19 rfl rfl)
theorem dX3_dropMapsBeyond_20 : decode cX3_dropMapsBeyond 20 = .ok (.aaload, 1) := dk_50 (dk_at dksX3_dropMapsBeyond_0 20 rfl rfl)
theorem dX3_dropMapsBeyond_21 : decode cX3_dropMapsBeyond 21 = .ok (.iload_n 2, 1) := dk_28 (dk_at dksX3_dropMapsBeyond_0 21 rfl rfl)
theorem dX3_dropMapsBeyond_22 : decode cX3_dropMapsBeyond 22 = .ok (.iaload, 1) := dk_46 (dk_at dksX3_dropMapsBeyond_0 22 rfl rfl)
theorem dX3_dropMapsBeyond_23 : decode cX3_dropMapsBeyond 23 = .ok (.aload_n 0, 1) := dk_42 (dk_at dksX3_dropMapsBeyond_0 23 rfl rfl)
theorem dX3_dropMapsBeyond_24 : decode cX3_dropMapsBeyond 24 = .ok (.getfield 12, 3) := dk_180 0 12 (dk_at dksX3_dropMapsBeyond_1 0 rfl rfl)
theorem dX3_dropMapsBeyond_27 : decode cX3_dropMapsBeyond 27 = .ok (.iload_n 1, 1) := dk_27 (dk_at dksX3_dropMapsBeyond_1 3 rfl rfl)
theorem dX3_dropMapsBeyond_28 : decode cX3_dropMapsBeyond 28 = .ok (.invokeinterface 49 2, 5) := by decide +kernel
theorem dX3_dropMapsBeyond_33 : decode cX3_dropMapsBeyond 33 = .ok (.checkcast 37, 3) := dk_192 0 37 (dk_at dksX3_dropMapsBeyond_1 9 rfl rfl)
theorem dX3_dropMapsBeyond_36 : decode cX3_dropMapsBeyond 36 = .ok (.invokeinterface 95 1, 5) := by decide +kernel
theorem dX3_dropMapsBeyond_41 : decode cX3_dropMapsBeyond 41 = .ok (.if_icmp .le 7, 3) := dk_164 0 7 (dk_at dksX3_dropMapsBeyond_1 17 rfl rfl)
theorem dX3_dropMapsBeyond_44 : decode cX3_dropMapsBeyond 44 = .ok (.iconst 1, 1) := dk_4 (dk_at dksX3_dropMapsBeyond_1 20 rfl rfl)
theorem dX3_dropMapsBeyond_45 : decode cX3_dropMapsBeyond 45 = .ok (.goto 4, 3) := dk_167 0 4 (dk_at dksX3_dropMapsBeyond_1 21 rfl rfl)
theorem dX3_dropMapsBeyond_48 : decode cX3_dropMapsBeyond 48 = .ok (.iconst 0, 1) := dk_3 (dk_at dksX3_dropMapsBeyond_2 0 rfl rfl)
theorem dX3_dropMapsBeyond_49 : decode cX3_dropMapsBeyond 49 = .ok (.istore_n 3, 1) := dk_62 (dk_at dksX3_dropMapsBeyond_2 1 rfl rfl)
theorem dX3_dropMapsBeyond_50 : decode cX3_dropMapsBeyond 50 = .ok (.aload_n 0, 1) := dk_42 (dk_at dksX3_dropMapsBeyond_2 2 rfl rfl)
theorem dX3_dropMapsBeyond_51 : decode cX3_dropMapsBeyond 51 = .ok (.getfield 33, 3) := dk_180 0 33 (dk_at dksX3_dropMapsBeyond_2 3 rfl rfl)
theorem dX3_dropMapsBeyond_54 : decode cX3_dropMapsBeyond 54 = .ok (.iload_n 1, 1) := dk_27 (dk_at dksX3_dropMapsBeyond_2 6 rfl rfl)
theorem dX3_dropMapsBeyond_55 : decode cX3_dropMapsBeyond 55 = .ok (.aaload, 1) := dk_50 (dk_at dksX3_dropMapsBeyond_2 7 rfl rfl)
theorem dX3_dropMapsBeyond_56 : decode cX3_dropMapsBeyond 56 = .ok (.iload_n 2, 1) := dk_28 (dk_at dksX3_dropMapsBeyond_2 8 rfl rfl)
theorem dX3_dropMapsBeyond_57 : decode cX3_dropMapsBeyond 57 = .ok (.iload_n 3, 1) := dk_29 (dk_at dksX3_dropMapsBeyond_2 9 rfl rfl)
theorem dX3_dropMapsBeyond_58 : decode cX3_dropMapsBeyond 58 = .ok (.ifCond .eq 7, 3) := dk_153 0 7 (dk_at dksX3_dropMapsBeyond_2 10 rfl rfl)
theorem dX3_dropMapsBeyond_61 : decode cX3_dropMapsBeyond 61 = .ok (.iconst (-1), 1) := dk_2 (dk_at dksX3_dropMapsBeyond_2 13 rfl rfl)
theorem dX3_dropMapsBeyond_62 : decode cX3_dropMapsBeyond 62 = .ok (.goto 11, 3) := dk_167 0 11 (dk_at dksX3_dropMapsBeyond_2 14 rfl rfl)
theorem dX3_dropMapsBeyond_65 : decode cX3_dropMapsBeyond 65 = .ok (.aload_n 0, 1) := dk_42 (dk_at dksX3_dropMapsBeyond_2 17 rfl rfl)
theorem dX3_dropMapsBeyond_66 : decode cX3_dropMapsBeyond 66 = .ok (.getfield 33, 3) := dk_180 0 33 (dk_at dksX3_dropMapsBeyond_2 18 rfl rfl)
theorem dX3_dropMapsBeyond_69 : decode cX3_dropMapsBeyond 69 = .ok (.iload_n 1, 1) := dk_27 (dk_at dksX3_dropMapsBeyond_2 21 rfl rfl)
theorem dX3_dropMapsBeyond_70 : decode cX3_dropMapsBeyond 70 = .ok (.aaload, 1) := dk_50 (dk_at dksX3_dropMapsBeyond_2 22 rfl rfl)
theorem dX3_dropMapsBeyond_71 : decode cX3_dropMapsBeyond 71 = .ok (.iload_n 2, 1) := dk_28 (dk_at dksX3_dropMapsBeyond_2 23 rfl rfl)
theorem dX3_dropMapsBeyond_72 : decode cX3_dropMapsBeyond 72 = .ok (.iaload, 1) := dk_46 (dk_at dksX3_dropMapsBeyond_3 0 rfl rfl)
theorem dX3_dropMapsBeyond_73 : decode cX3_dropMapsBeyond 73 = .ok (.iastore, 1) := dk_79 (dk_at dksX3_dropMapsBeyond_3 1 rfl rfl)
theorem dX3_dropMapsBeyond_74 : decode cX3_dropMapsBeyond 74 = .ok (.iinc 2 1, 3) := dk_132 2 1 (dk_at dksX3_dropMapsBeyond_3 2 rfl rfl)
theorem dX3_dropMapsBeyond_77 : decode cX3_dropMapsBeyond 77 = .ok (.goto (-68), 3) := dk_167 255 188 (dk_at dksX3_dropMapsBeyond_3 5 rfl rfl)
theorem dX3_dropMapsBeyond_80 : decode cX3_dropMapsBeyond 80 = .ok (.iinc 1 1, 3) := dk_132 1 1 (dk_at dksX3_dropMapsBeyond_3 8 rfl rfl)
theorem dX3_dropMapsBeyond_83 : decode cX3_dropMapsBeyond 83 = .ok (.goto (-81), 3) := dk_167 255 175 (dk_at dksX3_dropMapsBeyond_3 11 rfl rfl)
theorem dX3_dropMapsBeyond_86 : decode cX3_dropMapsBeyond 86 = .ok (.return_, 1) := dk_177 (dk_at dksX3_dropMapsBeyond_3 14 rfl rfl)
abbrev cX3_touches : ByteArray := prog_21_method_4_code
def yX3_touches : MethodName := ⟨RX3, "touches", "(LSwapWhile$Version;I)Z"⟩
def dkwX3_touches_5 : List UInt8 := [3, 128, 54, 4, 167, 255, 189, 21, 4, 172]
abbrev dktX3_touches_5 : List UInt8 := dkwX3_touches_5 ++ []
def dkwX3_touches_4 : List UInt8 := [159, 0, 24, 42, 180, 0, 18, 21, 7, 46, 43, 180, 0, 18, 21, 7, 46, 159, 0, 7, 4, 167, 0, 4]
abbrev dktX3_touches_4 : List UInt8 := dkwX3_touches_4 ++ dktX3_touches_5
def dkwX3_touches_3 : List UInt8 := [192, 0, 83, 58, 6, 25, 6, 180, 0, 85, 25, 6, 182, 0, 89, 54, 7, 21, 4, 21, 7, 2]
abbrev dktX3_touches_3 : List UInt8 := dkwX3_touches_3 ++ dktX3_touches_4
def dkwX3_touches_2 : List UInt8 := [185, 0, 69, 1, 0, 58, 5, 25, 5, 185, 0, 73, 1, 0, 153, 0, 63, 25, 5, 185, 0, 79, 1, 0]
abbrev dktX3_touches_2 : List UInt8 := dkwX3_touches_2 ++ dktX3_touches_3
def dkwX3_touches_1 : List UInt8 := [185, 0, 49, 2, 0, 185, 0, 66, 2, 0, 154, 0, 7, 4, 167, 0, 4, 3, 54, 4, 45]
abbrev dktX3_touches_1 : List UInt8 := dkwX3_touches_1 ++ dktX3_touches_2
def dkwX3_touches_0 : List UInt8 := [42, 180, 0, 12, 28, 185, 0, 49, 2, 0, 192, 0, 37, 78, 45, 43, 180, 0, 12, 28]
abbrev dktX3_touches_0 : List UInt8 := dkwX3_touches_0 ++ dktX3_touches_1
theorem dksX3_touches_0 : cX3_touches.data.toList.drop 0 = dktX3_touches_0 := by decide +kernel
theorem dksX3_touches_1 : cX3_touches.data.toList.drop 20 = dktX3_touches_1 := dk_seg dksX3_touches_0 20 rfl rfl
theorem dksX3_touches_2 : cX3_touches.data.toList.drop 41 = dktX3_touches_2 := dk_seg dksX3_touches_1 21 rfl rfl
theorem dksX3_touches_3 : cX3_touches.data.toList.drop 65 = dktX3_touches_3 := dk_seg dksX3_touches_2 24 rfl rfl
theorem dksX3_touches_4 : cX3_touches.data.toList.drop 87 = dktX3_touches_4 := dk_seg dksX3_touches_3 22 rfl rfl
theorem dksX3_touches_5 : cX3_touches.data.toList.drop 111 = dktX3_touches_5 := dk_seg dksX3_touches_4 24 rfl rfl
theorem dX3_touches_0 : decode cX3_touches 0 = .ok (.aload_n 0, 1) := dk_42 (dk_at dksX3_touches_0 0 rfl rfl)
theorem dX3_touches_1 : decode cX3_touches 1 = .ok (.getfield 12, 3) := dk_180 0 12 (dk_at dksX3_touches_0 1 rfl rfl)
theorem dX3_touches_4 : decode cX3_touches 4 = .ok (.iload_n 2, 1) := dk_28 (dk_at dksX3_touches_0 4 rfl rfl)
theorem dX3_touches_5 : decode cX3_touches 5 = .ok (.invokeinterface 49 2, 5) := by decide +kernel
theorem dX3_touches_10 : decode cX3_touches 10 = .ok (.checkcast 37, 3) := dk_192 0 37 (dk_at dksX3_touches_0 10 rfl rfl)
theorem dX3_touches_13 : decode cX3_touches 13 = .ok (.astore_n 3, 1) := dk_78 (dk_at dksX3_touches_0 13 rfl rfl)
theorem dX3_touches_14 : decode cX3_touches 14 = .ok (.aload_n 3, 1) := dk_45 (dk_at dksX3_touches_0 14 rfl rfl)
theorem dX3_touches_15 : decode cX3_touches 15 = .ok (.aload_n 1, 1) := dk_43 (dk_at dksX3_touches_0 15 rfl rfl)
theorem dX3_touches_16 : decode cX3_touches 16 = .ok (.getfield 12, 3) := dk_180 0 12 (dk_at dksX3_touches_0 16 rfl rfl)
theorem dX3_touches_19 : decode cX3_touches 19 = .ok (.iload_n 2, 1) := dk_28 (dk_at dksX3_touches_0 19 rfl rfl)
theorem dX3_touches_20 : decode cX3_touches 20 = .ok (.invokeinterface 49 2, 5) := by decide +kernel
theorem dX3_touches_25 : decode cX3_touches 25 = .ok (.invokeinterface 66 2, 5) := by decide +kernel
theorem dX3_touches_30 : decode cX3_touches 30 = .ok (.ifCond .ne 7, 3) := dk_154 0 7 (dk_at dksX3_touches_1 10 rfl rfl)
theorem dX3_touches_33 : decode cX3_touches 33 = .ok (.iconst 1, 1) := dk_4 (dk_at dksX3_touches_1 13 rfl rfl)
theorem dX3_touches_34 : decode cX3_touches 34 = .ok (.goto 4, 3) := dk_167 0 4 (dk_at dksX3_touches_1 14 rfl rfl)
theorem dX3_touches_37 : decode cX3_touches 37 = .ok (.iconst 0, 1) := dk_3 (dk_at dksX3_touches_1 17 rfl rfl)
theorem dX3_touches_38 : decode cX3_touches 38 = .ok (.istore 4, 2) := dk_54 4 (dk_at dksX3_touches_1 18 rfl rfl)
theorem dX3_touches_40 : decode cX3_touches 40 = .ok (.aload_n 3, 1) := dk_45 (dk_at dksX3_touches_1 20 rfl rfl)
theorem dX3_touches_41 : decode cX3_touches 41 = .ok (.invokeinterface 69 1, 5) := by decide +kernel
theorem dX3_touches_46 : decode cX3_touches 46 = .ok (.astore 5, 2) := dk_58 5 (dk_at dksX3_touches_2 5 rfl rfl)
theorem dX3_touches_48 : decode cX3_touches 48 = .ok (.aload 5, 2) := dk_25 5 (dk_at dksX3_touches_2 7 rfl rfl)
theorem dX3_touches_50 : decode cX3_touches 50 = .ok (.invokeinterface 73 1, 5) := by decide +kernel
theorem dX3_touches_55 : decode cX3_touches 55 = .ok (.ifCond .eq 63, 3) := dk_153 0 63 (dk_at dksX3_touches_2 14 rfl rfl)
theorem dX3_touches_58 : decode cX3_touches 58 = .ok (.aload 5, 2) := dk_25 5 (dk_at dksX3_touches_2 17 rfl rfl)
theorem dX3_touches_60 : decode cX3_touches 60 = .ok (.invokeinterface 79 1, 5) := by decide +kernel
theorem dX3_touches_65 : decode cX3_touches 65 = .ok (.checkcast 83, 3) := dk_192 0 83 (dk_at dksX3_touches_3 0 rfl rfl)
theorem dX3_touches_68 : decode cX3_touches 68 = .ok (.astore 6, 2) := dk_58 6 (dk_at dksX3_touches_3 3 rfl rfl)
theorem dX3_touches_70 : decode cX3_touches 70 = .ok (.aload 6, 2) := dk_25 6 (dk_at dksX3_touches_3 5 rfl rfl)
theorem dX3_touches_72 : decode cX3_touches 72 = .ok (.getfield 85, 3) := dk_180 0 85 (dk_at dksX3_touches_3 7 rfl rfl)
theorem dX3_touches_75 : decode cX3_touches 75 = .ok (.aload 6, 2) := dk_25 6 (dk_at dksX3_touches_3 10 rfl rfl)
theorem dX3_touches_77 : decode cX3_touches 77 = .ok (.invokevirtual 89, 3) := dk_182 0 89 (dk_at dksX3_touches_3 12 rfl rfl)
theorem dX3_touches_80 : decode cX3_touches 80 = .ok (.istore 7, 2) := dk_54 7 (dk_at dksX3_touches_3 15 rfl rfl)
theorem dX3_touches_82 : decode cX3_touches 82 = .ok (.iload 4, 2) := dk_21 4 (dk_at dksX3_touches_3 17 rfl rfl)
theorem dX3_touches_84 : decode cX3_touches 84 = .ok (.iload 7, 2) := dk_21 7 (dk_at dksX3_touches_3 19 rfl rfl)
theorem dX3_touches_86 : decode cX3_touches 86 = .ok (.iconst (-1), 1) := dk_2 (dk_at dksX3_touches_3 21 rfl rfl)
theorem dX3_touches_87 : decode cX3_touches 87 = .ok (.if_icmp .eq 24, 3) := dk_159 0 24 (dk_at dksX3_touches_4 0 rfl rfl)
theorem dX3_touches_90 : decode cX3_touches 90 = .ok (.aload_n 0, 1) := dk_42 (dk_at dksX3_touches_4 3 rfl rfl)
theorem dX3_touches_91 : decode cX3_touches 91 = .ok (.getfield 18, 3) := dk_180 0 18 (dk_at dksX3_touches_4 4 rfl rfl)
theorem dX3_touches_94 : decode cX3_touches 94 = .ok (.iload 7, 2) := dk_21 7 (dk_at dksX3_touches_4 7 rfl rfl)
theorem dX3_touches_96 : decode cX3_touches 96 = .ok (.iaload, 1) := dk_46 (dk_at dksX3_touches_4 9 rfl rfl)
theorem dX3_touches_97 : decode cX3_touches 97 = .ok (.aload_n 1, 1) := dk_43 (dk_at dksX3_touches_4 10 rfl rfl)
theorem dX3_touches_98 : decode cX3_touches 98 = .ok (.getfield 18, 3) := dk_180 0 18 (dk_at dksX3_touches_4 11 rfl rfl)
theorem dX3_touches_101 : decode cX3_touches 101 = .ok (.iload 7, 2) := dk_21 7 (dk_at dksX3_touches_4 14 rfl rfl)
theorem dX3_touches_103 : decode cX3_touches 103 = .ok (.iaload, 1) := dk_46 (dk_at dksX3_touches_4 16 rfl rfl)
theorem dX3_touches_104 : decode cX3_touches 104 = .ok (.if_icmp .eq 7, 3) := dk_159 0 7 (dk_at dksX3_touches_4 17 rfl rfl)
theorem dX3_touches_107 : decode cX3_touches 107 = .ok (.iconst 1, 1) := dk_4 (dk_at dksX3_touches_4 20 rfl rfl)
theorem dX3_touches_108 : decode cX3_touches 108 = .ok (.goto 4, 3) := dk_167 0 4 (dk_at dksX3_touches_4 21 rfl rfl)
theorem dX3_touches_111 : decode cX3_touches 111 = .ok (.iconst 0, 1) := dk_3 (dk_at dksX3_touches_5 0 rfl rfl)
theorem dX3_touches_112 : decode cX3_touches 112 = .ok (.ior, 1) := dk_128 (dk_at dksX3_touches_5 1 rfl rfl)
theorem dX3_touches_113 : decode cX3_touches 113 = .ok (.istore 4, 2) := dk_54 4 (dk_at dksX3_touches_5 2 rfl rfl)
theorem dX3_touches_115 : decode cX3_touches 115 = .ok (.goto (-67), 3) := dk_167 255 189 (dk_at dksX3_touches_5 4 rfl rfl)
theorem dX3_touches_118 : decode cX3_touches 118 = .ok (.iload 4, 2) := dk_21 4 (dk_at dksX3_touches_5 7 rfl rfl)
theorem dX3_touches_120 : decode cX3_touches 120 = .ok (.ireturn, 1) := dk_172 (dk_at dksX3_touches_5 9 rfl rfl)
abbrev cX3_backPlace : ByteArray := prog_21_method_8_code
def yX3_backPlace : MethodName := ⟨RX3, "backPlace", "(II)I"⟩
def dkwX3_backPlace_1 : List UInt8 := [132, 3, 1, 167, 255, 233, 2, 172]
abbrev dktX3_backPlace_1 : List UInt8 := dkwX3_backPlace_1 ++ []
def dkwX3_backPlace_0 : List UInt8 := [3, 62, 29, 16, 10, 163, 0, 23, 42, 180, 0, 33, 27, 50, 29, 46, 28, 160, 0, 5, 29, 172]
abbrev dktX3_backPlace_0 : List UInt8 := dkwX3_backPlace_0 ++ dktX3_backPlace_1
theorem dksX3_backPlace_0 : cX3_backPlace.data.toList.drop 0 = dktX3_backPlace_0 := by decide +kernel
theorem dksX3_backPlace_1 : cX3_backPlace.data.toList.drop 22 = dktX3_backPlace_1 := dk_seg dksX3_backPlace_0 22 rfl rfl
theorem dX3_backPlace_0 : decode cX3_backPlace 0 = .ok (.iconst 0, 1) := dk_3 (dk_at dksX3_backPlace_0 0 rfl rfl)
theorem dX3_backPlace_1 : decode cX3_backPlace 1 = .ok (.istore_n 3, 1) := dk_62 (dk_at dksX3_backPlace_0 1 rfl rfl)
theorem dX3_backPlace_2 : decode cX3_backPlace 2 = .ok (.iload_n 3, 1) := dk_29 (dk_at dksX3_backPlace_0 2 rfl rfl)
theorem dX3_backPlace_3 : decode cX3_backPlace 3 = .ok (.bipush 10, 2) := dk_16 10 (dk_at dksX3_backPlace_0 3 rfl rfl)
theorem dX3_backPlace_5 : decode cX3_backPlace 5 = .ok (.if_icmp .gt 23, 3) := dk_163 0 23 (dk_at dksX3_backPlace_0 5 rfl rfl)
theorem dX3_backPlace_8 : decode cX3_backPlace 8 = .ok (.aload_n 0, 1) := dk_42 (dk_at dksX3_backPlace_0 8 rfl rfl)
theorem dX3_backPlace_9 : decode cX3_backPlace 9 = .ok (.getfield 33, 3) := dk_180 0 33 (dk_at dksX3_backPlace_0 9 rfl rfl)
theorem dX3_backPlace_12 : decode cX3_backPlace 12 = .ok (.iload_n 1, 1) := dk_27 (dk_at dksX3_backPlace_0 12 rfl rfl)
theorem dX3_backPlace_13 : decode cX3_backPlace 13 = .ok (.aaload, 1) := dk_50 (dk_at dksX3_backPlace_0 13 rfl rfl)
theorem dX3_backPlace_14 : decode cX3_backPlace 14 = .ok (.iload_n 3, 1) := dk_29 (dk_at dksX3_backPlace_0 14 rfl rfl)
theorem dX3_backPlace_15 : decode cX3_backPlace 15 = .ok (.iaload, 1) := dk_46 (dk_at dksX3_backPlace_0 15 rfl rfl)
theorem dX3_backPlace_16 : decode cX3_backPlace 16 = .ok (.iload_n 2, 1) := dk_28 (dk_at dksX3_backPlace_0 16 rfl rfl)
theorem dX3_backPlace_17 : decode cX3_backPlace 17 = .ok (.if_icmp .ne 5, 3) := dk_160 0 5 (dk_at dksX3_backPlace_0 17 rfl rfl)
theorem dX3_backPlace_20 : decode cX3_backPlace 20 = .ok (.iload_n 3, 1) := dk_29 (dk_at dksX3_backPlace_0 20 rfl rfl)
theorem dX3_backPlace_21 : decode cX3_backPlace 21 = .ok (.ireturn, 1) := dk_172 (dk_at dksX3_backPlace_0 21 rfl rfl)
theorem dX3_backPlace_22 : decode cX3_backPlace 22 = .ok (.iinc 3 1, 3) := dk_132 3 1 (dk_at dksX3_backPlace_1 0 rfl rfl)
theorem dX3_backPlace_25 : decode cX3_backPlace 25 = .ok (.goto (-23), 3) := dk_167 255 233 (dk_at dksX3_backPlace_1 3 rfl rfl)
theorem dX3_backPlace_28 : decode cX3_backPlace 28 = .ok (.iconst (-1), 1) := dk_2 (dk_at dksX3_backPlace_1 6 rfl rfl)
theorem dX3_backPlace_29 : decode cX3_backPlace 29 = .ok (.ireturn, 1) := dk_172 (dk_at dksX3_backPlace_1 7 rfl rfl)
abbrev cX3_forwardPlace : ByteArray := prog_21_method_7_code
def yX3_forwardPlace : MethodName := ⟨RX3, "forwardPlace", "(II)I"⟩
def dkwX3_forwardPlace_0 : List UInt8 := [42, 180, 0, 33, 27, 50, 28, 46, 172]
abbrev dktX3_forwardPlace_0 : List UInt8 := dkwX3_forwardPlace_0 ++ []
theorem dksX3_forwardPlace_0 : cX3_forwardPlace.data.toList.drop 0 = dktX3_forwardPlace_0 := by decide +kernel
theorem dX3_forwardPlace_0 : decode cX3_forwardPlace 0 = .ok (.aload_n 0, 1) := dk_42 (dk_at dksX3_forwardPlace_0 0 rfl rfl)
theorem dX3_forwardPlace_1 : decode cX3_forwardPlace 1 = .ok (.getfield 33, 3) := dk_180 0 33 (dk_at dksX3_forwardPlace_0 1 rfl rfl)
theorem dX3_forwardPlace_4 : decode cX3_forwardPlace 4 = .ok (.iload_n 1, 1) := dk_27 (dk_at dksX3_forwardPlace_0 4 rfl rfl)
theorem dX3_forwardPlace_5 : decode cX3_forwardPlace 5 = .ok (.aaload, 1) := dk_50 (dk_at dksX3_forwardPlace_0 5 rfl rfl)
theorem dX3_forwardPlace_6 : decode cX3_forwardPlace 6 = .ok (.iload_n 2, 1) := dk_28 (dk_at dksX3_forwardPlace_0 6 rfl rfl)
theorem dX3_forwardPlace_7 : decode cX3_forwardPlace 7 = .ok (.iaload, 1) := dk_46 (dk_at dksX3_forwardPlace_0 7 rfl rfl)
theorem dX3_forwardPlace_8 : decode cX3_forwardPlace 8 = .ok (.ireturn, 1) := dk_172 (dk_at dksX3_forwardPlace_0 8 rfl rfl)
theorem q70 : (Jvm.Cond.initialized "SwapWhile$Version") ∈ lw_all := lw_g (lw_at lw_m1 6 rfl) rfl
theorem q168 : (Jvm.Cond.instantiable "SwapWhile$Version" (5 : Nat)) ∈ lw_all := lw_g (lw_at lw_m1 104 rfl) rfl
theorem q170 : (Jvm.Cond.instanceMethod ({ cls := "SwapWhile$Version", name := "<init>", desc := "()V" } : Jvm.MethodName)) ∈ lw_all := lw_g (lw_at lw_m1 106 rfl) rfl
theorem q171 : (Jvm.Cond.code ({ cls := "SwapWhile$Version", name := "<init>", desc := "()V" } : Jvm.MethodName) prog_21_method_1_code (2 : Nat) (Option.none : Option Jvm.ClassFile.FieldType)) ∈ lw_all := lw_g (lw_at lw_m1 107 rfl) rfl
theorem q172 : (Jvm.Cond.methodLink "SwapWhile$Version" (3 : Nat) ({ cls := "java/lang/Object", name := "<init>", desc := "()V" } : Jvm.MethodName)) ∈ lw_all := lw_g (lw_at lw_m1 108 rfl) rfl
theorem q173 : (Jvm.Cond.classLink "SwapWhile$Version" (9 : Nat) "java/util/ArrayList") ∈ lw_all := lw_g (lw_at lw_m1 109 rfl) rfl
theorem q174 : (Jvm.Cond.methodLink "SwapWhile$Version" (11 : Nat) ({ cls := "java/util/ArrayList", name := "<init>", desc := "()V" } : Jvm.MethodName)) ∈ lw_all := lw_g (lw_at lw_m1 110 rfl) rfl
theorem q175 : (Jvm.Cond.classLink "SwapWhile$Version" (22 : Nat) "SwapWhile$Carry") ∈ lw_all := lw_g (lw_at lw_m1 111 rfl) rfl
theorem q177 : (Jvm.Cond.classLink "SwapWhile$Version" (31 : Nat) "[[I") ∈ lw_all := lw_g (lw_at lw_m1 113 rfl) rfl
theorem q179 : (Jvm.Cond.interfaceEntry "SwapWhile$Version" (36 : Nat)) ∈ lw_tbl := lw_at lw_m1 115 rfl
theorem q180 : (Jvm.Cond.methodLink "SwapWhile$Version" (36 : Nat) ({ cls := "java/util/List", name := "add", desc := "(Ljava/lang/Object;)Z" } : Jvm.MethodName)) ∈ lw_all := lw_g (lw_at lw_m1 116 rfl) rfl
theorem q235 : (Jvm.Cond.selects "SwapWhile$Version" ({ cls := "java/lang/Object", name := "getClass", desc := "()Ljava/lang/Class;" } : Jvm.MethodName) ({ cls := "java/lang/Object", name := "getClass", desc := "()Ljava/lang/Class;" } : Jvm.MethodName)) ∈ lw_all := lw_g (lw_at lw_m1 171 rfl) rfl
theorem q269 : (Jvm.Cond.methodLink "SwapWhile$Version" (42 : Nat) ({ cls := "java/util/Arrays", name := "fill", desc := "([II)V" } : Jvm.MethodName)) ∈ lw_all := lw_g (lw_at lw_m1 205 rfl) rfl
theorem q272 : (Jvm.Cond.fieldLink "SwapWhile$Version" (12 : Nat) "SwapWhile$Version" "functions" "Ljava/util/List;") ∈ lw_all := lw_g (lw_at lw_m1 208 rfl) rfl
theorem q274 : (Jvm.Cond.fieldLink "SwapWhile$Version" (18 : Nat) "SwapWhile$Version" "fields" "[I") ∈ lw_all := lw_g (lw_at lw_m1 210 rfl) rfl
theorem q276 : (Jvm.Cond.fieldLink "SwapWhile$Version" (24 : Nat) "SwapWhile$Version" "forward" "[LSwapWhile$Carry;") ∈ lw_all := lw_g (lw_at lw_m1 212 rfl) rfl
theorem q279 : (Jvm.Cond.fieldLink "SwapWhile$Version" (28 : Nat) "SwapWhile$Version" "back" "[LSwapWhile$Carry;") ∈ lw_all := lw_g (lw_at lw_m1 215 rfl) rfl
theorem q282 : (Jvm.Cond.fieldLink "SwapWhile$Version" (33 : Nat) "SwapWhile$Version" "maps" "[[I") ∈ lw_all := lw_g (lw_at lw_m1 218 rfl) rfl
theorem q284 : (Jvm.Cond.laysFinal "SwapWhile$Version" "SwapWhile$Version" "functions" "Ljava/util/List;") ∈ lw_all := lw_g (lw_at lw_m1 220 rfl) rfl
theorem q285 : (Jvm.Cond.soleField "SwapWhile$Version" "functions") ∈ lw_all := lw_g (lw_at lw_m1 221 rfl) rfl
theorem q286 : (Jvm.Cond.laysFinal "SwapWhile$Version" "SwapWhile$Version" "fields" "[I") ∈ lw_all := lw_g (lw_at lw_m1 222 rfl) rfl
theorem q287 : (Jvm.Cond.soleField "SwapWhile$Version" "fields") ∈ lw_all := lw_g (lw_at lw_m1 223 rfl) rfl
theorem q288 : (Jvm.Cond.laysFinal "SwapWhile$Version" "SwapWhile$Version" "forward" "[LSwapWhile$Carry;") ∈ lw_all := lw_g (lw_at lw_m1 224 rfl) rfl
theorem q289 : (Jvm.Cond.soleField "SwapWhile$Version" "forward") ∈ lw_all := lw_g (lw_at lw_m1 225 rfl) rfl
theorem q290 : (Jvm.Cond.laysFinal "SwapWhile$Version" "SwapWhile$Version" "back" "[LSwapWhile$Carry;") ∈ lw_all := lw_g (lw_at lw_m1 226 rfl) rfl
theorem q291 : (Jvm.Cond.soleField "SwapWhile$Version" "back") ∈ lw_all := lw_g (lw_at lw_m1 227 rfl) rfl
theorem q292 : (Jvm.Cond.laysFinal "SwapWhile$Version" "SwapWhile$Version" "maps" "[[I") ∈ lw_all := lw_g (lw_at lw_m1 228 rfl) rfl
theorem q293 : (Jvm.Cond.soleField "SwapWhile$Version" "maps") ∈ lw_all := lw_g (lw_at lw_m1 229 rfl) rfl
theorem q294 : (Jvm.Cond.superclass "SwapWhile$Version" "java/lang/Object") ∈ lw_all := lw_g (lw_at lw_m1 230 rfl) rfl
theorem q318 : (Jvm.Cond.instanceMethod ({ cls := "SwapWhile$Version", name := "<init>", desc := "(LSwapWhile$Version;)V" } : Jvm.MethodName)) ∈ lw_all := lw_g (lw_at lw_m2 14 rfl) rfl
theorem q319 : (Jvm.Cond.code ({ cls := "SwapWhile$Version", name := "<init>", desc := "(LSwapWhile$Version;)V" } : Jvm.MethodName) prog_21_method_2_code (3 : Nat) (Option.none : Option Jvm.ClassFile.FieldType)) ∈ lw_all := lw_g (lw_at lw_m2 15 rfl) rfl
theorem q320 : (Jvm.Cond.methodLink "SwapWhile$Version" (48 : Nat) ({ cls := "SwapWhile$Version", name := "<init>", desc := "()V" } : Jvm.MethodName)) ∈ lw_all := lw_g (lw_at lw_m2 16 rfl) rfl
theorem q321 : (Jvm.Cond.interfaceEntry "SwapWhile$Version" (49 : Nat)) ∈ lw_tbl := lw_at lw_m2 17 rfl
theorem q322 : (Jvm.Cond.methodLink "SwapWhile$Version" (49 : Nat) ({ cls := "java/util/List", name := "get", desc := "(I)Ljava/lang/Object;" } : Jvm.MethodName)) ∈ lw_all := lw_g (lw_at lw_m2 18 rfl) rfl
theorem q323 : (Jvm.Cond.classLink "SwapWhile$Version" (37 : Nat) "java/util/List") ∈ lw_all := lw_g (lw_at lw_m2 19 rfl) rfl
theorem q324 : (Jvm.Cond.classLink "SwapWhile$Version" (53 : Nat) "java/util/Collection") ∈ lw_all := lw_g (lw_at lw_m2 20 rfl) rfl
theorem q325 : (Jvm.Cond.interfaceEntry "SwapWhile$Version" (55 : Nat)) ∈ lw_tbl := lw_at lw_m2 21 rfl
theorem q326 : (Jvm.Cond.methodLink "SwapWhile$Version" (55 : Nat) ({ cls := "java/util/List", name := "addAll", desc := "(Ljava/util/Collection;)Z" } : Jvm.MethodName)) ∈ lw_all := lw_g (lw_at lw_m2 22 rfl) rfl
theorem q345 : (Jvm.Cond.methodLink "SwapWhile$Version" (59 : Nat) ({ cls := "SwapWhile$Version", name := "setFields", desc := "(III)V" } : Jvm.MethodName)) ∈ lw_all := lw_g (lw_at lw_m2 41 rfl) rfl
theorem q346 : (Jvm.Cond.instanceMethod ({ cls := "SwapWhile$Version", name := "setFields", desc := "(III)V" } : Jvm.MethodName)) ∈ lw_all := lw_g (lw_at lw_m2 42 rfl) rfl
theorem q347 : (Jvm.Cond.selects "SwapWhile$Version" ({ cls := "SwapWhile$Version", name := "setFields", desc := "(III)V" } : Jvm.MethodName) ({ cls := "SwapWhile$Version", name := "setFields", desc := "(III)V" } : Jvm.MethodName)) ∈ lw_all := lw_g (lw_at lw_m2 43 rfl) rfl
theorem q348 : (Jvm.Cond.code ({ cls := "SwapWhile$Version", name := "setFields", desc := "(III)V" } : Jvm.MethodName) prog_21_method_3_code (4 : Nat) (Option.none : Option Jvm.ClassFile.FieldType)) ∈ lw_all := lw_g (lw_at lw_m2 44 rfl) rfl
theorem q350 : (Jvm.Cond.methodLink "SwapWhile$Version" (63 : Nat) ({ cls := "SwapWhile$Carry", name := "<init>", desc := "(II)V" } : Jvm.MethodName)) ∈ lw_all := lw_g (lw_at lw_m2 46 rfl) rfl
theorem q613 : (Jvm.Cond.fieldLinkNest "SwapWhile$Version" (85 : Nat) "SwapWhile$Instruction" "code" "LSwapWhile$Code;" "SwapWhile") ∈ lw_tbl := lw_at lw_m3 69 rfl
theorem q679 : (Jvm.Cond.instanceMethod ({ cls := "SwapWhile$Version", name := "countMapped", desc := "(I)I" } : Jvm.MethodName)) ∈ lw_all := lw_g (lw_at lw_m3 135 rfl) rfl
theorem q680 : (Jvm.Cond.selects "SwapWhile$Version" ({ cls := "SwapWhile$Version", name := "countMapped", desc := "(I)I" } : Jvm.MethodName) ({ cls := "SwapWhile$Version", name := "countMapped", desc := "(I)I" } : Jvm.MethodName)) ∈ lw_all := lw_g (lw_at lw_m3 136 rfl) rfl
theorem q681 : (Jvm.Cond.code ({ cls := "SwapWhile$Version", name := "countMapped", desc := "(I)I" } : Jvm.MethodName) prog_21_method_5_code (7 : Nat) (Option.some Jvm.ClassFile.FieldType.int)) ∈ lw_all := lw_g (lw_at lw_m3 137 rfl) rfl
theorem q690 : (Jvm.Cond.instanceMethod ({ cls := "SwapWhile$Version", name := "dropMapsBeyond", desc := "()V" } : Jvm.MethodName)) ∈ lw_all := lw_g (lw_at lw_m3 146 rfl) rfl
theorem q691 : (Jvm.Cond.selects "SwapWhile$Version" ({ cls := "SwapWhile$Version", name := "dropMapsBeyond", desc := "()V" } : Jvm.MethodName) ({ cls := "SwapWhile$Version", name := "dropMapsBeyond", desc := "()V" } : Jvm.MethodName)) ∈ lw_all := lw_g (lw_at lw_m3 147 rfl) rfl
theorem q692 : (Jvm.Cond.code ({ cls := "SwapWhile$Version", name := "dropMapsBeyond", desc := "()V" } : Jvm.MethodName) prog_21_method_6_code (4 : Nat) (Option.none : Option Jvm.ClassFile.FieldType)) ∈ lw_all := lw_g (lw_at lw_m3 148 rfl) rfl
theorem q693 : (Jvm.Cond.interfaceEntry "SwapWhile$Version" (95 : Nat)) ∈ lw_tbl := lw_at lw_m3 149 rfl
theorem q694 : (Jvm.Cond.methodLink "SwapWhile$Version" (95 : Nat) ({ cls := "java/util/List", name := "size", desc := "()I" } : Jvm.MethodName)) ∈ lw_all := lw_g (lw_at lw_m3 150 rfl) rfl
theorem q754 : (Jvm.Cond.instanceMethod ({ cls := "SwapWhile$Version", name := "touches", desc := "(LSwapWhile$Version;I)Z" } : Jvm.MethodName)) ∈ lw_all := lw_g (lw_at lw_m3 210 rfl) rfl
theorem q755 : (Jvm.Cond.selects "SwapWhile$Version" ({ cls := "SwapWhile$Version", name := "touches", desc := "(LSwapWhile$Version;I)Z" } : Jvm.MethodName) ({ cls := "SwapWhile$Version", name := "touches", desc := "(LSwapWhile$Version;I)Z" } : Jvm.MethodName)) ∈ lw_all := lw_g (lw_at lw_m3 211 rfl) rfl
theorem q756 : (Jvm.Cond.code ({ cls := "SwapWhile$Version", name := "touches", desc := "(LSwapWhile$Version;I)Z" } : Jvm.MethodName) prog_21_method_4_code (8 : Nat) (Option.some Jvm.ClassFile.FieldType.boolean)) ∈ lw_all := lw_g (lw_at lw_m3 212 rfl) rfl
theorem q757 : (Jvm.Cond.interfaceEntry "SwapWhile$Version" (66 : Nat)) ∈ lw_tbl := lw_at lw_m3 213 rfl
theorem q758 : (Jvm.Cond.methodLink "SwapWhile$Version" (66 : Nat) ({ cls := "java/util/List", name := "equals", desc := "(Ljava/lang/Object;)Z" } : Jvm.MethodName)) ∈ lw_all := lw_g (lw_at lw_m3 214 rfl) rfl
theorem q809 : (Jvm.Cond.selects "SwapWhile$Version" ({ cls := "java/lang/Object", name := "equals", desc := "(Ljava/lang/Object;)Z" } : Jvm.MethodName) ({ cls := "java/lang/Object", name := "equals", desc := "(Ljava/lang/Object;)Z" } : Jvm.MethodName)) ∈ lw_all := lw_g (lw_at lw_m4 25 rfl) rfl
theorem q915 : (Jvm.Cond.interfaceEntry "SwapWhile$Version" (69 : Nat)) ∈ lw_tbl := lw_at lw_m4 131 rfl
theorem q916 : (Jvm.Cond.methodLink "SwapWhile$Version" (69 : Nat) ({ cls := "java/util/List", name := "iterator", desc := "()Ljava/util/Iterator;" } : Jvm.MethodName)) ∈ lw_all := lw_g (lw_at lw_m4 132 rfl) rfl
theorem q917 : (Jvm.Cond.interfaceEntry "SwapWhile$Version" (73 : Nat)) ∈ lw_tbl := lw_at lw_m4 133 rfl
theorem q918 : (Jvm.Cond.methodLink "SwapWhile$Version" (73 : Nat) ({ cls := "java/util/Iterator", name := "hasNext", desc := "()Z" } : Jvm.MethodName)) ∈ lw_all := lw_g (lw_at lw_m4 134 rfl) rfl
theorem q919 : (Jvm.Cond.interfaceEntry "SwapWhile$Version" (79 : Nat)) ∈ lw_tbl := lw_at lw_m4 135 rfl
theorem q920 : (Jvm.Cond.methodLink "SwapWhile$Version" (79 : Nat) ({ cls := "java/util/Iterator", name := "next", desc := "()Ljava/lang/Object;" } : Jvm.MethodName)) ∈ lw_all := lw_g (lw_at lw_m4 136 rfl) rfl
theorem q921 : (Jvm.Cond.classLink "SwapWhile$Version" (83 : Nat) "SwapWhile$Instruction") ∈ lw_all := lw_g (lw_at lw_m4 137 rfl) rfl
theorem q922 : (Jvm.Cond.methodLink "SwapWhile$Version" (89 : Nat) ({ cls := "SwapWhile$Code", name := "kindOf", desc := "(LSwapWhile$Instruction;)I" } : Jvm.MethodName)) ∈ lw_all := lw_g (lw_at lw_m4 138 rfl) rfl
theorem q1043 : (Jvm.Cond.instanceMethod ({ cls := "SwapWhile$Version", name := "backPlace", desc := "(II)I" } : Jvm.MethodName)) ∈ lw_all := lw_g (lw_at lw_m5 19 rfl) rfl
theorem q1044 : (Jvm.Cond.selects "SwapWhile$Version" ({ cls := "SwapWhile$Version", name := "backPlace", desc := "(II)I" } : Jvm.MethodName) ({ cls := "SwapWhile$Version", name := "backPlace", desc := "(II)I" } : Jvm.MethodName)) ∈ lw_all := lw_g (lw_at lw_m5 20 rfl) rfl
theorem q1045 : (Jvm.Cond.code ({ cls := "SwapWhile$Version", name := "backPlace", desc := "(II)I" } : Jvm.MethodName) prog_21_method_8_code (4 : Nat) (Option.some Jvm.ClassFile.FieldType.int)) ∈ lw_all := lw_g (lw_at lw_m5 21 rfl) rfl
theorem q1047 : (Jvm.Cond.instanceMethod ({ cls := "SwapWhile$Version", name := "forwardPlace", desc := "(II)I" } : Jvm.MethodName)) ∈ lw_all := lw_g (lw_at lw_m5 23 rfl) rfl
theorem q1048 : (Jvm.Cond.selects "SwapWhile$Version" ({ cls := "SwapWhile$Version", name := "forwardPlace", desc := "(II)I" } : Jvm.MethodName) ({ cls := "SwapWhile$Version", name := "forwardPlace", desc := "(II)I" } : Jvm.MethodName)) ∈ lw_all := lw_g (lw_at lw_m5 24 rfl) rfl
theorem q1049 : (Jvm.Cond.code ({ cls := "SwapWhile$Version", name := "forwardPlace", desc := "(II)I" } : Jvm.MethodName) prog_21_method_7_code (3 : Nat) (Option.some Jvm.ClassFile.FieldType.int)) ∈ lw_all := lw_g (lw_at lw_m5 25 rfl) rfl
theorem q2218 : (Jvm.Cond.castable "SwapWhile$Version" "java/lang/Object") ∈ lw_tbl := lw_at lw_m9 234 rfl
theorem in_X3 : ∀ w ∈ wsX30, w ∈ lw_all := lw_in wsX30 [284, 286, 288, 290, 292] (by decide +kernel) (by decide +kernel)

/-! SwapWhile$Carry -/
set_option maxRecDepth 100000
def RX4 : String := "SwapWhile$Carry"
def TX4 : u_T := fun k => match k with
  | 0 => ("SwapWhile$Carry", "from", "[I", true)
  | _ => ("SwapWhile$Carry", "numbers", "[I", true)
def tyX4 : Nat → FieldType := fun k => match k with
  | 0 => .array .int
  | _ => .array .int
abbrev wsX40 : List Cond := u_ws RX4 TX4 2
theorem nmX4 : ∀ a, a < 2 → ∀ b, b < 2 → a ≠ b → (TX4 a).2.1 ≠ (TX4 b).2.1 := by decide +kernel
theorem tyX4_ok : ∀ k, k < 2 → parseFieldDescriptor (TX4 k).2.2.1 = some (tyX4 k) := by decide +kernel
abbrev cX4_init : ByteArray := prog_2_method_1_code
def yX4_init : MethodName := ⟨RX4, "<init>", "(II)V"⟩
def dkwX4_init_2 : List UInt8 := [167, 255, 232, 177]
abbrev dktX4_init_2 : List UInt8 := dkwX4_init_2 ++ []
def dkwX4_init_1 : List UInt8 := [162, 0, 25, 42, 180, 0, 9, 29, 29, 28, 162, 0, 7, 29, 167, 0, 4, 2, 79, 132, 3, 1]
abbrev dktX4_init_1 : List UInt8 := dkwX4_init_1 ++ dktX4_init_2
def dkwX4_init_0 : List UInt8 := [42, 183, 0, 3, 42, 27, 188, 10, 181, 0, 9, 42, 27, 188, 10, 181, 0, 15, 3, 62, 29, 27]
abbrev dktX4_init_0 : List UInt8 := dkwX4_init_0 ++ dktX4_init_1
theorem dksX4_init_0 : cX4_init.data.toList.drop 0 = dktX4_init_0 := by decide +kernel
theorem dksX4_init_1 : cX4_init.data.toList.drop 22 = dktX4_init_1 := dk_seg dksX4_init_0 22 rfl rfl
theorem dksX4_init_2 : cX4_init.data.toList.drop 44 = dktX4_init_2 := dk_seg dksX4_init_1 22 rfl rfl
theorem dX4_init_0 : decode cX4_init 0 = .ok (.aload_n 0, 1) := dk_42 (dk_at dksX4_init_0 0 rfl rfl)
theorem dX4_init_1 : decode cX4_init 1 = .ok (.invokespecial 3, 3) := dk_183 0 3 (dk_at dksX4_init_0 1 rfl rfl)
theorem dX4_init_4 : decode cX4_init 4 = .ok (.aload_n 0, 1) := dk_42 (dk_at dksX4_init_0 4 rfl rfl)
theorem dX4_init_5 : decode cX4_init 5 = .ok (.iload_n 1, 1) := dk_27 (dk_at dksX4_init_0 5 rfl rfl)
theorem dX4_init_6 : decode cX4_init 6 = .ok (.newarray .int, 2) := dk_188_10 (dk_at dksX4_init_0 6 rfl rfl)
theorem dX4_init_8 : decode cX4_init 8 = .ok (.putfield 9, 3) := dk_181 0 9 (dk_at dksX4_init_0 8 rfl rfl)
theorem dX4_init_11 : decode cX4_init 11 = .ok (.aload_n 0, 1) := dk_42 (dk_at dksX4_init_0 11 rfl rfl)
theorem dX4_init_12 : decode cX4_init 12 = .ok (.iload_n 1, 1) := dk_27 (dk_at dksX4_init_0 12 rfl rfl)
theorem dX4_init_13 : decode cX4_init 13 = .ok (.newarray .int, 2) := dk_188_10 (dk_at dksX4_init_0 13 rfl rfl)
theorem dX4_init_15 : decode cX4_init 15 = .ok (.putfield 15, 3) := dk_181 0 15 (dk_at dksX4_init_0 15 rfl rfl)
theorem dX4_init_18 : decode cX4_init 18 = .ok (.iconst 0, 1) := dk_3 (dk_at dksX4_init_0 18 rfl rfl)
theorem dX4_init_19 : decode cX4_init 19 = .ok (.istore_n 3, 1) := dk_62 (dk_at dksX4_init_0 19 rfl rfl)
theorem dX4_init_20 : decode cX4_init 20 = .ok (.iload_n 3, 1) := dk_29 (dk_at dksX4_init_0 20 rfl rfl)
theorem dX4_init_21 : decode cX4_init 21 = .ok (.iload_n 1, 1) := dk_27 (dk_at dksX4_init_0 21 rfl rfl)
theorem dX4_init_22 : decode cX4_init 22 = .ok (.if_icmp .ge 25, 3) := dk_162 0 25 (dk_at dksX4_init_1 0 rfl rfl)
theorem dX4_init_25 : decode cX4_init 25 = .ok (.aload_n 0, 1) := dk_42 (dk_at dksX4_init_1 3 rfl rfl)
theorem dX4_init_26 : decode cX4_init 26 = .ok (.getfield 9, 3) := dk_180 0 9 (dk_at dksX4_init_1 4 rfl rfl)
theorem dX4_init_29 : decode cX4_init 29 = .ok (.iload_n 3, 1) := dk_29 (dk_at dksX4_init_1 7 rfl rfl)
theorem dX4_init_30 : decode cX4_init 30 = .ok (.iload_n 3, 1) := dk_29 (dk_at dksX4_init_1 8 rfl rfl)
theorem dX4_init_31 : decode cX4_init 31 = .ok (.iload_n 2, 1) := dk_28 (dk_at dksX4_init_1 9 rfl rfl)
theorem dX4_init_32 : decode cX4_init 32 = .ok (.if_icmp .ge 7, 3) := dk_162 0 7 (dk_at dksX4_init_1 10 rfl rfl)
theorem dX4_init_35 : decode cX4_init 35 = .ok (.iload_n 3, 1) := dk_29 (dk_at dksX4_init_1 13 rfl rfl)
theorem dX4_init_36 : decode cX4_init 36 = .ok (.goto 4, 3) := dk_167 0 4 (dk_at dksX4_init_1 14 rfl rfl)
theorem dX4_init_39 : decode cX4_init 39 = .ok (.iconst (-1), 1) := dk_2 (dk_at dksX4_init_1 17 rfl rfl)
theorem dX4_init_40 : decode cX4_init 40 = .ok (.iastore, 1) := dk_79 (dk_at dksX4_init_1 18 rfl rfl)
theorem dX4_init_41 : decode cX4_init 41 = .ok (.iinc 3 1, 3) := dk_132 3 1 (dk_at dksX4_init_1 19 rfl rfl)
theorem dX4_init_44 : decode cX4_init 44 = .ok (.goto (-24), 3) := dk_167 255 232 (dk_at dksX4_init_2 0 rfl rfl)
theorem dX4_init_47 : decode cX4_init 47 = .ok (.return_, 1) := dk_177 (dk_at dksX4_init_2 3 rfl rfl)
abbrev cX4_of : ByteArray := prog_2_method_2_code
def yX4_of : MethodName := ⟨RX4, "of", "([I)[I"⟩
def dkwX4_of_2 : List UInt8 := [132, 3, 1, 167, 255, 219, 44, 176]
abbrev dktX4_of_2 : List UInt8 := dkwX4_of_2 ++ []
def dkwX4_of_1 : List UInt8 := [180, 0, 9, 29, 46, 2, 160, 0, 7, 3, 167, 0, 11, 43, 42, 180, 0, 9, 29, 46, 46, 96, 79]
abbrev dktX4_of_1 : List UInt8 := dkwX4_of_1 ++ dktX4_of_2
def dkwX4_of_0 : List UInt8 := [42, 180, 0, 15, 182, 0, 18, 192, 0, 19, 77, 3, 62, 29, 44, 190, 162, 0, 37, 44, 29, 92, 46, 42]
abbrev dktX4_of_0 : List UInt8 := dkwX4_of_0 ++ dktX4_of_1
theorem dksX4_of_0 : cX4_of.data.toList.drop 0 = dktX4_of_0 := by decide +kernel
theorem dksX4_of_1 : cX4_of.data.toList.drop 24 = dktX4_of_1 := dk_seg dksX4_of_0 24 rfl rfl
theorem dksX4_of_2 : cX4_of.data.toList.drop 47 = dktX4_of_2 := dk_seg dksX4_of_1 23 rfl rfl
theorem dX4_of_0 : decode cX4_of 0 = .ok (.aload_n 0, 1) := dk_42 (dk_at dksX4_of_0 0 rfl rfl)
theorem dX4_of_1 : decode cX4_of 1 = .ok (.getfield 15, 3) := dk_180 0 15 (dk_at dksX4_of_0 1 rfl rfl)
theorem dX4_of_4 : decode cX4_of 4 = .ok (.invokevirtual 18, 3) := dk_182 0 18 (dk_at dksX4_of_0 4 rfl rfl)
theorem dX4_of_7 : decode cX4_of 7 = .ok (.checkcast 19, 3) := dk_192 0 19 (dk_at dksX4_of_0 7 rfl rfl)
theorem dX4_of_10 : decode cX4_of 10 = .ok (.astore_n 2, 1) := dk_77 (dk_at dksX4_of_0 10 rfl rfl)
theorem dX4_of_11 : decode cX4_of 11 = .ok (.iconst 0, 1) := dk_3 (dk_at dksX4_of_0 11 rfl rfl)
theorem dX4_of_12 : decode cX4_of 12 = .ok (.istore_n 3, 1) := dk_62 (dk_at dksX4_of_0 12 rfl rfl)
theorem dX4_of_13 : decode cX4_of 13 = .ok (.iload_n 3, 1) := dk_29 (dk_at dksX4_of_0 13 rfl rfl)
theorem dX4_of_14 : decode cX4_of 14 = .ok (.aload_n 2, 1) := dk_44 (dk_at dksX4_of_0 14 rfl rfl)
theorem dX4_of_15 : decode cX4_of 15 = .ok (.arraylength, 1) := dk_190 (dk_at dksX4_of_0 15 rfl rfl)
theorem dX4_of_16 : decode cX4_of 16 = .ok (.if_icmp .ge 37, 3) := dk_162 0 37 (dk_at dksX4_of_0 16 rfl rfl)
theorem dX4_of_19 : decode cX4_of 19 = .ok (.aload_n 2, 1) := dk_44 (dk_at dksX4_of_0 19 rfl rfl)
theorem dX4_of_20 : decode cX4_of 20 = .ok (.iload_n 3, 1) := dk_29 (dk_at dksX4_of_0 20 rfl rfl)
theorem dX4_of_21 : decode cX4_of 21 = .ok (.dup2, 1) := dk_92 (dk_at dksX4_of_0 21 rfl rfl)
theorem dX4_of_22 : decode cX4_of 22 = .ok (.iaload, 1) := dk_46 (dk_at dksX4_of_0 22 rfl rfl)
theorem dX4_of_23 : decode cX4_of 23 = .ok (.aload_n 0, 1) := dk_42 (dk_at dksX4_of_0 23 rfl rfl)
theorem dX4_of_24 : decode cX4_of 24 = .ok (.getfield 9, 3) := dk_180 0 9 (dk_at dksX4_of_1 0 rfl rfl)
theorem dX4_of_27 : decode cX4_of 27 = .ok (.iload_n 3, 1) := dk_29 (dk_at dksX4_of_1 3 rfl rfl)
theorem dX4_of_28 : decode cX4_of 28 = .ok (.iaload, 1) := dk_46 (dk_at dksX4_of_1 4 rfl rfl)
theorem dX4_of_29 : decode cX4_of 29 = .ok (.iconst (-1), 1) := dk_2 (dk_at dksX4_of_1 5 rfl rfl)
theorem dX4_of_30 : decode cX4_of 30 = .ok (.if_icmp .ne 7, 3) := dk_160 0 7 (dk_at dksX4_of_1 6 rfl rfl)
theorem dX4_of_33 : decode cX4_of 33 = .ok (.iconst 0, 1) := dk_3 (dk_at dksX4_of_1 9 rfl rfl)
theorem dX4_of_34 : decode cX4_of 34 = .ok (.goto 11, 3) := dk_167 0 11 (dk_at dksX4_of_1 10 rfl rfl)
theorem dX4_of_37 : decode cX4_of 37 = .ok (.aload_n 1, 1) := dk_43 (dk_at dksX4_of_1 13 rfl rfl)
theorem dX4_of_38 : decode cX4_of 38 = .ok (.aload_n 0, 1) := dk_42 (dk_at dksX4_of_1 14 rfl rfl)
theorem dX4_of_39 : decode cX4_of 39 = .ok (.getfield 9, 3) := dk_180 0 9 (dk_at dksX4_of_1 15 rfl rfl)
theorem dX4_of_42 : decode cX4_of 42 = .ok (.iload_n 3, 1) := dk_29 (dk_at dksX4_of_1 18 rfl rfl)
theorem dX4_of_43 : decode cX4_of 43 = .ok (.iaload, 1) := dk_46 (dk_at dksX4_of_1 19 rfl rfl)
theorem dX4_of_44 : decode cX4_of 44 = .ok (.iaload, 1) := dk_46 (dk_at dksX4_of_1 20 rfl rfl)
theorem dX4_of_45 : decode cX4_of 45 = .ok (.iadd, 1) := dk_96 (dk_at dksX4_of_1 21 rfl rfl)
theorem dX4_of_46 : decode cX4_of 46 = .ok (.iastore, 1) := dk_79 (dk_at dksX4_of_1 22 rfl rfl)
theorem dX4_of_47 : decode cX4_of 47 = .ok (.iinc 3 1, 3) := dk_132 3 1 (dk_at dksX4_of_2 0 rfl rfl)
theorem dX4_of_50 : decode cX4_of 50 = .ok (.goto (-37), 3) := dk_167 255 219 (dk_at dksX4_of_2 3 rfl rfl)
theorem dX4_of_53 : decode cX4_of 53 = .ok (.aload_n 2, 1) := dk_44 (dk_at dksX4_of_2 6 rfl rfl)
theorem dX4_of_54 : decode cX4_of 54 = .ok (.areturn, 1) := dk_176 (dk_at dksX4_of_2 7 rfl rfl)
theorem q77 : (Jvm.Cond.initialized "SwapWhile$Carry") ∈ lw_all := lw_g (lw_at lw_m1 13 rfl) rfl
theorem q218 : (Jvm.Cond.selects "SwapWhile$Carry" ({ cls := "java/lang/Object", name := "getClass", desc := "()Ljava/lang/Class;" } : Jvm.MethodName) ({ cls := "java/lang/Object", name := "getClass", desc := "()Ljava/lang/Class;" } : Jvm.MethodName)) ∈ lw_all := lw_g (lw_at lw_m1 154 rfl) rfl
theorem q349 : (Jvm.Cond.instantiable "SwapWhile$Carry" (2 : Nat)) ∈ lw_all := lw_g (lw_at lw_m2 45 rfl) rfl
theorem q351 : (Jvm.Cond.instanceMethod ({ cls := "SwapWhile$Carry", name := "<init>", desc := "(II)V" } : Jvm.MethodName)) ∈ lw_all := lw_g (lw_at lw_m2 47 rfl) rfl
theorem q352 : (Jvm.Cond.code ({ cls := "SwapWhile$Carry", name := "<init>", desc := "(II)V" } : Jvm.MethodName) prog_2_method_1_code (4 : Nat) (Option.none : Option Jvm.ClassFile.FieldType)) ∈ lw_all := lw_g (lw_at lw_m2 48 rfl) rfl
theorem q353 : (Jvm.Cond.methodLink "SwapWhile$Carry" (3 : Nat) ({ cls := "java/lang/Object", name := "<init>", desc := "()V" } : Jvm.MethodName)) ∈ lw_all := lw_g (lw_at lw_m2 49 rfl) rfl
theorem q354 : (Jvm.Cond.fieldLink "SwapWhile$Carry" (9 : Nat) "SwapWhile$Carry" "from" "[I") ∈ lw_all := lw_g (lw_at lw_m2 50 rfl) rfl
theorem q356 : (Jvm.Cond.fieldLink "SwapWhile$Carry" (15 : Nat) "SwapWhile$Carry" "numbers" "[I") ∈ lw_all := lw_g (lw_at lw_m2 52 rfl) rfl
theorem q358 : (Jvm.Cond.laysFinal "SwapWhile$Carry" "SwapWhile$Carry" "from" "[I") ∈ lw_all := lw_g (lw_at lw_m2 54 rfl) rfl
theorem q359 : (Jvm.Cond.soleField "SwapWhile$Carry" "from") ∈ lw_all := lw_g (lw_at lw_m2 55 rfl) rfl
theorem q360 : (Jvm.Cond.laysFinal "SwapWhile$Carry" "SwapWhile$Carry" "numbers" "[I") ∈ lw_all := lw_g (lw_at lw_m2 56 rfl) rfl
theorem q361 : (Jvm.Cond.soleField "SwapWhile$Carry" "numbers") ∈ lw_all := lw_g (lw_at lw_m2 57 rfl) rfl
theorem q362 : (Jvm.Cond.superclass "SwapWhile$Carry" "java/lang/Object") ∈ lw_all := lw_g (lw_at lw_m2 58 rfl) rfl
theorem q781 : (Jvm.Cond.selects "SwapWhile$Carry" ({ cls := "java/lang/Object", name := "equals", desc := "(Ljava/lang/Object;)Z" } : Jvm.MethodName) ({ cls := "java/lang/Object", name := "equals", desc := "(Ljava/lang/Object;)Z" } : Jvm.MethodName)) ∈ lw_all := lw_g (lw_at lw_m3 237 rfl) rfl
theorem q1115 : (Jvm.Cond.instanceMethod ({ cls := "SwapWhile$Carry", name := "of", desc := "([I)[I" } : Jvm.MethodName)) ∈ lw_all := lw_g (lw_at lw_m5 91 rfl) rfl
theorem q1116 : (Jvm.Cond.selects "SwapWhile$Carry" ({ cls := "SwapWhile$Carry", name := "of", desc := "([I)[I" } : Jvm.MethodName) ({ cls := "SwapWhile$Carry", name := "of", desc := "([I)[I" } : Jvm.MethodName)) ∈ lw_all := lw_g (lw_at lw_m5 92 rfl) rfl
theorem q1117 : (Jvm.Cond.code ({ cls := "SwapWhile$Carry", name := "of", desc := "([I)[I" } : Jvm.MethodName) prog_2_method_2_code (4 : Nat) (Option.some (Jvm.ClassFile.FieldType.array Jvm.ClassFile.FieldType.int))) ∈ lw_all := lw_g (lw_at lw_m5 93 rfl) rfl
theorem q1118 : (Jvm.Cond.methodLink "SwapWhile$Carry" (18 : Nat) ({ cls := "[I", name := "clone", desc := "()Ljava/lang/Object;" } : Jvm.MethodName)) ∈ lw_all := lw_g (lw_at lw_m5 94 rfl) rfl
theorem q1122 : (Jvm.Cond.classLink "SwapWhile$Carry" (19 : Nat) "[I") ∈ lw_all := lw_g (lw_at lw_m5 98 rfl) rfl
theorem q2214 : (Jvm.Cond.castable "SwapWhile$Carry" "java/lang/Object") ∈ lw_tbl := lw_at lw_m9 230 rfl
theorem in_X4 : ∀ w ∈ wsX40, w ∈ lw_all := lw_in wsX40 [358, 360] (by decide +kernel) (by decide +kernel)

/-! SwapWhile$Code -/
set_option maxRecDepth 100000
def RX8 : String := "SwapWhile$Code"
abbrev cX8_by : ByteArray := prog_4_method_6_code
def yX8_by : MethodName := ⟨RX8, "by", "(C)LSwapWhile$Code;"⟩
def dkwX8_by_1 : List UInt8 := [26, 160, 0, 6, 25, 4, 176, 132, 3, 1, 167, 255, 231, 1, 176]
abbrev dktX8_by_1 : List UInt8 := dkwX8_by_1 ++ []
def dkwX8_by_0 : List UInt8 := [184, 0, 81, 76, 43, 190, 61, 3, 62, 29, 28, 162, 0, 26, 43, 29, 50, 58, 4, 25, 4, 180, 0, 61]
abbrev dktX8_by_0 : List UInt8 := dkwX8_by_0 ++ dktX8_by_1
theorem dksX8_by_0 : cX8_by.data.toList.drop 0 = dktX8_by_0 := by decide +kernel
theorem dksX8_by_1 : cX8_by.data.toList.drop 24 = dktX8_by_1 := dk_seg dksX8_by_0 24 rfl rfl
theorem dX8_by_0 : decode cX8_by 0 = .ok (.invokestatic 81, 3) := dk_184 0 81 (dk_at dksX8_by_0 0 rfl rfl)
theorem dX8_by_3 : decode cX8_by 3 = .ok (.astore_n 1, 1) := dk_76 (dk_at dksX8_by_0 3 rfl rfl)
theorem dX8_by_4 : decode cX8_by 4 = .ok (.aload_n 1, 1) := dk_43 (dk_at dksX8_by_0 4 rfl rfl)
theorem dX8_by_5 : decode cX8_by 5 = .ok (.arraylength, 1) := dk_190 (dk_at dksX8_by_0 5 rfl rfl)
theorem dX8_by_6 : decode cX8_by 6 = .ok (.istore_n 2, 1) := dk_61 (dk_at dksX8_by_0 6 rfl rfl)
theorem dX8_by_7 : decode cX8_by 7 = .ok (.iconst 0, 1) := dk_3 (dk_at dksX8_by_0 7 rfl rfl)
theorem dX8_by_8 : decode cX8_by 8 = .ok (.istore_n 3, 1) := dk_62 (dk_at dksX8_by_0 8 rfl rfl)
theorem dX8_by_9 : decode cX8_by 9 = .ok (.iload_n 3, 1) := dk_29 (dk_at dksX8_by_0 9 rfl rfl)
theorem dX8_by_10 : decode cX8_by 10 = .ok (.iload_n 2, 1) := dk_28 (dk_at dksX8_by_0 10 rfl rfl)
theorem dX8_by_11 : decode cX8_by 11 = .ok (.if_icmp .ge 26, 3) := dk_162 0 26 (dk_at dksX8_by_0 11 rfl rfl)
theorem dX8_by_14 : decode cX8_by 14 = .ok (.aload_n 1, 1) := dk_43 (dk_at dksX8_by_0 14 rfl rfl)
theorem dX8_by_15 : decode cX8_by 15 = .ok (.iload_n 3, 1) := dk_29 (dk_at dksX8_by_0 15 rfl rfl)
theorem dX8_by_16 : decode cX8_by 16 = .ok (.aaload, 1) := dk_50 (dk_at dksX8_by_0 16 rfl rfl)
theorem dX8_by_17 : decode cX8_by 17 = .ok (.astore 4, 2) := dk_58 4 (dk_at dksX8_by_0 17 rfl rfl)
theorem dX8_by_19 : decode cX8_by 19 = .ok (.aload 4, 2) := dk_25 4 (dk_at dksX8_by_0 19 rfl rfl)
theorem dX8_by_21 : decode cX8_by 21 = .ok (.getfield 61, 3) := dk_180 0 61 (dk_at dksX8_by_0 21 rfl rfl)
theorem dX8_by_24 : decode cX8_by 24 = .ok (.iload_n 0, 1) := dk_26 (dk_at dksX8_by_1 0 rfl rfl)
theorem dX8_by_25 : decode cX8_by 25 = .ok (.if_icmp .ne 6, 3) := dk_160 0 6 (dk_at dksX8_by_1 1 rfl rfl)
theorem dX8_by_28 : decode cX8_by 28 = .ok (.aload 4, 2) := dk_25 4 (dk_at dksX8_by_1 4 rfl rfl)
theorem dX8_by_30 : decode cX8_by 30 = .ok (.areturn, 1) := dk_176 (dk_at dksX8_by_1 6 rfl rfl)
theorem dX8_by_31 : decode cX8_by 31 = .ok (.iinc 3 1, 3) := dk_132 3 1 (dk_at dksX8_by_1 7 rfl rfl)
theorem dX8_by_34 : decode cX8_by 34 = .ok (.goto (-25), 3) := dk_167 255 231 (dk_at dksX8_by_1 10 rfl rfl)
theorem dX8_by_37 : decode cX8_by 37 = .ok (.aconst_null, 1) := dk_1 (dk_at dksX8_by_1 13 rfl rfl)
theorem dX8_by_38 : decode cX8_by 38 = .ok (.areturn, 1) := dk_176 (dk_at dksX8_by_1 14 rfl rfl)
abbrev cX8_values : ByteArray := prog_4_method_1_code
def yX8_values : MethodName := ⟨RX8, "values", "()[LSwapWhile$Code;"⟩
def dkwX8_values_0 : List UInt8 := [178, 0, 42, 182, 0, 46, 192, 0, 47, 176]
abbrev dktX8_values_0 : List UInt8 := dkwX8_values_0 ++ []
theorem dksX8_values_0 : cX8_values.data.toList.drop 0 = dktX8_values_0 := by decide +kernel
theorem dX8_values_0 : decode cX8_values 0 = .ok (.getstatic 42, 3) := dk_178 0 42 (dk_at dksX8_values_0 0 rfl rfl)
theorem dX8_values_3 : decode cX8_values 3 = .ok (.invokevirtual 46, 3) := dk_182 0 46 (dk_at dksX8_values_0 3 rfl rfl)
theorem dX8_values_6 : decode cX8_values 6 = .ok (.checkcast 47, 3) := dk_192 0 47 (dk_at dksX8_values_0 6 rfl rfl)
theorem dX8_values_9 : decode cX8_values 9 = .ok (.areturn, 1) := dk_176 (dk_at dksX8_values_0 9 rfl rfl)
abbrev cX8_areIn : ByteArray := prog_4_method_5_code
def yX8_areIn : MethodName := ⟨RX8, "areIn", "(III)Z"⟩
def dkwX8_areIn_1 : List UInt8 := [180, 0, 72, 29, 182, 0, 75, 153, 0, 7, 4, 167, 0, 4, 3, 172]
abbrev dktX8_areIn_1 : List UInt8 := dkwX8_areIn_1 ++ []
def dkwX8_areIn_0 : List UInt8 := [42, 180, 0, 65, 27, 182, 0, 75, 153, 0, 29, 42, 180, 0, 69, 28, 182, 0, 75, 153, 0, 18, 42]
abbrev dktX8_areIn_0 : List UInt8 := dkwX8_areIn_0 ++ dktX8_areIn_1
theorem dksX8_areIn_0 : cX8_areIn.data.toList.drop 0 = dktX8_areIn_0 := by decide +kernel
theorem dksX8_areIn_1 : cX8_areIn.data.toList.drop 23 = dktX8_areIn_1 := dk_seg dksX8_areIn_0 23 rfl rfl
theorem dX8_areIn_0 : decode cX8_areIn 0 = .ok (.aload_n 0, 1) := dk_42 (dk_at dksX8_areIn_0 0 rfl rfl)
theorem dX8_areIn_1 : decode cX8_areIn 1 = .ok (.getfield 65, 3) := dk_180 0 65 (dk_at dksX8_areIn_0 1 rfl rfl)
theorem dX8_areIn_4 : decode cX8_areIn 4 = .ok (.iload_n 1, 1) := dk_27 (dk_at dksX8_areIn_0 4 rfl rfl)
theorem dX8_areIn_5 : decode cX8_areIn 5 = .ok (.invokevirtual 75, 3) := dk_182 0 75 (dk_at dksX8_areIn_0 5 rfl rfl)
theorem dX8_areIn_8 : decode cX8_areIn 8 = .ok (.ifCond .eq 29, 3) := dk_153 0 29 (dk_at dksX8_areIn_0 8 rfl rfl)
theorem dX8_areIn_11 : decode cX8_areIn 11 = .ok (.aload_n 0, 1) := dk_42 (dk_at dksX8_areIn_0 11 rfl rfl)
theorem dX8_areIn_12 : decode cX8_areIn 12 = .ok (.getfield 69, 3) := dk_180 0 69 (dk_at dksX8_areIn_0 12 rfl rfl)
theorem dX8_areIn_15 : decode cX8_areIn 15 = .ok (.iload_n 2, 1) := dk_28 (dk_at dksX8_areIn_0 15 rfl rfl)
theorem dX8_areIn_16 : decode cX8_areIn 16 = .ok (.invokevirtual 75, 3) := dk_182 0 75 (dk_at dksX8_areIn_0 16 rfl rfl)
theorem dX8_areIn_19 : decode cX8_areIn 19 = .ok (.ifCond .eq 18, 3) := dk_153 0 18 (dk_at dksX8_areIn_0 19 rfl rfl)
theorem dX8_areIn_22 : decode cX8_areIn 22 = .ok (.aload_n 0, 1) := dk_42 (dk_at dksX8_areIn_0 22 rfl rfl)
theorem dX8_areIn_23 : decode cX8_areIn 23 = .ok (.getfield 72, 3) := dk_180 0 72 (dk_at dksX8_areIn_1 0 rfl rfl)
theorem dX8_areIn_26 : decode cX8_areIn 26 = .ok (.iload_n 3, 1) := dk_29 (dk_at dksX8_areIn_1 3 rfl rfl)
theorem dX8_areIn_27 : decode cX8_areIn 27 = .ok (.invokevirtual 75, 3) := dk_182 0 75 (dk_at dksX8_areIn_1 4 rfl rfl)
theorem dX8_areIn_30 : decode cX8_areIn 30 = .ok (.ifCond .eq 7, 3) := dk_153 0 7 (dk_at dksX8_areIn_1 7 rfl rfl)
theorem dX8_areIn_33 : decode cX8_areIn 33 = .ok (.iconst 1, 1) := dk_4 (dk_at dksX8_areIn_1 10 rfl rfl)
theorem dX8_areIn_34 : decode cX8_areIn 34 = .ok (.goto 4, 3) := dk_167 0 4 (dk_at dksX8_areIn_1 11 rfl rfl)
theorem dX8_areIn_37 : decode cX8_areIn 37 = .ok (.iconst 0, 1) := dk_3 (dk_at dksX8_areIn_1 14 rfl rfl)
theorem dX8_areIn_38 : decode cX8_areIn 38 = .ok (.ireturn, 1) := dk_172 (dk_at dksX8_areIn_1 15 rfl rfl)
abbrev cX8_kindOf : ByteArray := prog_4_method_4_code
def yX8_kindOf : MethodName := ⟨RX8, "kindOf", "(LSwapWhile$Instruction;)I"⟩
theorem dX8_kindOf_0 : decode cX8_kindOf 0 = .ok (.iconst (-1), 1) := by decide +kernel
theorem dX8_kindOf_1 : decode cX8_kindOf 1 = .ok (.ireturn, 1) := by decide +kernel
theorem q86 : (Jvm.Cond.initialized "SwapWhile$Code") ∈ lw_all := lw_g (lw_at lw_m1 22 rfl) rfl
theorem q220 : (Jvm.Cond.selects "SwapWhile$Code" ({ cls := "java/lang/Object", name := "getClass", desc := "()Ljava/lang/Class;" } : Jvm.MethodName) ({ cls := "java/lang/Object", name := "getClass", desc := "()Ljava/lang/Class;" } : Jvm.MethodName)) ∈ lw_all := lw_g (lw_at lw_m1 156 rfl) rfl
theorem q527 : (Jvm.Cond.static ({ cls := "SwapWhile$Code", name := "by", desc := "(C)LSwapWhile$Code;" } : Jvm.MethodName)) ∈ lw_all := lw_g (lw_at lw_m2 223 rfl) rfl
theorem q528 : (Jvm.Cond.code ({ cls := "SwapWhile$Code", name := "by", desc := "(C)LSwapWhile$Code;" } : Jvm.MethodName) prog_4_method_6_code (5 : Nat) (Option.some (Jvm.ClassFile.FieldType.object "SwapWhile$Code"))) ∈ lw_all := lw_g (lw_at lw_m2 224 rfl) rfl
theorem q529 : (Jvm.Cond.methodLink "SwapWhile$Code" (81 : Nat) ({ cls := "SwapWhile$Code", name := "values", desc := "()[LSwapWhile$Code;" } : Jvm.MethodName)) ∈ lw_all := lw_g (lw_at lw_m2 225 rfl) rfl
theorem q530 : (Jvm.Cond.static ({ cls := "SwapWhile$Code", name := "values", desc := "()[LSwapWhile$Code;" } : Jvm.MethodName)) ∈ lw_all := lw_g (lw_at lw_m2 226 rfl) rfl
theorem q531 : (Jvm.Cond.code ({ cls := "SwapWhile$Code", name := "values", desc := "()[LSwapWhile$Code;" } : Jvm.MethodName) prog_4_method_1_code (0 : Nat) (Option.some (Jvm.ClassFile.FieldType.array (Jvm.ClassFile.FieldType.object "SwapWhile$Code")))) ∈ lw_all := lw_g (lw_at lw_m2 227 rfl) rfl
theorem q532 : (Jvm.Cond.fieldLink "SwapWhile$Code" (42 : Nat) "SwapWhile$Code" "$VALUES" "[LSwapWhile$Code;") ∈ lw_all := lw_g (lw_at lw_m2 228 rfl) rfl
theorem q533 : (Jvm.Cond.laysStatic "SwapWhile$Code" "$VALUES" "[LSwapWhile$Code;") ∈ lw_tbl := lw_at lw_m2 229 rfl
theorem q534 : (Jvm.Cond.methodLink "SwapWhile$Code" (46 : Nat) ({ cls := "[LSwapWhile$Code;", name := "clone", desc := "()Ljava/lang/Object;" } : Jvm.MethodName)) ∈ lw_all := lw_g (lw_at lw_m2 230 rfl) rfl
theorem q541 : (Jvm.Cond.classLink "SwapWhile$Code" (47 : Nat) "[LSwapWhile$Code;") ∈ lw_all := lw_g (lw_at lw_m2 237 rfl) rfl
theorem q543 : (Jvm.Cond.instanceMethod ({ cls := "SwapWhile$Code", name := "areIn", desc := "(III)Z" } : Jvm.MethodName)) ∈ lw_all := lw_g (lw_at lw_m2 239 rfl) rfl
theorem q544 : (Jvm.Cond.selects "SwapWhile$Code" ({ cls := "SwapWhile$Code", name := "areIn", desc := "(III)Z" } : Jvm.MethodName) ({ cls := "SwapWhile$Code", name := "areIn", desc := "(III)Z" } : Jvm.MethodName)) ∈ lw_all := lw_g (lw_at lw_m3 0 rfl) rfl
theorem q545 : (Jvm.Cond.sameMethod "SwapWhile$Code" "SwapWhile$Code" "areIn" "(III)Z") ∈ lw_all := lw_g (lw_at lw_m3 1 rfl) rfl
theorem q549 : (Jvm.Cond.code ({ cls := "SwapWhile$Code", name := "areIn", desc := "(III)Z" } : Jvm.MethodName) prog_4_method_5_code (4 : Nat) (Option.some Jvm.ClassFile.FieldType.boolean)) ∈ lw_all := lw_g (lw_at lw_m3 5 rfl) rfl
theorem q550 : (Jvm.Cond.methodLink "SwapWhile$Code" (75 : Nat) ({ cls := "SwapWhile$Operand", name := "isIn", desc := "(I)Z" } : Jvm.MethodName)) ∈ lw_all := lw_g (lw_at lw_m3 6 rfl) rfl
theorem q611 : (Jvm.Cond.laysStatic "SwapWhile$Code" "PUT" "LSwapWhile$Code;") ∈ lw_tbl := lw_at lw_m3 67 rfl
theorem q783 : (Jvm.Cond.selects "SwapWhile$Code" ({ cls := "java/lang/Object", name := "equals", desc := "(Ljava/lang/Object;)Z" } : Jvm.MethodName) ({ cls := "java/lang/Enum", name := "equals", desc := "(Ljava/lang/Object;)Z" } : Jvm.MethodName)) ∈ lw_all := lw_g (lw_at lw_m3 239 rfl) rfl
theorem q799 : (Jvm.Cond.laysStatic "SwapWhile$Code" "WAIT" "LSwapWhile$Code;") ∈ lw_tbl := lw_at lw_m4 15 rfl
theorem q923 : (Jvm.Cond.instanceMethod ({ cls := "SwapWhile$Code", name := "kindOf", desc := "(LSwapWhile$Instruction;)I" } : Jvm.MethodName)) ∈ lw_all := lw_g (lw_at lw_m4 139 rfl) rfl
theorem q924 : (Jvm.Cond.selects "SwapWhile$Code" ({ cls := "SwapWhile$Code", name := "kindOf", desc := "(LSwapWhile$Instruction;)I" } : Jvm.MethodName) ({ cls := "SwapWhile$Code", name := "kindOf", desc := "(LSwapWhile$Instruction;)I" } : Jvm.MethodName)) ∈ lw_all := lw_g (lw_at lw_m4 140 rfl) rfl
theorem q925 : (Jvm.Cond.sameMethod "SwapWhile$Code" "SwapWhile$Code" "kindOf" "(LSwapWhile$Instruction;)I") ∈ lw_all := lw_g (lw_at lw_m4 141 rfl) rfl
theorem q935 : (Jvm.Cond.code ({ cls := "SwapWhile$Code", name := "kindOf", desc := "(LSwapWhile$Instruction;)I" } : Jvm.MethodName) prog_4_method_4_code (2 : Nat) (Option.some Jvm.ClassFile.FieldType.int)) ∈ lw_all := lw_g (lw_at lw_m4 151 rfl) rfl
theorem q1159 : (Jvm.Cond.sameMethod "SwapWhile$Code" "java/lang/Enum" "ordinal" "()I") ∈ lw_all := lw_g (lw_at lw_m5 135 rfl) rfl
theorem q1161 : (Jvm.Cond.selects "SwapWhile$Code" ({ cls := "SwapWhile$Code", name := "ordinal", desc := "()I" } : Jvm.MethodName) ({ cls := "java/lang/Enum", name := "ordinal", desc := "()I" } : Jvm.MethodName)) ∈ lw_all := lw_g (lw_at lw_m5 137 rfl) rfl
theorem q1198 : (Jvm.Cond.laysStatic "SwapWhile$Code" "GET" "LSwapWhile$Code;") ∈ lw_tbl := lw_at lw_m5 174 rfl
theorem q2215 : (Jvm.Cond.castable "SwapWhile$Code" "java/lang/Object") ∈ lw_tbl := lw_at lw_m9 231 rfl
theorem q2267 : (Jvm.Cond.fieldLink "SwapWhile$Code" (61 : Nat) "SwapWhile$Code" "letter" "C") ∈ lw_all := lw_g (lw_at lw_m10 43 rfl) rfl
theorem q2268 : (Jvm.Cond.fieldLink "SwapWhile$Code" (65 : Nat) "SwapWhile$Code" "first" "LSwapWhile$Operand;") ∈ lw_all := lw_g (lw_at lw_m10 44 rfl) rfl
theorem q2269 : (Jvm.Cond.fieldLink "SwapWhile$Code" (69 : Nat) "SwapWhile$Code" "second" "LSwapWhile$Operand;") ∈ lw_all := lw_g (lw_at lw_m10 45 rfl) rfl
theorem q2270 : (Jvm.Cond.fieldLink "SwapWhile$Code" (72 : Nat) "SwapWhile$Code" "third" "LSwapWhile$Operand;") ∈ lw_all := lw_g (lw_at lw_m10 46 rfl) rfl
theorem q2274 : (Jvm.Cond.laysStatic "SwapWhile$Code" "ADD" "LSwapWhile$Code;") ∈ lw_tbl := lw_at lw_m10 50 rfl
theorem q2275 : (Jvm.Cond.laysStatic "SwapWhile$Code" "NEW" "LSwapWhile$Code;") ∈ lw_tbl := lw_at lw_m10 51 rfl
theorem q2276 : (Jvm.Cond.laysStatic "SwapWhile$Code" "SET" "LSwapWhile$Code;") ∈ lw_tbl := lw_at lw_m10 52 rfl
theorem q2277 : (Jvm.Cond.laysStatic "SwapWhile$Code" "JUMP" "LSwapWhile$Code;") ∈ lw_tbl := lw_at lw_m10 53 rfl
theorem q2278 : (Jvm.Cond.laysStatic "SwapWhile$Code" "CALL" "LSwapWhile$Code;") ∈ lw_tbl := lw_at lw_m10 54 rfl
theorem q2279 : (Jvm.Cond.laysStatic "SwapWhile$Code" "TABLE" "LSwapWhile$Code;") ∈ lw_tbl := lw_at lw_m10 55 rfl
theorem q2280 : (Jvm.Cond.laysStatic "SwapWhile$Code" "POINT" "LSwapWhile$Code;") ∈ lw_tbl := lw_at lw_m10 56 rfl
theorem q2281 : (Jvm.Cond.laysStatic "SwapWhile$Code" "RETURN" "LSwapWhile$Code;") ∈ lw_tbl := lw_at lw_m10 57 rfl
theorem q2282 : (Jvm.Cond.laysStatic "SwapWhile$Code" "OUT" "LSwapWhile$Code;") ∈ lw_tbl := lw_at lw_m10 58 rfl

/-! SwapWhile$Operand$6 -/
set_option maxRecDepth 100000
def RX9 : String := "SwapWhile$Operand$6"
abbrev cX9_isIn : ByteArray := prog_17_method_2_code
def yX9_isIn : MethodName := ⟨RX9, "isIn", "(I)Z"⟩
def dkwX9_isIn_1 : List UInt8 := [162, 0, 7, 4, 167, 0, 4, 3, 172]
abbrev dktX9_isIn_1 : List UInt8 := dkwX9_isIn_1 ++ []
def dkwX9_isIn_0 : List UInt8 := [27, 155, 0, 28, 178, 0, 9, 27, 16, 10, 108, 182, 0, 15, 153, 0, 15, 27, 16, 10, 112, 7]
abbrev dktX9_isIn_0 : List UInt8 := dkwX9_isIn_0 ++ dktX9_isIn_1
theorem dksX9_isIn_0 : cX9_isIn.data.toList.drop 0 = dktX9_isIn_0 := by decide +kernel
theorem dksX9_isIn_1 : cX9_isIn.data.toList.drop 22 = dktX9_isIn_1 := dk_seg dksX9_isIn_0 22 rfl rfl
theorem dX9_isIn_0 : decode cX9_isIn 0 = .ok (.iload_n 1, 1) := dk_27 (dk_at dksX9_isIn_0 0 rfl rfl)
theorem dX9_isIn_1 : decode cX9_isIn 1 = .ok (.ifCond .lt 28, 3) := dk_155 0 28 (dk_at dksX9_isIn_0 1 rfl rfl)
theorem dX9_isIn_4 : decode cX9_isIn 4 = .ok (.getstatic 9, 3) := dk_178 0 9 (dk_at dksX9_isIn_0 4 rfl rfl)
theorem dX9_isIn_7 : decode cX9_isIn 7 = .ok (.iload_n 1, 1) := dk_27 (dk_at dksX9_isIn_0 7 rfl rfl)
theorem dX9_isIn_8 : decode cX9_isIn 8 = .ok (.bipush 10, 2) := dk_16 10 (dk_at dksX9_isIn_0 8 rfl rfl)
theorem dX9_isIn_10 : decode cX9_isIn 10 = .ok (.idiv, 1) := dk_108 (dk_at dksX9_isIn_0 10 rfl rfl)
theorem dX9_isIn_11 : decode cX9_isIn 11 = .ok (.invokevirtual 15, 3) := dk_182 0 15 (dk_at dksX9_isIn_0 11 rfl rfl)
theorem dX9_isIn_14 : decode cX9_isIn 14 = .ok (.ifCond .eq 15, 3) := dk_153 0 15 (dk_at dksX9_isIn_0 14 rfl rfl)
theorem dX9_isIn_17 : decode cX9_isIn 17 = .ok (.iload_n 1, 1) := dk_27 (dk_at dksX9_isIn_0 17 rfl rfl)
theorem dX9_isIn_18 : decode cX9_isIn 18 = .ok (.bipush 10, 2) := dk_16 10 (dk_at dksX9_isIn_0 18 rfl rfl)
theorem dX9_isIn_20 : decode cX9_isIn 20 = .ok (.irem, 1) := dk_112 (dk_at dksX9_isIn_0 20 rfl rfl)
theorem dX9_isIn_21 : decode cX9_isIn 21 = .ok (.iconst 4, 1) := dk_7 (dk_at dksX9_isIn_0 21 rfl rfl)
theorem dX9_isIn_22 : decode cX9_isIn 22 = .ok (.if_icmp .ge 7, 3) := dk_162 0 7 (dk_at dksX9_isIn_1 0 rfl rfl)
theorem dX9_isIn_25 : decode cX9_isIn 25 = .ok (.iconst 1, 1) := dk_4 (dk_at dksX9_isIn_1 3 rfl rfl)
theorem dX9_isIn_26 : decode cX9_isIn 26 = .ok (.goto 4, 3) := dk_167 0 4 (dk_at dksX9_isIn_1 4 rfl rfl)
theorem dX9_isIn_29 : decode cX9_isIn 29 = .ok (.iconst 0, 1) := dk_3 (dk_at dksX9_isIn_1 7 rfl rfl)
theorem dX9_isIn_30 : decode cX9_isIn 30 = .ok (.ireturn, 1) := dk_172 (dk_at dksX9_isIn_1 8 rfl rfl)
theorem q88 : (Jvm.Cond.initialized "SwapWhile$Operand$6") ∈ lw_all := lw_g (lw_at lw_m1 24 rfl) rfl
theorem q231 : (Jvm.Cond.selects "SwapWhile$Operand$6" ({ cls := "java/lang/Object", name := "getClass", desc := "()Ljava/lang/Class;" } : Jvm.MethodName) ({ cls := "java/lang/Object", name := "getClass", desc := "()Ljava/lang/Class;" } : Jvm.MethodName)) ∈ lw_all := lw_g (lw_at lw_m1 167 rfl) rfl
theorem q573 : (Jvm.Cond.selects "SwapWhile$Operand$6" ({ cls := "SwapWhile$Operand", name := "isIn", desc := "(I)Z" } : Jvm.MethodName) ({ cls := "SwapWhile$Operand$6", name := "isIn", desc := "(I)Z" } : Jvm.MethodName)) ∈ lw_all := lw_g (lw_at lw_m3 29 rfl) rfl
theorem q574 : (Jvm.Cond.instanceMethod ({ cls := "SwapWhile$Operand$6", name := "isIn", desc := "(I)Z" } : Jvm.MethodName)) ∈ lw_all := lw_g (lw_at lw_m3 30 rfl) rfl
theorem q575 : (Jvm.Cond.code ({ cls := "SwapWhile$Operand$6", name := "isIn", desc := "(I)Z" } : Jvm.MethodName) prog_17_method_2_code (2 : Nat) (Option.some Jvm.ClassFile.FieldType.boolean)) ∈ lw_all := lw_g (lw_at lw_m3 31 rfl) rfl
theorem q576 : (Jvm.Cond.fieldLink "SwapWhile$Operand$6" (9 : Nat) "SwapWhile$Operand$6" "KIND" "LSwapWhile$Operand;") ∈ lw_all := lw_g (lw_at lw_m3 32 rfl) rfl
theorem q577 : (Jvm.Cond.sameField "SwapWhile$Operand$6" "SwapWhile$Operand" "KIND" "LSwapWhile$Operand;") ∈ lw_all := lw_g (lw_at lw_m3 33 rfl) rfl
theorem q579 : (Jvm.Cond.methodLink "SwapWhile$Operand$6" (15 : Nat) ({ cls := "SwapWhile$Operand", name := "isIn", desc := "(I)Z" } : Jvm.MethodName)) ∈ lw_all := lw_g (lw_at lw_m3 35 rfl) rfl
theorem q805 : (Jvm.Cond.selects "SwapWhile$Operand$6" ({ cls := "java/lang/Object", name := "equals", desc := "(Ljava/lang/Object;)Z" } : Jvm.MethodName) ({ cls := "java/lang/Enum", name := "equals", desc := "(Ljava/lang/Object;)Z" } : Jvm.MethodName)) ∈ lw_all := lw_g (lw_at lw_m4 21 rfl) rfl
theorem q2238 : (Jvm.Cond.castable "SwapWhile$Operand$6" "java/lang/Object") ∈ lw_tbl := lw_at lw_m10 14 rfl

/-! SwapWhile$Instruction -/
set_option maxRecDepth 100000
def RX10 : String := "SwapWhile$Instruction"
def TX10 : u_T := fun k => match k with
  | 0 => ("SwapWhile$Instruction", "code", "LSwapWhile$Code;", true)
  | 1 => ("SwapWhile$Instruction", "a", "I", true)
  | 2 => ("SwapWhile$Instruction", "b", "I", true)
  | _ => ("SwapWhile$Instruction", "c", "I", true)
def tyX10 : Nat → FieldType := fun k => match k with
  | 0 => .object "SwapWhile$Code"
  | 1 => .int
  | 2 => .int
  | _ => .int
abbrev wsX100 : List Cond := u_ws RX10 TX10 4
theorem nmX10 : ∀ a, a < 4 → ∀ b, b < 4 → a ≠ b → (TX10 a).2.1 ≠ (TX10 b).2.1 := by decide +kernel
theorem tyX10_ok : ∀ k, k < 4 → parseFieldDescriptor (TX10 k).2.2.1 = some (tyX10 k) := by decide +kernel
abbrev cX10_init : ByteArray := prog_10_method_1_code
def yX10_init : MethodName := ⟨RX10, "<init>", "(LSwapWhile$Code;III)V"⟩
def dkwX10_init_2 : List UInt8 := [178, 0, 23, 166, 0, 7, 3, 167, 0, 5, 21, 4, 181, 0, 37, 177]
abbrev dktX10_init_2 : List UInt8 := dkwX10_init_2 ++ []
def dkwX10_init_1 : List UInt8 := [166, 0, 14, 43, 178, 0, 28, 165, 0, 7, 3, 167, 0, 4, 29, 181, 0, 31, 42, 43, 180, 0, 34]
abbrev dktX10_init_1 : List UInt8 := dkwX10_init_1 ++ dktX10_init_2
def dkwX10_init_0 : List UInt8 := [42, 183, 0, 1, 42, 43, 181, 0, 7, 42, 28, 181, 0, 13, 42, 43, 180, 0, 17, 178, 0, 23]
abbrev dktX10_init_0 : List UInt8 := dkwX10_init_0 ++ dktX10_init_1
theorem dksX10_init_0 : cX10_init.data.toList.drop 0 = dktX10_init_0 := by decide +kernel
theorem dksX10_init_1 : cX10_init.data.toList.drop 22 = dktX10_init_1 := dk_seg dksX10_init_0 22 rfl rfl
theorem dksX10_init_2 : cX10_init.data.toList.drop 45 = dktX10_init_2 := dk_seg dksX10_init_1 23 rfl rfl
theorem dX10_init_0 : decode cX10_init 0 = .ok (.aload_n 0, 1) := dk_42 (dk_at dksX10_init_0 0 rfl rfl)
theorem dX10_init_1 : decode cX10_init 1 = .ok (.invokespecial 1, 3) := dk_183 0 1 (dk_at dksX10_init_0 1 rfl rfl)
theorem dX10_init_4 : decode cX10_init 4 = .ok (.aload_n 0, 1) := dk_42 (dk_at dksX10_init_0 4 rfl rfl)
theorem dX10_init_5 : decode cX10_init 5 = .ok (.aload_n 1, 1) := dk_43 (dk_at dksX10_init_0 5 rfl rfl)
theorem dX10_init_6 : decode cX10_init 6 = .ok (.putfield 7, 3) := dk_181 0 7 (dk_at dksX10_init_0 6 rfl rfl)
theorem dX10_init_9 : decode cX10_init 9 = .ok (.aload_n 0, 1) := dk_42 (dk_at dksX10_init_0 9 rfl rfl)
theorem dX10_init_10 : decode cX10_init 10 = .ok (.iload_n 2, 1) := dk_28 (dk_at dksX10_init_0 10 rfl rfl)
theorem dX10_init_11 : decode cX10_init 11 = .ok (.putfield 13, 3) := dk_181 0 13 (dk_at dksX10_init_0 11 rfl rfl)
theorem dX10_init_14 : decode cX10_init 14 = .ok (.aload_n 0, 1) := dk_42 (dk_at dksX10_init_0 14 rfl rfl)
theorem dX10_init_15 : decode cX10_init 15 = .ok (.aload_n 1, 1) := dk_43 (dk_at dksX10_init_0 15 rfl rfl)
theorem dX10_init_16 : decode cX10_init 16 = .ok (.getfield 17, 3) := dk_180 0 17 (dk_at dksX10_init_0 16 rfl rfl)
theorem dX10_init_19 : decode cX10_init 19 = .ok (.getstatic 23, 3) := dk_178 0 23 (dk_at dksX10_init_0 19 rfl rfl)
theorem dX10_init_22 : decode cX10_init 22 = .ok (.if_acmp .ne 14, 3) := dk_166 0 14 (dk_at dksX10_init_1 0 rfl rfl)
theorem dX10_init_25 : decode cX10_init 25 = .ok (.aload_n 1, 1) := dk_43 (dk_at dksX10_init_1 3 rfl rfl)
theorem dX10_init_26 : decode cX10_init 26 = .ok (.getstatic 28, 3) := dk_178 0 28 (dk_at dksX10_init_1 4 rfl rfl)
theorem dX10_init_29 : decode cX10_init 29 = .ok (.if_acmp .eq 7, 3) := dk_165 0 7 (dk_at dksX10_init_1 7 rfl rfl)
theorem dX10_init_32 : decode cX10_init 32 = .ok (.iconst 0, 1) := dk_3 (dk_at dksX10_init_1 10 rfl rfl)
theorem dX10_init_33 : decode cX10_init 33 = .ok (.goto 4, 3) := dk_167 0 4 (dk_at dksX10_init_1 11 rfl rfl)
theorem dX10_init_36 : decode cX10_init 36 = .ok (.iload_n 3, 1) := dk_29 (dk_at dksX10_init_1 14 rfl rfl)
theorem dX10_init_37 : decode cX10_init 37 = .ok (.putfield 31, 3) := dk_181 0 31 (dk_at dksX10_init_1 15 rfl rfl)
theorem dX10_init_40 : decode cX10_init 40 = .ok (.aload_n 0, 1) := dk_42 (dk_at dksX10_init_1 18 rfl rfl)
theorem dX10_init_41 : decode cX10_init 41 = .ok (.aload_n 1, 1) := dk_43 (dk_at dksX10_init_1 19 rfl rfl)
theorem dX10_init_42 : decode cX10_init 42 = .ok (.getfield 34, 3) := dk_180 0 34 (dk_at dksX10_init_1 20 rfl rfl)
theorem dX10_init_45 : decode cX10_init 45 = .ok (.getstatic 23, 3) := dk_178 0 23 (dk_at dksX10_init_2 0 rfl rfl)
theorem dX10_init_48 : decode cX10_init 48 = .ok (.if_acmp .ne 7, 3) := dk_166 0 7 (dk_at dksX10_init_2 3 rfl rfl)
theorem dX10_init_51 : decode cX10_init 51 = .ok (.iconst 0, 1) := dk_3 (dk_at dksX10_init_2 6 rfl rfl)
theorem dX10_init_52 : decode cX10_init 52 = .ok (.goto 5, 3) := dk_167 0 5 (dk_at dksX10_init_2 7 rfl rfl)
theorem dX10_init_55 : decode cX10_init 55 = .ok (.iload 4, 2) := dk_21 4 (dk_at dksX10_init_2 10 rfl rfl)
theorem dX10_init_57 : decode cX10_init 57 = .ok (.putfield 37, 3) := dk_181 0 37 (dk_at dksX10_init_2 12 rfl rfl)
theorem dX10_init_60 : decode cX10_init 60 = .ok (.return_, 1) := dk_177 (dk_at dksX10_init_2 15 rfl rfl)
abbrev cX10_equals : ByteArray := prog_10_method_2_code
def yX10_equals : MethodName := ⟨RX10, "equals", "(Ljava/lang/Object;)Z"⟩
def dkwX10_equals_0 : List UInt8 := [43, 193, 0, 8, 153, 0, 18, 42, 43, 192, 0, 8, 182, 0, 40, 153, 0, 7, 4, 167, 0, 4, 3, 172]
abbrev dktX10_equals_0 : List UInt8 := dkwX10_equals_0 ++ []
theorem dksX10_equals_0 : cX10_equals.data.toList.drop 0 = dktX10_equals_0 := by decide +kernel
theorem dX10_equals_0 : decode cX10_equals 0 = .ok (.aload_n 1, 1) := dk_43 (dk_at dksX10_equals_0 0 rfl rfl)
theorem dX10_equals_1 : decode cX10_equals 1 = .ok (.instanceof 8, 3) := dk_193 0 8 (dk_at dksX10_equals_0 1 rfl rfl)
theorem dX10_equals_4 : decode cX10_equals 4 = .ok (.ifCond .eq 18, 3) := dk_153 0 18 (dk_at dksX10_equals_0 4 rfl rfl)
theorem dX10_equals_7 : decode cX10_equals 7 = .ok (.aload_n 0, 1) := dk_42 (dk_at dksX10_equals_0 7 rfl rfl)
theorem dX10_equals_8 : decode cX10_equals 8 = .ok (.aload_n 1, 1) := dk_43 (dk_at dksX10_equals_0 8 rfl rfl)
theorem dX10_equals_9 : decode cX10_equals 9 = .ok (.checkcast 8, 3) := dk_192 0 8 (dk_at dksX10_equals_0 9 rfl rfl)
theorem dX10_equals_12 : decode cX10_equals 12 = .ok (.invokevirtual 40, 3) := dk_182 0 40 (dk_at dksX10_equals_0 12 rfl rfl)
theorem dX10_equals_15 : decode cX10_equals 15 = .ok (.ifCond .eq 7, 3) := dk_153 0 7 (dk_at dksX10_equals_0 15 rfl rfl)
theorem dX10_equals_18 : decode cX10_equals 18 = .ok (.iconst 1, 1) := dk_4 (dk_at dksX10_equals_0 18 rfl rfl)
theorem dX10_equals_19 : decode cX10_equals 19 = .ok (.goto 4, 3) := dk_167 0 4 (dk_at dksX10_equals_0 19 rfl rfl)
theorem dX10_equals_22 : decode cX10_equals 22 = .ok (.iconst 0, 1) := dk_3 (dk_at dksX10_equals_0 22 rfl rfl)
theorem dX10_equals_23 : decode cX10_equals 23 = .ok (.ireturn, 1) := dk_172 (dk_at dksX10_equals_0 23 rfl rfl)
abbrev cX10_isLike : ByteArray := prog_10_method_3_code
def yX10_isLike : MethodName := ⟨RX10, "isLike", "(LSwapWhile$Instruction;)Z"⟩
def dkwX10_isLike_2 : List UInt8 := [43, 180, 0, 37, 160, 0, 7, 4, 167, 0, 4, 3, 172]
abbrev dktX10_isLike_2 : List UInt8 := dkwX10_isLike_2 ++ []
def dkwX10_isLike_1 : List UInt8 := [180, 0, 7, 178, 0, 44, 166, 0, 29, 42, 180, 0, 31, 43, 180, 0, 31, 160, 0, 18, 42, 180, 0, 37]
abbrev dktX10_isLike_1 : List UInt8 := dkwX10_isLike_1 ++ dktX10_isLike_2
def dkwX10_isLike_0 : List UInt8 := [42, 180, 0, 7, 43, 180, 0, 7, 166, 0, 50, 42, 180, 0, 13, 43, 180, 0, 13, 159, 0, 13, 42]
abbrev dktX10_isLike_0 : List UInt8 := dkwX10_isLike_0 ++ dktX10_isLike_1
theorem dksX10_isLike_0 : cX10_isLike.data.toList.drop 0 = dktX10_isLike_0 := by decide +kernel
theorem dksX10_isLike_1 : cX10_isLike.data.toList.drop 23 = dktX10_isLike_1 := dk_seg dksX10_isLike_0 23 rfl rfl
theorem dksX10_isLike_2 : cX10_isLike.data.toList.drop 47 = dktX10_isLike_2 := dk_seg dksX10_isLike_1 24 rfl rfl
theorem dX10_isLike_0 : decode cX10_isLike 0 = .ok (.aload_n 0, 1) := dk_42 (dk_at dksX10_isLike_0 0 rfl rfl)
theorem dX10_isLike_1 : decode cX10_isLike 1 = .ok (.getfield 7, 3) := dk_180 0 7 (dk_at dksX10_isLike_0 1 rfl rfl)
theorem dX10_isLike_4 : decode cX10_isLike 4 = .ok (.aload_n 1, 1) := dk_43 (dk_at dksX10_isLike_0 4 rfl rfl)
theorem dX10_isLike_5 : decode cX10_isLike 5 = .ok (.getfield 7, 3) := dk_180 0 7 (dk_at dksX10_isLike_0 5 rfl rfl)
theorem dX10_isLike_8 : decode cX10_isLike 8 = .ok (.if_acmp .ne 50, 3) := dk_166 0 50 (dk_at dksX10_isLike_0 8 rfl rfl)
theorem dX10_isLike_11 : decode cX10_isLike 11 = .ok (.aload_n 0, 1) := dk_42 (dk_at dksX10_isLike_0 11 rfl rfl)
theorem dX10_isLike_12 : decode cX10_isLike 12 = .ok (.getfield 13, 3) := dk_180 0 13 (dk_at dksX10_isLike_0 12 rfl rfl)
theorem dX10_isLike_15 : decode cX10_isLike 15 = .ok (.aload_n 1, 1) := dk_43 (dk_at dksX10_isLike_0 15 rfl rfl)
theorem dX10_isLike_16 : decode cX10_isLike 16 = .ok (.getfield 13, 3) := dk_180 0 13 (dk_at dksX10_isLike_0 16 rfl rfl)
theorem dX10_isLike_19 : decode cX10_isLike 19 = .ok (.if_icmp .eq 13, 3) := dk_159 0 13 (dk_at dksX10_isLike_0 19 rfl rfl)
theorem dX10_isLike_22 : decode cX10_isLike 22 = .ok (.aload_n 0, 1) := dk_42 (dk_at dksX10_isLike_0 22 rfl rfl)
theorem dX10_isLike_23 : decode cX10_isLike 23 = .ok (.getfield 7, 3) := dk_180 0 7 (dk_at dksX10_isLike_1 0 rfl rfl)
theorem dX10_isLike_26 : decode cX10_isLike 26 = .ok (.getstatic 44, 3) := dk_178 0 44 (dk_at dksX10_isLike_1 3 rfl rfl)
theorem dX10_isLike_29 : decode cX10_isLike 29 = .ok (.if_acmp .ne 29, 3) := dk_166 0 29 (dk_at dksX10_isLike_1 6 rfl rfl)
theorem dX10_isLike_32 : decode cX10_isLike 32 = .ok (.aload_n 0, 1) := dk_42 (dk_at dksX10_isLike_1 9 rfl rfl)
theorem dX10_isLike_33 : decode cX10_isLike 33 = .ok (.getfield 31, 3) := dk_180 0 31 (dk_at dksX10_isLike_1 10 rfl rfl)
theorem dX10_isLike_36 : decode cX10_isLike 36 = .ok (.aload_n 1, 1) := dk_43 (dk_at dksX10_isLike_1 13 rfl rfl)
theorem dX10_isLike_37 : decode cX10_isLike 37 = .ok (.getfield 31, 3) := dk_180 0 31 (dk_at dksX10_isLike_1 14 rfl rfl)
theorem dX10_isLike_40 : decode cX10_isLike 40 = .ok (.if_icmp .ne 18, 3) := dk_160 0 18 (dk_at dksX10_isLike_1 17 rfl rfl)
theorem dX10_isLike_43 : decode cX10_isLike 43 = .ok (.aload_n 0, 1) := dk_42 (dk_at dksX10_isLike_1 20 rfl rfl)
theorem dX10_isLike_44 : decode cX10_isLike 44 = .ok (.getfield 37, 3) := dk_180 0 37 (dk_at dksX10_isLike_1 21 rfl rfl)
theorem dX10_isLike_47 : decode cX10_isLike 47 = .ok (.aload_n 1, 1) := dk_43 (dk_at dksX10_isLike_2 0 rfl rfl)
theorem dX10_isLike_48 : decode cX10_isLike 48 = .ok (.getfield 37, 3) := dk_180 0 37 (dk_at dksX10_isLike_2 1 rfl rfl)
theorem dX10_isLike_51 : decode cX10_isLike 51 = .ok (.if_icmp .ne 7, 3) := dk_160 0 7 (dk_at dksX10_isLike_2 4 rfl rfl)
theorem dX10_isLike_54 : decode cX10_isLike 54 = .ok (.iconst 1, 1) := dk_4 (dk_at dksX10_isLike_2 7 rfl rfl)
theorem dX10_isLike_55 : decode cX10_isLike 55 = .ok (.goto 4, 3) := dk_167 0 4 (dk_at dksX10_isLike_2 8 rfl rfl)
theorem dX10_isLike_58 : decode cX10_isLike 58 = .ok (.iconst 0, 1) := dk_3 (dk_at dksX10_isLike_2 11 rfl rfl)
theorem dX10_isLike_59 : decode cX10_isLike 59 = .ok (.ireturn, 1) := dk_172 (dk_at dksX10_isLike_2 12 rfl rfl)
theorem q90 : (Jvm.Cond.initialized "SwapWhile$Instruction") ∈ lw_all := lw_g (lw_at lw_m1 26 rfl) rfl
theorem q225 : (Jvm.Cond.selects "SwapWhile$Instruction" ({ cls := "java/lang/Object", name := "getClass", desc := "()Ljava/lang/Class;" } : Jvm.MethodName) ({ cls := "java/lang/Object", name := "getClass", desc := "()Ljava/lang/Class;" } : Jvm.MethodName)) ∈ lw_all := lw_g (lw_at lw_m1 161 rfl) rfl
theorem q603 : (Jvm.Cond.instantiable "SwapWhile$Instruction" (4 : Nat)) ∈ lw_all := lw_g (lw_at lw_m3 59 rfl) rfl
theorem q605 : (Jvm.Cond.instanceMethod ({ cls := "SwapWhile$Instruction", name := "<init>", desc := "(LSwapWhile$Code;III)V" } : Jvm.MethodName)) ∈ lw_all := lw_g (lw_at lw_m3 61 rfl) rfl
theorem q606 : (Jvm.Cond.code ({ cls := "SwapWhile$Instruction", name := "<init>", desc := "(LSwapWhile$Code;III)V" } : Jvm.MethodName) prog_10_method_1_code (5 : Nat) (Option.none : Option Jvm.ClassFile.FieldType)) ∈ lw_all := lw_g (lw_at lw_m3 62 rfl) rfl
theorem q607 : (Jvm.Cond.methodLink "SwapWhile$Instruction" (1 : Nat) ({ cls := "java/lang/Object", name := "<init>", desc := "()V" } : Jvm.MethodName)) ∈ lw_all := lw_g (lw_at lw_m3 63 rfl) rfl
theorem q608 : (Jvm.Cond.fieldLink "SwapWhile$Instruction" (23 : Nat) "SwapWhile$Operand" "ANY" "LSwapWhile$Operand;") ∈ lw_all := lw_g (lw_at lw_m3 64 rfl) rfl
theorem q610 : (Jvm.Cond.fieldLink "SwapWhile$Instruction" (28 : Nat) "SwapWhile$Code" "PUT" "LSwapWhile$Code;") ∈ lw_all := lw_g (lw_at lw_m3 66 rfl) rfl
theorem q612 : (Jvm.Cond.fieldLink "SwapWhile$Instruction" (7 : Nat) "SwapWhile$Instruction" "code" "LSwapWhile$Code;") ∈ lw_all := lw_g (lw_at lw_m3 68 rfl) rfl
theorem q615 : (Jvm.Cond.fieldLink "SwapWhile$Instruction" (13 : Nat) "SwapWhile$Instruction" "a" "I") ∈ lw_all := lw_g (lw_at lw_m3 71 rfl) rfl
theorem q617 : (Jvm.Cond.fieldLink "SwapWhile$Instruction" (31 : Nat) "SwapWhile$Instruction" "b" "I") ∈ lw_all := lw_g (lw_at lw_m3 73 rfl) rfl
theorem q622 : (Jvm.Cond.fieldLink "SwapWhile$Instruction" (37 : Nat) "SwapWhile$Instruction" "c" "I") ∈ lw_all := lw_g (lw_at lw_m3 78 rfl) rfl
theorem q624 : (Jvm.Cond.laysFinal "SwapWhile$Instruction" "SwapWhile$Instruction" "code" "LSwapWhile$Code;") ∈ lw_all := lw_g (lw_at lw_m3 80 rfl) rfl
theorem q625 : (Jvm.Cond.soleField "SwapWhile$Instruction" "code") ∈ lw_all := lw_g (lw_at lw_m3 81 rfl) rfl
theorem q626 : (Jvm.Cond.laysFinal "SwapWhile$Instruction" "SwapWhile$Instruction" "a" "I") ∈ lw_all := lw_g (lw_at lw_m3 82 rfl) rfl
theorem q627 : (Jvm.Cond.soleField "SwapWhile$Instruction" "a") ∈ lw_all := lw_g (lw_at lw_m3 83 rfl) rfl
theorem q628 : (Jvm.Cond.laysFinal "SwapWhile$Instruction" "SwapWhile$Instruction" "b" "I") ∈ lw_all := lw_g (lw_at lw_m3 84 rfl) rfl
theorem q629 : (Jvm.Cond.soleField "SwapWhile$Instruction" "b") ∈ lw_all := lw_g (lw_at lw_m3 85 rfl) rfl
theorem q630 : (Jvm.Cond.laysFinal "SwapWhile$Instruction" "SwapWhile$Instruction" "c" "I") ∈ lw_all := lw_g (lw_at lw_m3 86 rfl) rfl
theorem q631 : (Jvm.Cond.soleField "SwapWhile$Instruction" "c") ∈ lw_all := lw_g (lw_at lw_m3 87 rfl) rfl
theorem q632 : (Jvm.Cond.superclass "SwapWhile$Instruction" "java/lang/Object") ∈ lw_all := lw_g (lw_at lw_m3 88 rfl) rfl
theorem q790 : (Jvm.Cond.selects "SwapWhile$Instruction" ({ cls := "java/lang/Object", name := "equals", desc := "(Ljava/lang/Object;)Z" } : Jvm.MethodName) ({ cls := "SwapWhile$Instruction", name := "equals", desc := "(Ljava/lang/Object;)Z" } : Jvm.MethodName)) ∈ lw_all := lw_g (lw_at lw_m4 6 rfl) rfl
theorem q791 : (Jvm.Cond.instanceMethod ({ cls := "SwapWhile$Instruction", name := "equals", desc := "(Ljava/lang/Object;)Z" } : Jvm.MethodName)) ∈ lw_all := lw_g (lw_at lw_m4 7 rfl) rfl
theorem q792 : (Jvm.Cond.code ({ cls := "SwapWhile$Instruction", name := "equals", desc := "(Ljava/lang/Object;)Z" } : Jvm.MethodName) prog_10_method_2_code (2 : Nat) (Option.some Jvm.ClassFile.FieldType.boolean)) ∈ lw_all := lw_g (lw_at lw_m4 8 rfl) rfl
theorem q793 : (Jvm.Cond.classLink "SwapWhile$Instruction" (8 : Nat) "SwapWhile$Instruction") ∈ lw_all := lw_g (lw_at lw_m4 9 rfl) rfl
theorem q794 : (Jvm.Cond.methodLink "SwapWhile$Instruction" (40 : Nat) ({ cls := "SwapWhile$Instruction", name := "isLike", desc := "(LSwapWhile$Instruction;)Z" } : Jvm.MethodName)) ∈ lw_all := lw_g (lw_at lw_m4 10 rfl) rfl
theorem q795 : (Jvm.Cond.privateMethod ({ cls := "SwapWhile$Instruction", name := "isLike", desc := "(LSwapWhile$Instruction;)Z" } : Jvm.MethodName)) ∈ lw_tbl := lw_at lw_m4 11 rfl
theorem q796 : (Jvm.Cond.instanceMethod ({ cls := "SwapWhile$Instruction", name := "isLike", desc := "(LSwapWhile$Instruction;)Z" } : Jvm.MethodName)) ∈ lw_all := lw_g (lw_at lw_m4 12 rfl) rfl
theorem q797 : (Jvm.Cond.code ({ cls := "SwapWhile$Instruction", name := "isLike", desc := "(LSwapWhile$Instruction;)Z" } : Jvm.MethodName) prog_10_method_3_code (2 : Nat) (Option.some Jvm.ClassFile.FieldType.boolean)) ∈ lw_all := lw_g (lw_at lw_m4 13 rfl) rfl
theorem q798 : (Jvm.Cond.fieldLink "SwapWhile$Instruction" (44 : Nat) "SwapWhile$Code" "WAIT" "LSwapWhile$Code;") ∈ lw_all := lw_g (lw_at lw_m4 14 rfl) rfl
theorem q2227 : (Jvm.Cond.castable "SwapWhile$Instruction" "java/lang/Object") ∈ lw_tbl := lw_at lw_m10 3 rfl
theorem q2271 : (Jvm.Cond.fieldLinkNest "SwapWhile$Instruction" (17 : Nat) "SwapWhile$Code" "second" "LSwapWhile$Operand;" "SwapWhile") ∈ lw_tbl := lw_at lw_m10 47 rfl
theorem q2272 : (Jvm.Cond.fieldLinkNest "SwapWhile$Instruction" (34 : Nat) "SwapWhile$Code" "third" "LSwapWhile$Operand;" "SwapWhile") ∈ lw_tbl := lw_at lw_m10 48 rfl
theorem in_X10 : ∀ w ∈ wsX100, w ∈ lw_all := lw_in wsX100 [624, 626, 628, 630] (by decide +kernel) (by decide +kernel)

/-! SwapWhile$Versioned -/
set_option maxRecDepth 100000
def RX12 : String := "SwapWhile$Versioned"
abbrev cX12_init : ByteArray := prog_22_method_1_code
def yX12_init : MethodName := ⟨RX12, "<init>", "(I)V"⟩
def dkwX12_init_0 : List UInt8 := [42, 183, 0, 1, 42, 27, 181, 0, 7, 177]
abbrev dktX12_init_0 : List UInt8 := dkwX12_init_0 ++ []
theorem dksX12_init_0 : cX12_init.data.toList.drop 0 = dktX12_init_0 := by decide +kernel
theorem dX12_init_0 : decode cX12_init 0 = .ok (.aload_n 0, 1) := dk_42 (dk_at dksX12_init_0 0 rfl rfl)
theorem dX12_init_1 : decode cX12_init 1 = .ok (.invokespecial 1, 3) := dk_183 0 1 (dk_at dksX12_init_0 1 rfl rfl)
theorem dX12_init_4 : decode cX12_init 4 = .ok (.aload_n 0, 1) := dk_42 (dk_at dksX12_init_0 4 rfl rfl)
theorem dX12_init_5 : decode cX12_init 5 = .ok (.iload_n 1, 1) := dk_27 (dk_at dksX12_init_0 5 rfl rfl)
theorem dX12_init_6 : decode cX12_init 6 = .ok (.putfield 7, 3) := dk_181 0 7 (dk_at dksX12_init_0 6 rfl rfl)
theorem dX12_init_9 : decode cX12_init 9 = .ok (.return_, 1) := dk_177 (dk_at dksX12_init_0 9 rfl rfl)
abbrev cX12_isOf : ByteArray := prog_22_method_4_code
def yX12_isOf : MethodName := ⟨RX12, "isOf", "(I)Z"⟩
def dkwX12_isOf_0 : List UInt8 := [42, 180, 0, 7, 27, 160, 0, 7, 4, 167, 0, 4, 3, 172]
abbrev dktX12_isOf_0 : List UInt8 := dkwX12_isOf_0 ++ []
theorem dksX12_isOf_0 : cX12_isOf.data.toList.drop 0 = dktX12_isOf_0 := by decide +kernel
theorem dX12_isOf_0 : decode cX12_isOf 0 = .ok (.aload_n 0, 1) := dk_42 (dk_at dksX12_isOf_0 0 rfl rfl)
theorem dX12_isOf_1 : decode cX12_isOf 1 = .ok (.getfield 7, 3) := dk_180 0 7 (dk_at dksX12_isOf_0 1 rfl rfl)
theorem dX12_isOf_4 : decode cX12_isOf 4 = .ok (.iload_n 1, 1) := dk_27 (dk_at dksX12_isOf_0 4 rfl rfl)
theorem dX12_isOf_5 : decode cX12_isOf 5 = .ok (.if_icmp .ne 7, 3) := dk_160 0 7 (dk_at dksX12_isOf_0 5 rfl rfl)
theorem dX12_isOf_8 : decode cX12_isOf 8 = .ok (.iconst 1, 1) := dk_4 (dk_at dksX12_isOf_0 8 rfl rfl)
theorem dX12_isOf_9 : decode cX12_isOf 9 = .ok (.goto 4, 3) := dk_167 0 4 (dk_at dksX12_isOf_0 9 rfl rfl)
theorem dX12_isOf_12 : decode cX12_isOf 12 = .ok (.iconst 0, 1) := dk_3 (dk_at dksX12_isOf_0 12 rfl rfl)
theorem dX12_isOf_13 : decode cX12_isOf 13 = .ok (.ireturn, 1) := dk_172 (dk_at dksX12_isOf_0 13 rfl rfl)
abbrev cX12_moveTo : ByteArray := prog_22_method_3_code
def yX12_moveTo : MethodName := ⟨RX12, "moveTo", "(I)V"⟩
def dkwX12_moveTo_0 : List UInt8 := [42, 27, 181, 0, 7, 177]
abbrev dktX12_moveTo_0 : List UInt8 := dkwX12_moveTo_0 ++ []
theorem dksX12_moveTo_0 : cX12_moveTo.data.toList.drop 0 = dktX12_moveTo_0 := by decide +kernel
theorem dX12_moveTo_0 : decode cX12_moveTo 0 = .ok (.aload_n 0, 1) := dk_42 (dk_at dksX12_moveTo_0 0 rfl rfl)
theorem dX12_moveTo_1 : decode cX12_moveTo 1 = .ok (.iload_n 1, 1) := dk_27 (dk_at dksX12_moveTo_0 1 rfl rfl)
theorem dX12_moveTo_2 : decode cX12_moveTo 2 = .ok (.putfield 7, 3) := dk_181 0 7 (dk_at dksX12_moveTo_0 2 rfl rfl)
theorem dX12_moveTo_5 : decode cX12_moveTo 5 = .ok (.return_, 1) := dk_177 (dk_at dksX12_moveTo_0 5 rfl rfl)
abbrev cX12_version : ByteArray := prog_22_method_2_code
def yX12_version : MethodName := ⟨RX12, "version", "()I"⟩
theorem dX12_version_0 : decode cX12_version 0 = .ok (.aload_n 0, 1) := by decide +kernel
theorem dX12_version_1 : decode cX12_version 1 = .ok (.getfield 7, 3) := by decide +kernel
theorem dX12_version_4 : decode cX12_version 4 = .ok (.ireturn, 1) := by decide +kernel
theorem q98 : (Jvm.Cond.initialized "SwapWhile$Versioned") ∈ lw_all := lw_g (lw_at lw_m1 34 rfl) rfl
theorem q963 : (Jvm.Cond.instanceMethod ({ cls := "SwapWhile$Versioned", name := "<init>", desc := "(I)V" } : Jvm.MethodName)) ∈ lw_all := lw_g (lw_at lw_m4 179 rfl) rfl
theorem q964 : (Jvm.Cond.code ({ cls := "SwapWhile$Versioned", name := "<init>", desc := "(I)V" } : Jvm.MethodName) prog_22_method_1_code (2 : Nat) (Option.none : Option Jvm.ClassFile.FieldType)) ∈ lw_all := lw_g (lw_at lw_m4 180 rfl) rfl
theorem q965 : (Jvm.Cond.methodLink "SwapWhile$Versioned" (1 : Nat) ({ cls := "java/lang/Object", name := "<init>", desc := "()V" } : Jvm.MethodName)) ∈ lw_all := lw_g (lw_at lw_m4 181 rfl) rfl
theorem q974 : (Jvm.Cond.fieldLink "SwapWhile$Versioned" (7 : Nat) "SwapWhile$Versioned" "version" "I") ∈ lw_all := lw_g (lw_at lw_m4 190 rfl) rfl
theorem q984 : (Jvm.Cond.soleField "SwapWhile$Versioned" "version") ∈ lw_all := lw_g (lw_at lw_m4 200 rfl) rfl
theorem q1017 : (Jvm.Cond.declares ({ cls := "SwapWhile$Versioned", name := "isOf", desc := "(I)Z" } : Jvm.MethodName)) ∈ lw_tbl := lw_at lw_m4 233 rfl
theorem q1019 : (Jvm.Cond.instanceMethod ({ cls := "SwapWhile$Versioned", name := "isOf", desc := "(I)Z" } : Jvm.MethodName)) ∈ lw_all := lw_g (lw_at lw_m4 235 rfl) rfl
theorem q1020 : (Jvm.Cond.code ({ cls := "SwapWhile$Versioned", name := "isOf", desc := "(I)Z" } : Jvm.MethodName) prog_22_method_4_code (2 : Nat) (Option.some Jvm.ClassFile.FieldType.boolean)) ∈ lw_all := lw_g (lw_at lw_m4 236 rfl) rfl
theorem q1094 : (Jvm.Cond.instanceMethod ({ cls := "SwapWhile$Versioned", name := "moveTo", desc := "(I)V" } : Jvm.MethodName)) ∈ lw_all := lw_g (lw_at lw_m5 70 rfl) rfl
theorem q1095 : (Jvm.Cond.code ({ cls := "SwapWhile$Versioned", name := "moveTo", desc := "(I)V" } : Jvm.MethodName) prog_22_method_3_code (2 : Nat) (Option.none : Option Jvm.ClassFile.FieldType)) ∈ lw_all := lw_g (lw_at lw_m5 71 rfl) rfl
theorem q1107 : (Jvm.Cond.declares ({ cls := "SwapWhile$Versioned", name := "version", desc := "()I" } : Jvm.MethodName)) ∈ lw_tbl := lw_at lw_m5 83 rfl
theorem q1109 : (Jvm.Cond.instanceMethod ({ cls := "SwapWhile$Versioned", name := "version", desc := "()I" } : Jvm.MethodName)) ∈ lw_all := lw_g (lw_at lw_m5 85 rfl) rfl
theorem q1110 : (Jvm.Cond.code ({ cls := "SwapWhile$Versioned", name := "version", desc := "()I" } : Jvm.MethodName) prog_22_method_2_code (1 : Nat) (Option.some Jvm.ClassFile.FieldType.int)) ∈ lw_all := lw_g (lw_at lw_m5 86 rfl) rfl
theorem q1125 : (Jvm.Cond.declares ({ cls := "SwapWhile$Versioned", name := "moveTo", desc := "(I)V" } : Jvm.MethodName)) ∈ lw_tbl := lw_at lw_m5 101 rfl
theorem q2193 : (Jvm.Cond.sameMethod "SwapWhile$Versioned" "SwapWhile$Versioned" "moveTo" "(I)V") ∈ lw_all := lw_g (lw_at lw_m9 209 rfl) rfl

/-! SwapWhile$Frame -/
set_option maxRecDepth 100000
def RX13 : String := "SwapWhile$Frame"
def TX13 : u_T := fun k => match k with
  | 0 => ("SwapWhile$Versioned", "version", "I", false)
  | 1 => ("SwapWhile$Frame", "function", "I", true)
  | 2 => ("SwapWhile$Frame", "into", "I", true)
  | 3 => ("SwapWhile$Frame", "locals", "[I", true)
  | _ => ("SwapWhile$Frame", "place", "I", false)
def tyX13 : Nat → FieldType := fun k => match k with
  | 0 => .int
  | 1 => .int
  | 2 => .int
  | 3 => .array .int
  | _ => .int
abbrev wsX130 : List Cond := u_ws RX13 TX13 5
theorem nmX13 : ∀ a, a < 5 → ∀ b, b < 5 → a ≠ b → (TX13 a).2.1 ≠ (TX13 b).2.1 := by decide +kernel
theorem tyX13_ok : ∀ k, k < 5 → parseFieldDescriptor (TX13 k).2.2.1 = some (tyX13 k) := by decide +kernel
abbrev cX13_init : ByteArray := prog_8_method_1_code
def yX13_init : MethodName := ⟨RX13, "<init>", "(IIII)V"⟩
def dkwX13_init_1 : List UInt8 := [180, 0, 9, 3, 29, 79, 177]
abbrev dktX13_init_1 : List UInt8 := dkwX13_init_1 ++ []
def dkwX13_init_0 : List UInt8 := [42, 27, 183, 0, 3, 42, 7, 188, 10, 181, 0, 9, 42, 28, 181, 0, 15, 42, 21, 4, 181, 0, 19, 42]
abbrev dktX13_init_0 : List UInt8 := dkwX13_init_0 ++ dktX13_init_1
theorem dksX13_init_0 : cX13_init.data.toList.drop 0 = dktX13_init_0 := by decide +kernel
theorem dksX13_init_1 : cX13_init.data.toList.drop 24 = dktX13_init_1 := dk_seg dksX13_init_0 24 rfl rfl
theorem dX13_init_0 : decode cX13_init 0 = .ok (.aload_n 0, 1) := dk_42 (dk_at dksX13_init_0 0 rfl rfl)
theorem dX13_init_1 : decode cX13_init 1 = .ok (.iload_n 1, 1) := dk_27 (dk_at dksX13_init_0 1 rfl rfl)
theorem dX13_init_2 : decode cX13_init 2 = .ok (.invokespecial 3, 3) := dk_183 0 3 (dk_at dksX13_init_0 2 rfl rfl)
theorem dX13_init_5 : decode cX13_init 5 = .ok (.aload_n 0, 1) := dk_42 (dk_at dksX13_init_0 5 rfl rfl)
theorem dX13_init_6 : decode cX13_init 6 = .ok (.iconst 4, 1) := dk_7 (dk_at dksX13_init_0 6 rfl rfl)
theorem dX13_init_7 : decode cX13_init 7 = .ok (.newarray .int, 2) := dk_188_10 (dk_at dksX13_init_0 7 rfl rfl)
theorem dX13_init_9 : decode cX13_init 9 = .ok (.putfield 9, 3) := dk_181 0 9 (dk_at dksX13_init_0 9 rfl rfl)
theorem dX13_init_12 : decode cX13_init 12 = .ok (.aload_n 0, 1) := dk_42 (dk_at dksX13_init_0 12 rfl rfl)
theorem dX13_init_13 : decode cX13_init 13 = .ok (.iload_n 2, 1) := dk_28 (dk_at dksX13_init_0 13 rfl rfl)
theorem dX13_init_14 : decode cX13_init 14 = .ok (.putfield 15, 3) := dk_181 0 15 (dk_at dksX13_init_0 14 rfl rfl)
theorem dX13_init_17 : decode cX13_init 17 = .ok (.aload_n 0, 1) := dk_42 (dk_at dksX13_init_0 17 rfl rfl)
theorem dX13_init_18 : decode cX13_init 18 = .ok (.iload 4, 2) := dk_21 4 (dk_at dksX13_init_0 18 rfl rfl)
theorem dX13_init_20 : decode cX13_init 20 = .ok (.putfield 19, 3) := dk_181 0 19 (dk_at dksX13_init_0 20 rfl rfl)
theorem dX13_init_23 : decode cX13_init 23 = .ok (.aload_n 0, 1) := dk_42 (dk_at dksX13_init_0 23 rfl rfl)
theorem dX13_init_24 : decode cX13_init 24 = .ok (.getfield 9, 3) := dk_180 0 9 (dk_at dksX13_init_1 0 rfl rfl)
theorem dX13_init_27 : decode cX13_init 27 = .ok (.iconst 0, 1) := dk_3 (dk_at dksX13_init_1 3 rfl rfl)
theorem dX13_init_28 : decode cX13_init 28 = .ok (.iload_n 3, 1) := dk_29 (dk_at dksX13_init_1 4 rfl rfl)
theorem dX13_init_29 : decode cX13_init 29 = .ok (.iastore, 1) := dk_79 (dk_at dksX13_init_1 5 rfl rfl)
theorem dX13_init_30 : decode cX13_init 30 = .ok (.return_, 1) := dk_177 (dk_at dksX13_init_1 6 rfl rfl)
abbrev cX13_moveTo : ByteArray := prog_8_method_3_code
def yX13_moveTo : MethodName := ⟨RX13, "moveTo", "(II)V"⟩
def dkwX13_moveTo_0 : List UInt8 := [42, 27, 182, 0, 25, 42, 28, 181, 0, 26, 177]
abbrev dktX13_moveTo_0 : List UInt8 := dkwX13_moveTo_0 ++ []
theorem dksX13_moveTo_0 : cX13_moveTo.data.toList.drop 0 = dktX13_moveTo_0 := by decide +kernel
theorem dX13_moveTo_0 : decode cX13_moveTo 0 = .ok (.aload_n 0, 1) := dk_42 (dk_at dksX13_moveTo_0 0 rfl rfl)
theorem dX13_moveTo_1 : decode cX13_moveTo 1 = .ok (.iload_n 1, 1) := dk_27 (dk_at dksX13_moveTo_0 1 rfl rfl)
theorem dX13_moveTo_2 : decode cX13_moveTo 2 = .ok (.invokevirtual 25, 3) := dk_182 0 25 (dk_at dksX13_moveTo_0 2 rfl rfl)
theorem dX13_moveTo_5 : decode cX13_moveTo 5 = .ok (.aload_n 0, 1) := dk_42 (dk_at dksX13_moveTo_0 5 rfl rfl)
theorem dX13_moveTo_6 : decode cX13_moveTo 6 = .ok (.iload_n 2, 1) := dk_28 (dk_at dksX13_moveTo_0 6 rfl rfl)
theorem dX13_moveTo_7 : decode cX13_moveTo 7 = .ok (.putfield 26, 3) := dk_181 0 26 (dk_at dksX13_moveTo_0 7 rfl rfl)
theorem dX13_moveTo_10 : decode cX13_moveTo 10 = .ok (.return_, 1) := dk_177 (dk_at dksX13_moveTo_0 10 rfl rfl)
abbrev cX13_moveTo_2 : ByteArray := prog_8_method_2_code
def yX13_moveTo_2 : MethodName := ⟨RX13, "moveTo", "(I)V"⟩
def dkwX13_moveTo_2_0 : List UInt8 := [42, 27, 183, 0, 22, 177]
abbrev dktX13_moveTo_2_0 : List UInt8 := dkwX13_moveTo_2_0 ++ []
theorem dksX13_moveTo_2_0 : cX13_moveTo_2.data.toList.drop 0 = dktX13_moveTo_2_0 := by decide +kernel
theorem dX13_moveTo_2_0 : decode cX13_moveTo_2 0 = .ok (.aload_n 0, 1) := dk_42 (dk_at dksX13_moveTo_2_0 0 rfl rfl)
theorem dX13_moveTo_2_1 : decode cX13_moveTo_2 1 = .ok (.iload_n 1, 1) := dk_27 (dk_at dksX13_moveTo_2_0 1 rfl rfl)
theorem dX13_moveTo_2_2 : decode cX13_moveTo_2 2 = .ok (.invokespecial 22, 3) := dk_183 0 22 (dk_at dksX13_moveTo_2_0 2 rfl rfl)
theorem dX13_moveTo_2_5 : decode cX13_moveTo_2 5 = .ok (.return_, 1) := dk_177 (dk_at dksX13_moveTo_2_0 5 rfl rfl)
theorem q99 : (Jvm.Cond.initialized "SwapWhile$Frame") ∈ lw_all := lw_g (lw_at lw_m1 35 rfl) rfl
theorem q224 : (Jvm.Cond.selects "SwapWhile$Frame" ({ cls := "java/lang/Object", name := "getClass", desc := "()Ljava/lang/Class;" } : Jvm.MethodName) ({ cls := "java/lang/Object", name := "getClass", desc := "()Ljava/lang/Class;" } : Jvm.MethodName)) ∈ lw_all := lw_g (lw_at lw_m1 160 rfl) rfl
theorem q789 : (Jvm.Cond.selects "SwapWhile$Frame" ({ cls := "java/lang/Object", name := "equals", desc := "(Ljava/lang/Object;)Z" } : Jvm.MethodName) ({ cls := "java/lang/Object", name := "equals", desc := "(Ljava/lang/Object;)Z" } : Jvm.MethodName)) ∈ lw_all := lw_g (lw_at lw_m4 5 rfl) rfl
theorem q958 : (Jvm.Cond.instantiable "SwapWhile$Frame" (5 : Nat)) ∈ lw_all := lw_g (lw_at lw_m4 174 rfl) rfl
theorem q960 : (Jvm.Cond.instanceMethod ({ cls := "SwapWhile$Frame", name := "<init>", desc := "(IIII)V" } : Jvm.MethodName)) ∈ lw_all := lw_g (lw_at lw_m4 176 rfl) rfl
theorem q961 : (Jvm.Cond.code ({ cls := "SwapWhile$Frame", name := "<init>", desc := "(IIII)V" } : Jvm.MethodName) prog_8_method_1_code (5 : Nat) (Option.none : Option Jvm.ClassFile.FieldType)) ∈ lw_all := lw_g (lw_at lw_m4 177 rfl) rfl
theorem q962 : (Jvm.Cond.methodLink "SwapWhile$Frame" (3 : Nat) ({ cls := "SwapWhile$Versioned", name := "<init>", desc := "(I)V" } : Jvm.MethodName)) ∈ lw_all := lw_g (lw_at lw_m4 178 rfl) rfl
theorem q966 : (Jvm.Cond.fieldLink "SwapWhile$Frame" (15 : Nat) "SwapWhile$Frame" "function" "I") ∈ lw_all := lw_g (lw_at lw_m4 182 rfl) rfl
theorem q968 : (Jvm.Cond.fieldLink "SwapWhile$Frame" (19 : Nat) "SwapWhile$Frame" "into" "I") ∈ lw_all := lw_g (lw_at lw_m4 184 rfl) rfl
theorem q970 : (Jvm.Cond.fieldLink "SwapWhile$Frame" (9 : Nat) "SwapWhile$Frame" "locals" "[I") ∈ lw_all := lw_g (lw_at lw_m4 186 rfl) rfl
theorem q972 : (Jvm.Cond.fieldLink "SwapWhile$Frame" (26 : Nat) "SwapWhile$Frame" "place" "I") ∈ lw_all := lw_g (lw_at lw_m4 188 rfl) rfl
theorem q975 : (Jvm.Cond.laysFinal "SwapWhile$Frame" "SwapWhile$Frame" "function" "I") ∈ lw_all := lw_g (lw_at lw_m4 191 rfl) rfl
theorem q976 : (Jvm.Cond.soleField "SwapWhile$Frame" "function") ∈ lw_all := lw_g (lw_at lw_m4 192 rfl) rfl
theorem q977 : (Jvm.Cond.laysFinal "SwapWhile$Frame" "SwapWhile$Frame" "into" "I") ∈ lw_all := lw_g (lw_at lw_m4 193 rfl) rfl
theorem q978 : (Jvm.Cond.soleField "SwapWhile$Frame" "into") ∈ lw_all := lw_g (lw_at lw_m4 194 rfl) rfl
theorem q979 : (Jvm.Cond.laysFinal "SwapWhile$Frame" "SwapWhile$Frame" "locals" "[I") ∈ lw_all := lw_g (lw_at lw_m4 195 rfl) rfl
theorem q980 : (Jvm.Cond.soleField "SwapWhile$Frame" "locals") ∈ lw_all := lw_g (lw_at lw_m4 196 rfl) rfl
theorem q981 : (Jvm.Cond.lays "SwapWhile$Frame" "SwapWhile$Frame" "place" "I") ∈ lw_all := lw_g (lw_at lw_m4 197 rfl) rfl
theorem q982 : (Jvm.Cond.soleField "SwapWhile$Frame" "place") ∈ lw_all := lw_g (lw_at lw_m4 198 rfl) rfl
theorem q983 : (Jvm.Cond.lays "SwapWhile$Frame" "SwapWhile$Versioned" "version" "I") ∈ lw_all := lw_g (lw_at lw_m4 199 rfl) rfl
theorem q985 : (Jvm.Cond.superclass "SwapWhile$Frame" "SwapWhile$Versioned") ∈ lw_all := lw_g (lw_at lw_m4 201 rfl) rfl
theorem q1016 : (Jvm.Cond.sameMethod "SwapWhile$Frame" "SwapWhile$Versioned" "isOf" "(I)Z") ∈ lw_all := lw_g (lw_at lw_m4 232 rfl) rfl
theorem q1018 : (Jvm.Cond.selects "SwapWhile$Frame" ({ cls := "SwapWhile$Frame", name := "isOf", desc := "(I)Z" } : Jvm.MethodName) ({ cls := "SwapWhile$Versioned", name := "isOf", desc := "(I)Z" } : Jvm.MethodName)) ∈ lw_all := lw_g (lw_at lw_m4 234 rfl) rfl
theorem q1086 : (Jvm.Cond.instanceMethod ({ cls := "SwapWhile$Frame", name := "moveTo", desc := "(II)V" } : Jvm.MethodName)) ∈ lw_all := lw_g (lw_at lw_m5 62 rfl) rfl
theorem q1087 : (Jvm.Cond.selects "SwapWhile$Frame" ({ cls := "SwapWhile$Frame", name := "moveTo", desc := "(II)V" } : Jvm.MethodName) ({ cls := "SwapWhile$Frame", name := "moveTo", desc := "(II)V" } : Jvm.MethodName)) ∈ lw_all := lw_g (lw_at lw_m5 63 rfl) rfl
theorem q1088 : (Jvm.Cond.code ({ cls := "SwapWhile$Frame", name := "moveTo", desc := "(II)V" } : Jvm.MethodName) prog_8_method_3_code (3 : Nat) (Option.none : Option Jvm.ClassFile.FieldType)) ∈ lw_all := lw_g (lw_at lw_m5 64 rfl) rfl
theorem q1089 : (Jvm.Cond.methodLink "SwapWhile$Frame" (25 : Nat) ({ cls := "SwapWhile$Frame", name := "moveTo", desc := "(I)V" } : Jvm.MethodName)) ∈ lw_all := lw_g (lw_at lw_m5 65 rfl) rfl
theorem q1090 : (Jvm.Cond.instanceMethod ({ cls := "SwapWhile$Frame", name := "moveTo", desc := "(I)V" } : Jvm.MethodName)) ∈ lw_all := lw_g (lw_at lw_m5 66 rfl) rfl
theorem q1091 : (Jvm.Cond.selects "SwapWhile$Frame" ({ cls := "SwapWhile$Frame", name := "moveTo", desc := "(I)V" } : Jvm.MethodName) ({ cls := "SwapWhile$Frame", name := "moveTo", desc := "(I)V" } : Jvm.MethodName)) ∈ lw_all := lw_g (lw_at lw_m5 67 rfl) rfl
theorem q1092 : (Jvm.Cond.code ({ cls := "SwapWhile$Frame", name := "moveTo", desc := "(I)V" } : Jvm.MethodName) prog_8_method_2_code (2 : Nat) (Option.none : Option Jvm.ClassFile.FieldType)) ∈ lw_all := lw_g (lw_at lw_m5 68 rfl) rfl
theorem q1093 : (Jvm.Cond.methodLink "SwapWhile$Frame" (22 : Nat) ({ cls := "SwapWhile$Versioned", name := "moveTo", desc := "(I)V" } : Jvm.MethodName)) ∈ lw_all := lw_g (lw_at lw_m5 69 rfl) rfl
theorem q1148 : (Jvm.Cond.sameMethod "SwapWhile$Frame" "SwapWhile$Versioned" "version" "()I") ∈ lw_all := lw_g (lw_at lw_m5 124 rfl) rfl
theorem q1149 : (Jvm.Cond.selects "SwapWhile$Frame" ({ cls := "SwapWhile$Frame", name := "version", desc := "()I" } : Jvm.MethodName) ({ cls := "SwapWhile$Versioned", name := "version", desc := "()I" } : Jvm.MethodName)) ∈ lw_all := lw_g (lw_at lw_m5 125 rfl) rfl
theorem q2235 : (Jvm.Cond.castable "SwapWhile$Frame" "java/lang/Object") ∈ lw_tbl := lw_at lw_m10 11 rfl
theorem in_X13 : ∀ w ∈ wsX130, w ∈ lw_all := lw_in wsX130 [983, 975, 977, 979, 981] (by decide +kernel) (by decide +kernel)

/-! SwapWhile$Thing -/
set_option maxRecDepth 100000
def RX15 : String := "SwapWhile$Thing"
def TX15 : u_T := fun k => match k with
  | 0 => ("SwapWhile$Versioned", "version", "I", false)
  | 1 => ("SwapWhile$Thing", "kind", "I", true)
  | _ => ("SwapWhile$Thing", "fields", "[I", false)
def tyX15 : Nat → FieldType := fun k => match k with
  | 0 => .int
  | 1 => .int
  | _ => .array .int
abbrev wsX150 : List Cond := u_ws RX15 TX15 3
theorem nmX15 : ∀ a, a < 3 → ∀ b, b < 3 → a ≠ b → (TX15 a).2.1 ≠ (TX15 b).2.1 := by decide +kernel
theorem tyX15_ok : ∀ k, k < 3 → parseFieldDescriptor (TX15 k).2.2.1 = some (tyX15 k) := by decide +kernel
abbrev cX15_carryTo : ByteArray := prog_20_method_4_code
def yX15_carryTo : MethodName := ⟨RX15, "carryTo", "(ILjava/util/List;)V"⟩
def dkwX15_carryTo_0 : List UInt8 := [42, 42, 27, 44, 182, 0, 42, 181, 0, 13, 42, 27, 182, 0, 46, 177]
abbrev dktX15_carryTo_0 : List UInt8 := dkwX15_carryTo_0 ++ []
theorem dksX15_carryTo_0 : cX15_carryTo.data.toList.drop 0 = dktX15_carryTo_0 := by decide +kernel
theorem dX15_carryTo_0 : decode cX15_carryTo 0 = .ok (.aload_n 0, 1) := dk_42 (dk_at dksX15_carryTo_0 0 rfl rfl)
theorem dX15_carryTo_1 : decode cX15_carryTo 1 = .ok (.aload_n 0, 1) := dk_42 (dk_at dksX15_carryTo_0 1 rfl rfl)
theorem dX15_carryTo_2 : decode cX15_carryTo 2 = .ok (.iload_n 1, 1) := dk_27 (dk_at dksX15_carryTo_0 2 rfl rfl)
theorem dX15_carryTo_3 : decode cX15_carryTo 3 = .ok (.aload_n 2, 1) := dk_44 (dk_at dksX15_carryTo_0 3 rfl rfl)
theorem dX15_carryTo_4 : decode cX15_carryTo 4 = .ok (.invokevirtual 42, 3) := dk_182 0 42 (dk_at dksX15_carryTo_0 4 rfl rfl)
theorem dX15_carryTo_7 : decode cX15_carryTo 7 = .ok (.putfield 13, 3) := dk_181 0 13 (dk_at dksX15_carryTo_0 7 rfl rfl)
theorem dX15_carryTo_10 : decode cX15_carryTo 10 = .ok (.aload_n 0, 1) := dk_42 (dk_at dksX15_carryTo_0 10 rfl rfl)
theorem dX15_carryTo_11 : decode cX15_carryTo 11 = .ok (.iload_n 1, 1) := dk_27 (dk_at dksX15_carryTo_0 11 rfl rfl)
theorem dX15_carryTo_12 : decode cX15_carryTo 12 = .ok (.invokevirtual 46, 3) := dk_182 0 46 (dk_at dksX15_carryTo_0 12 rfl rfl)
theorem dX15_carryTo_15 : decode cX15_carryTo 15 = .ok (.return_, 1) := dk_177 (dk_at dksX15_carryTo_0 15 rfl rfl)
abbrev cX15_fieldsIn : ByteArray := prog_20_method_3_code
def yX15_fieldsIn : MethodName := ⟨RX15, "fieldsIn", "(ILjava/util/List;)[I"⟩
def dkwX15_fieldsIn_3 : List UInt8 := [192, 0, 27, 180, 0, 39, 42, 180, 0, 7, 50, 45, 182, 0, 33, 78, 132, 4, 255, 167, 255, 223, 45, 176]
abbrev dktX15_fieldsIn_3 : List UInt8 := dkwX15_fieldsIn_3 ++ []
def dkwX15_fieldsIn_2 : List UInt8 := [167, 255, 221, 42, 182, 0, 17, 54, 4, 21, 4, 27, 164, 0, 33, 44, 21, 4, 185, 0, 21, 2, 0]
abbrev dktX15_fieldsIn_2 : List UInt8 := dkwX15_fieldsIn_2 ++ dktX15_fieldsIn_3
def dkwX15_fieldsIn_1 : List UInt8 := [185, 0, 21, 2, 0, 192, 0, 27, 180, 0, 29, 42, 180, 0, 7, 50, 45, 182, 0, 33, 78, 132, 4, 1]
abbrev dktX15_fieldsIn_1 : List UInt8 := dkwX15_fieldsIn_1 ++ dktX15_fieldsIn_2
def dkwX15_fieldsIn_0 : List UInt8 := [42, 180, 0, 13, 78, 42, 182, 0, 17, 54, 4, 21, 4, 27, 162, 0, 35, 44, 21, 4, 4, 96]
abbrev dktX15_fieldsIn_0 : List UInt8 := dkwX15_fieldsIn_0 ++ dktX15_fieldsIn_1
theorem dksX15_fieldsIn_0 : cX15_fieldsIn.data.toList.drop 0 = dktX15_fieldsIn_0 := by decide +kernel
theorem dksX15_fieldsIn_1 : cX15_fieldsIn.data.toList.drop 22 = dktX15_fieldsIn_1 := dk_seg dksX15_fieldsIn_0 22 rfl rfl
theorem dksX15_fieldsIn_2 : cX15_fieldsIn.data.toList.drop 46 = dktX15_fieldsIn_2 := dk_seg dksX15_fieldsIn_1 24 rfl rfl
theorem dksX15_fieldsIn_3 : cX15_fieldsIn.data.toList.drop 69 = dktX15_fieldsIn_3 := dk_seg dksX15_fieldsIn_2 23 rfl rfl
theorem dX15_fieldsIn_0 : decode cX15_fieldsIn 0 = .ok (.aload_n 0, 1) := dk_42 (dk_at dksX15_fieldsIn_0 0 rfl rfl)
theorem dX15_fieldsIn_1 : decode cX15_fieldsIn 1 = .ok (.getfield 13, 3) := dk_180 0 13 (dk_at dksX15_fieldsIn_0 1 rfl rfl)
theorem dX15_fieldsIn_4 : decode cX15_fieldsIn 4 = .ok (.astore_n 3, 1) := dk_78 (dk_at dksX15_fieldsIn_0 4 rfl rfl)
theorem dX15_fieldsIn_5 : decode cX15_fieldsIn 5 = .ok (.aload_n 0, 1) := dk_42 (dk_at dksX15_fieldsIn_0 5 rfl rfl)
theorem dX15_fieldsIn_6 : decode cX15_fieldsIn 6 = .ok (.invokevirtual 17, 3) := dk_182 0 17 (dk_at dksX15_fieldsIn_0 6 rfl rfl)
theorem dX15_fieldsIn_9 : decode cX15_fieldsIn 9 = .ok (.istore 4, 2) := dk_54 4 (dk_at dksX15_fieldsIn_0 9 rfl rfl)
theorem dX15_fieldsIn_11 : decode cX15_fieldsIn 11 = .ok (.iload 4, 2) := dk_21 4 (dk_at dksX15_fieldsIn_0 11 rfl rfl)
theorem dX15_fieldsIn_13 : decode cX15_fieldsIn 13 = .ok (.iload_n 1, 1) := dk_27 (dk_at dksX15_fieldsIn_0 13 rfl rfl)
theorem dX15_fieldsIn_14 : decode cX15_fieldsIn 14 = .ok (.if_icmp .ge 35, 3) := dk_162 0 35 (dk_at dksX15_fieldsIn_0 14 rfl rfl)
theorem dX15_fieldsIn_17 : decode cX15_fieldsIn 17 = .ok (.aload_n 2, 1) := dk_44 (dk_at dksX15_fieldsIn_0 17 rfl rfl)
theorem dX15_fieldsIn_18 : decode cX15_fieldsIn 18 = .ok (.iload 4, 2) := dk_21 4 (dk_at dksX15_fieldsIn_0 18 rfl rfl)
theorem dX15_fieldsIn_20 : decode cX15_fieldsIn 20 = .ok (.iconst 1, 1) := dk_4 (dk_at dksX15_fieldsIn_0 20 rfl rfl)
theorem dX15_fieldsIn_21 : decode cX15_fieldsIn 21 = .ok (.iadd, 1) := dk_96 (dk_at dksX15_fieldsIn_0 21 rfl rfl)
theorem dX15_fieldsIn_22 : decode cX15_fieldsIn 22 = .ok (.invokeinterface 21 2, 5) := by decide +kernel
theorem dX15_fieldsIn_27 : decode cX15_fieldsIn 27 = .ok (.checkcast 27, 3) := dk_192 0 27 (dk_at dksX15_fieldsIn_1 5 rfl rfl)
theorem dX15_fieldsIn_30 : decode cX15_fieldsIn 30 = .ok (.getfield 29, 3) := dk_180 0 29 (dk_at dksX15_fieldsIn_1 8 rfl rfl)
theorem dX15_fieldsIn_33 : decode cX15_fieldsIn 33 = .ok (.aload_n 0, 1) := dk_42 (dk_at dksX15_fieldsIn_1 11 rfl rfl)
theorem dX15_fieldsIn_34 : decode cX15_fieldsIn 34 = .ok (.getfield 7, 3) := dk_180 0 7 (dk_at dksX15_fieldsIn_1 12 rfl rfl)
theorem dX15_fieldsIn_37 : decode cX15_fieldsIn 37 = .ok (.aaload, 1) := dk_50 (dk_at dksX15_fieldsIn_1 15 rfl rfl)
theorem dX15_fieldsIn_38 : decode cX15_fieldsIn 38 = .ok (.aload_n 3, 1) := dk_45 (dk_at dksX15_fieldsIn_1 16 rfl rfl)
theorem dX15_fieldsIn_39 : decode cX15_fieldsIn 39 = .ok (.invokevirtual 33, 3) := dk_182 0 33 (dk_at dksX15_fieldsIn_1 17 rfl rfl)
theorem dX15_fieldsIn_42 : decode cX15_fieldsIn 42 = .ok (.astore_n 3, 1) := dk_78 (dk_at dksX15_fieldsIn_1 20 rfl rfl)
theorem dX15_fieldsIn_43 : decode cX15_fieldsIn 43 = .ok (.iinc 4 1, 3) := dk_132 4 1 (dk_at dksX15_fieldsIn_1 21 rfl rfl)
theorem dX15_fieldsIn_46 : decode cX15_fieldsIn 46 = .ok (.goto (-35), 3) := dk_167 255 221 (dk_at dksX15_fieldsIn_2 0 rfl rfl)
theorem dX15_fieldsIn_49 : decode cX15_fieldsIn 49 = .ok (.aload_n 0, 1) := dk_42 (dk_at dksX15_fieldsIn_2 3 rfl rfl)
theorem dX15_fieldsIn_50 : decode cX15_fieldsIn 50 = .ok (.invokevirtual 17, 3) := dk_182 0 17 (dk_at dksX15_fieldsIn_2 4 rfl rfl)
theorem dX15_fieldsIn_53 : decode cX15_fieldsIn 53 = .ok (.istore 4, 2) := dk_54 4 (dk_at dksX15_fieldsIn_2 7 rfl rfl)
theorem dX15_fieldsIn_55 : decode cX15_fieldsIn 55 = .ok (.iload 4, 2) := dk_21 4 (dk_at dksX15_fieldsIn_2 9 rfl rfl)
theorem dX15_fieldsIn_57 : decode cX15_fieldsIn 57 = .ok (.iload_n 1, 1) := dk_27 (dk_at dksX15_fieldsIn_2 11 rfl rfl)
theorem dX15_fieldsIn_58 : decode cX15_fieldsIn 58 = .ok (.if_icmp .le 33, 3) := dk_164 0 33 (dk_at dksX15_fieldsIn_2 12 rfl rfl)
theorem dX15_fieldsIn_61 : decode cX15_fieldsIn 61 = .ok (.aload_n 2, 1) := dk_44 (dk_at dksX15_fieldsIn_2 15 rfl rfl)
theorem dX15_fieldsIn_62 : decode cX15_fieldsIn 62 = .ok (.iload 4, 2) := dk_21 4 (dk_at dksX15_fieldsIn_2 16 rfl rfl)
theorem dX15_fieldsIn_64 : decode cX15_fieldsIn 64 = .ok (.invokeinterface 21 2, 5) := by decide +kernel
theorem dX15_fieldsIn_69 : decode cX15_fieldsIn 69 = .ok (.checkcast 27, 3) := dk_192 0 27 (dk_at dksX15_fieldsIn_3 0 rfl rfl)
theorem dX15_fieldsIn_72 : decode cX15_fieldsIn 72 = .ok (.getfield 39, 3) := dk_180 0 39 (dk_at dksX15_fieldsIn_3 3 rfl rfl)
theorem dX15_fieldsIn_75 : decode cX15_fieldsIn 75 = .ok (.aload_n 0, 1) := dk_42 (dk_at dksX15_fieldsIn_3 6 rfl rfl)
theorem dX15_fieldsIn_76 : decode cX15_fieldsIn 76 = .ok (.getfield 7, 3) := dk_180 0 7 (dk_at dksX15_fieldsIn_3 7 rfl rfl)
theorem dX15_fieldsIn_79 : decode cX15_fieldsIn 79 = .ok (.aaload, 1) := dk_50 (dk_at dksX15_fieldsIn_3 10 rfl rfl)
theorem dX15_fieldsIn_80 : decode cX15_fieldsIn 80 = .ok (.aload_n 3, 1) := dk_45 (dk_at dksX15_fieldsIn_3 11 rfl rfl)
theorem dX15_fieldsIn_81 : decode cX15_fieldsIn 81 = .ok (.invokevirtual 33, 3) := dk_182 0 33 (dk_at dksX15_fieldsIn_3 12 rfl rfl)
theorem dX15_fieldsIn_84 : decode cX15_fieldsIn 84 = .ok (.astore_n 3, 1) := dk_78 (dk_at dksX15_fieldsIn_3 15 rfl rfl)
theorem dX15_fieldsIn_85 : decode cX15_fieldsIn 85 = .ok (.iinc 4 (-1), 3) := dk_132 4 255 (dk_at dksX15_fieldsIn_3 16 rfl rfl)
theorem dX15_fieldsIn_88 : decode cX15_fieldsIn 88 = .ok (.goto (-33), 3) := dk_167 255 223 (dk_at dksX15_fieldsIn_3 19 rfl rfl)
theorem dX15_fieldsIn_91 : decode cX15_fieldsIn 91 = .ok (.aload_n 3, 1) := dk_45 (dk_at dksX15_fieldsIn_3 22 rfl rfl)
theorem dX15_fieldsIn_92 : decode cX15_fieldsIn 92 = .ok (.areturn, 1) := dk_176 (dk_at dksX15_fieldsIn_3 23 rfl rfl)
abbrev cX15_init : ByteArray := prog_20_method_1_code
def yX15_init : MethodName := ⟨RX15, "<init>", "(II[I)V"⟩
def dkwX15_init_0 : List UInt8 := [42, 27, 183, 0, 1, 42, 28, 181, 0, 7, 42, 45, 181, 0, 13, 177]
abbrev dktX15_init_0 : List UInt8 := dkwX15_init_0 ++ []
theorem dksX15_init_0 : cX15_init.data.toList.drop 0 = dktX15_init_0 := by decide +kernel
theorem dX15_init_0 : decode cX15_init 0 = .ok (.aload_n 0, 1) := dk_42 (dk_at dksX15_init_0 0 rfl rfl)
theorem dX15_init_1 : decode cX15_init 1 = .ok (.iload_n 1, 1) := dk_27 (dk_at dksX15_init_0 1 rfl rfl)
theorem dX15_init_2 : decode cX15_init 2 = .ok (.invokespecial 1, 3) := dk_183 0 1 (dk_at dksX15_init_0 2 rfl rfl)
theorem dX15_init_5 : decode cX15_init 5 = .ok (.aload_n 0, 1) := dk_42 (dk_at dksX15_init_0 5 rfl rfl)
theorem dX15_init_6 : decode cX15_init 6 = .ok (.iload_n 2, 1) := dk_28 (dk_at dksX15_init_0 6 rfl rfl)
theorem dX15_init_7 : decode cX15_init 7 = .ok (.putfield 7, 3) := dk_181 0 7 (dk_at dksX15_init_0 7 rfl rfl)
theorem dX15_init_10 : decode cX15_init 10 = .ok (.aload_n 0, 1) := dk_42 (dk_at dksX15_init_0 10 rfl rfl)
theorem dX15_init_11 : decode cX15_init 11 = .ok (.aload_n 3, 1) := dk_45 (dk_at dksX15_init_0 11 rfl rfl)
theorem dX15_init_12 : decode cX15_init 12 = .ok (.putfield 13, 3) := dk_181 0 13 (dk_at dksX15_init_0 12 rfl rfl)
theorem dX15_init_15 : decode cX15_init 15 = .ok (.return_, 1) := dk_177 (dk_at dksX15_init_0 15 rfl rfl)
abbrev cX15_kind : ByteArray := prog_20_method_2_code
def yX15_kind : MethodName := ⟨RX15, "kind", "()I"⟩
theorem dX15_kind_0 : decode cX15_kind 0 = .ok (.aload_n 0, 1) := by decide +kernel
theorem dX15_kind_1 : decode cX15_kind 1 = .ok (.getfield 7, 3) := by decide +kernel
theorem dX15_kind_4 : decode cX15_kind 4 = .ok (.ireturn, 1) := by decide +kernel
theorem q101 : (Jvm.Cond.initialized "SwapWhile$Thing") ∈ lw_all := lw_g (lw_at lw_m1 37 rfl) rfl
theorem q234 : (Jvm.Cond.selects "SwapWhile$Thing" ({ cls := "java/lang/Object", name := "getClass", desc := "()Ljava/lang/Class;" } : Jvm.MethodName) ({ cls := "java/lang/Object", name := "getClass", desc := "()Ljava/lang/Class;" } : Jvm.MethodName)) ∈ lw_all := lw_g (lw_at lw_m1 170 rfl) rfl
theorem q277 : (Jvm.Cond.fieldLinkNest "SwapWhile$Thing" (29 : Nat) "SwapWhile$Version" "forward" "[LSwapWhile$Carry;" "SwapWhile") ∈ lw_tbl := lw_at lw_m1 213 rfl
theorem q280 : (Jvm.Cond.fieldLinkNest "SwapWhile$Thing" (39 : Nat) "SwapWhile$Version" "back" "[LSwapWhile$Carry;" "SwapWhile") ∈ lw_tbl := lw_at lw_m1 216 rfl
theorem q808 : (Jvm.Cond.selects "SwapWhile$Thing" ({ cls := "java/lang/Object", name := "equals", desc := "(Ljava/lang/Object;)Z" } : Jvm.MethodName) ({ cls := "java/lang/Object", name := "equals", desc := "(Ljava/lang/Object;)Z" } : Jvm.MethodName)) ∈ lw_all := lw_g (lw_at lw_m4 24 rfl) rfl
theorem q1098 : (Jvm.Cond.instanceMethod ({ cls := "SwapWhile$Thing", name := "carryTo", desc := "(ILjava/util/List;)V" } : Jvm.MethodName)) ∈ lw_all := lw_g (lw_at lw_m5 74 rfl) rfl
theorem q1099 : (Jvm.Cond.selects "SwapWhile$Thing" ({ cls := "SwapWhile$Thing", name := "carryTo", desc := "(ILjava/util/List;)V" } : Jvm.MethodName) ({ cls := "SwapWhile$Thing", name := "carryTo", desc := "(ILjava/util/List;)V" } : Jvm.MethodName)) ∈ lw_all := lw_g (lw_at lw_m5 75 rfl) rfl
theorem q1100 : (Jvm.Cond.code ({ cls := "SwapWhile$Thing", name := "carryTo", desc := "(ILjava/util/List;)V" } : Jvm.MethodName) prog_20_method_4_code (3 : Nat) (Option.none : Option Jvm.ClassFile.FieldType)) ∈ lw_all := lw_g (lw_at lw_m5 76 rfl) rfl
theorem q1101 : (Jvm.Cond.methodLink "SwapWhile$Thing" (42 : Nat) ({ cls := "SwapWhile$Thing", name := "fieldsIn", desc := "(ILjava/util/List;)[I" } : Jvm.MethodName)) ∈ lw_all := lw_g (lw_at lw_m5 77 rfl) rfl
theorem q1102 : (Jvm.Cond.instanceMethod ({ cls := "SwapWhile$Thing", name := "fieldsIn", desc := "(ILjava/util/List;)[I" } : Jvm.MethodName)) ∈ lw_all := lw_g (lw_at lw_m5 78 rfl) rfl
theorem q1103 : (Jvm.Cond.selects "SwapWhile$Thing" ({ cls := "SwapWhile$Thing", name := "fieldsIn", desc := "(ILjava/util/List;)[I" } : Jvm.MethodName) ({ cls := "SwapWhile$Thing", name := "fieldsIn", desc := "(ILjava/util/List;)[I" } : Jvm.MethodName)) ∈ lw_all := lw_g (lw_at lw_m5 79 rfl) rfl
theorem q1104 : (Jvm.Cond.code ({ cls := "SwapWhile$Thing", name := "fieldsIn", desc := "(ILjava/util/List;)[I" } : Jvm.MethodName) prog_20_method_3_code (5 : Nat) (Option.some (Jvm.ClassFile.FieldType.array Jvm.ClassFile.FieldType.int))) ∈ lw_all := lw_g (lw_at lw_m5 80 rfl) rfl
theorem q1105 : (Jvm.Cond.methodLink "SwapWhile$Thing" (17 : Nat) ({ cls := "SwapWhile$Thing", name := "version", desc := "()I" } : Jvm.MethodName)) ∈ lw_all := lw_g (lw_at lw_m5 81 rfl) rfl
theorem q1106 : (Jvm.Cond.sameMethod "SwapWhile$Thing" "SwapWhile$Versioned" "version" "()I") ∈ lw_all := lw_g (lw_at lw_m5 82 rfl) rfl
theorem q1108 : (Jvm.Cond.selects "SwapWhile$Thing" ({ cls := "SwapWhile$Thing", name := "version", desc := "()I" } : Jvm.MethodName) ({ cls := "SwapWhile$Versioned", name := "version", desc := "()I" } : Jvm.MethodName)) ∈ lw_all := lw_g (lw_at lw_m5 84 rfl) rfl
theorem q1111 : (Jvm.Cond.interfaceEntry "SwapWhile$Thing" (21 : Nat)) ∈ lw_tbl := lw_at lw_m5 87 rfl
theorem q1112 : (Jvm.Cond.methodLink "SwapWhile$Thing" (21 : Nat) ({ cls := "java/util/List", name := "get", desc := "(I)Ljava/lang/Object;" } : Jvm.MethodName)) ∈ lw_all := lw_g (lw_at lw_m5 88 rfl) rfl
theorem q1113 : (Jvm.Cond.classLink "SwapWhile$Thing" (27 : Nat) "SwapWhile$Version") ∈ lw_all := lw_g (lw_at lw_m5 89 rfl) rfl
theorem q1114 : (Jvm.Cond.methodLink "SwapWhile$Thing" (33 : Nat) ({ cls := "SwapWhile$Carry", name := "of", desc := "([I)[I" } : Jvm.MethodName)) ∈ lw_all := lw_g (lw_at lw_m5 90 rfl) rfl
theorem q1123 : (Jvm.Cond.methodLink "SwapWhile$Thing" (46 : Nat) ({ cls := "SwapWhile$Thing", name := "moveTo", desc := "(I)V" } : Jvm.MethodName)) ∈ lw_all := lw_g (lw_at lw_m5 99 rfl) rfl
theorem q1124 : (Jvm.Cond.sameMethod "SwapWhile$Thing" "SwapWhile$Versioned" "moveTo" "(I)V") ∈ lw_all := lw_g (lw_at lw_m5 100 rfl) rfl
theorem q1126 : (Jvm.Cond.selects "SwapWhile$Thing" ({ cls := "SwapWhile$Thing", name := "moveTo", desc := "(I)V" } : Jvm.MethodName) ({ cls := "SwapWhile$Versioned", name := "moveTo", desc := "(I)V" } : Jvm.MethodName)) ∈ lw_all := lw_g (lw_at lw_m5 102 rfl) rfl
theorem q1171 : (Jvm.Cond.instantiable "SwapWhile$Thing" (3 : Nat)) ∈ lw_all := lw_g (lw_at lw_m5 147 rfl) rfl
theorem q1173 : (Jvm.Cond.instanceMethod ({ cls := "SwapWhile$Thing", name := "<init>", desc := "(II[I)V" } : Jvm.MethodName)) ∈ lw_all := lw_g (lw_at lw_m5 149 rfl) rfl
theorem q1174 : (Jvm.Cond.code ({ cls := "SwapWhile$Thing", name := "<init>", desc := "(II[I)V" } : Jvm.MethodName) prog_20_method_1_code (4 : Nat) (Option.none : Option Jvm.ClassFile.FieldType)) ∈ lw_all := lw_g (lw_at lw_m5 150 rfl) rfl
theorem q1175 : (Jvm.Cond.methodLink "SwapWhile$Thing" (1 : Nat) ({ cls := "SwapWhile$Versioned", name := "<init>", desc := "(I)V" } : Jvm.MethodName)) ∈ lw_all := lw_g (lw_at lw_m5 151 rfl) rfl
theorem q1176 : (Jvm.Cond.fieldLink "SwapWhile$Thing" (7 : Nat) "SwapWhile$Thing" "kind" "I") ∈ lw_all := lw_g (lw_at lw_m5 152 rfl) rfl
theorem q1177 : (Jvm.Cond.fieldLink "SwapWhile$Thing" (13 : Nat) "SwapWhile$Thing" "fields" "[I") ∈ lw_all := lw_g (lw_at lw_m5 153 rfl) rfl
theorem q1179 : (Jvm.Cond.laysFinal "SwapWhile$Thing" "SwapWhile$Thing" "kind" "I") ∈ lw_all := lw_g (lw_at lw_m5 155 rfl) rfl
theorem q1180 : (Jvm.Cond.soleField "SwapWhile$Thing" "kind") ∈ lw_all := lw_g (lw_at lw_m5 156 rfl) rfl
theorem q1181 : (Jvm.Cond.lays "SwapWhile$Thing" "SwapWhile$Thing" "fields" "[I") ∈ lw_all := lw_g (lw_at lw_m5 157 rfl) rfl
theorem q1182 : (Jvm.Cond.soleField "SwapWhile$Thing" "fields") ∈ lw_all := lw_g (lw_at lw_m5 158 rfl) rfl
theorem q1183 : (Jvm.Cond.lays "SwapWhile$Thing" "SwapWhile$Versioned" "version" "I") ∈ lw_all := lw_g (lw_at lw_m5 159 rfl) rfl
theorem q1184 : (Jvm.Cond.superclass "SwapWhile$Thing" "SwapWhile$Versioned") ∈ lw_all := lw_g (lw_at lw_m5 160 rfl) rfl
theorem q1194 : (Jvm.Cond.instanceMethod ({ cls := "SwapWhile$Thing", name := "kind", desc := "()I" } : Jvm.MethodName)) ∈ lw_all := lw_g (lw_at lw_m5 170 rfl) rfl
theorem q1195 : (Jvm.Cond.selects "SwapWhile$Thing" ({ cls := "SwapWhile$Thing", name := "kind", desc := "()I" } : Jvm.MethodName) ({ cls := "SwapWhile$Thing", name := "kind", desc := "()I" } : Jvm.MethodName)) ∈ lw_all := lw_g (lw_at lw_m5 171 rfl) rfl
theorem q1196 : (Jvm.Cond.code ({ cls := "SwapWhile$Thing", name := "kind", desc := "()I" } : Jvm.MethodName) prog_20_method_2_code (1 : Nat) (Option.some Jvm.ClassFile.FieldType.int)) ∈ lw_all := lw_g (lw_at lw_m5 172 rfl) rfl
theorem q1649 : (Jvm.Cond.sameMethod "SwapWhile$Thing" "SwapWhile$Versioned" "isOf" "(I)Z") ∈ lw_all := lw_g (lw_at lw_m7 145 rfl) rfl
theorem q1650 : (Jvm.Cond.selects "SwapWhile$Thing" ({ cls := "SwapWhile$Thing", name := "isOf", desc := "(I)Z" } : Jvm.MethodName) ({ cls := "SwapWhile$Versioned", name := "isOf", desc := "(I)Z" } : Jvm.MethodName)) ∈ lw_all := lw_g (lw_at lw_m7 146 rfl) rfl
theorem q2237 : (Jvm.Cond.castable "SwapWhile$Thing" "java/lang/Object") ∈ lw_tbl := lw_at lw_m10 13 rfl
theorem in_X15 : ∀ w ∈ wsX150, w ∈ lw_all := lw_in wsX150 [1183, 1179, 1181] (by decide +kernel) (by decide +kernel)

/-! SwapWhile$Change -/
set_option maxRecDepth 100000
def RX16 : String := "SwapWhile$Change"
def TX16 : u_T := fun k => match k with
  | 0 => ("SwapWhile$Change", "mode", "C", true)
  | 1 => ("SwapWhile$Change", "isBack", "Z", true)
  | 2 => ("SwapWhile$Change", "isAtOnce", "Z", true)
  | 3 => ("SwapWhile$Change", "last", "J", true)
  | _ => ("SwapWhile$Change", "state", "C", false)
def tyX16 : Nat → FieldType := fun k => match k with
  | 0 => .char
  | 1 => .boolean
  | 2 => .boolean
  | 3 => .long
  | _ => .char
abbrev wsX160 : List Cond := u_ws RX16 TX16 5
theorem nmX16 : ∀ a, a < 5 → ∀ b, b < 5 → a ≠ b → (TX16 a).2.1 ≠ (TX16 b).2.1 := by decide +kernel
theorem tyX16_ok : ∀ k, k < 5 → parseFieldDescriptor (TX16 k).2.2.1 = some (tyX16 k) := by decide +kernel
abbrev cX16_target : ByteArray := prog_3_method_2_code
def yX16_target : MethodName := ⟨RX16, "target", "(I)I"⟩
def dkwX16_target_0 : List UInt8 := [42, 180, 0, 16, 153, 0, 9, 27, 4, 100, 167, 0, 6, 27, 4, 96, 172]
abbrev dktX16_target_0 : List UInt8 := dkwX16_target_0 ++ []
theorem dksX16_target_0 : cX16_target.data.toList.drop 0 = dktX16_target_0 := by decide +kernel
theorem dX16_target_0 : decode cX16_target 0 = .ok (.aload_n 0, 1) := dk_42 (dk_at dksX16_target_0 0 rfl rfl)
theorem dX16_target_1 : decode cX16_target 1 = .ok (.getfield 16, 3) := dk_180 0 16 (dk_at dksX16_target_0 1 rfl rfl)
theorem dX16_target_4 : decode cX16_target 4 = .ok (.ifCond .eq 9, 3) := dk_153 0 9 (dk_at dksX16_target_0 4 rfl rfl)
theorem dX16_target_7 : decode cX16_target 7 = .ok (.iload_n 1, 1) := dk_27 (dk_at dksX16_target_0 7 rfl rfl)
theorem dX16_target_8 : decode cX16_target 8 = .ok (.iconst 1, 1) := dk_4 (dk_at dksX16_target_0 8 rfl rfl)
theorem dX16_target_9 : decode cX16_target 9 = .ok (.isub, 1) := dk_100 (dk_at dksX16_target_0 9 rfl rfl)
theorem dX16_target_10 : decode cX16_target 10 = .ok (.goto 6, 3) := dk_167 0 6 (dk_at dksX16_target_0 10 rfl rfl)
theorem dX16_target_13 : decode cX16_target 13 = .ok (.iload_n 1, 1) := dk_27 (dk_at dksX16_target_0 13 rfl rfl)
theorem dX16_target_14 : decode cX16_target 14 = .ok (.iconst 1, 1) := dk_4 (dk_at dksX16_target_0 14 rfl rfl)
theorem dX16_target_15 : decode cX16_target 15 = .ok (.iadd, 1) := dk_96 (dk_at dksX16_target_0 15 rfl rfl)
theorem dX16_target_16 : decode cX16_target 16 = .ok (.ireturn, 1) := dk_172 (dk_at dksX16_target_0 16 rfl rfl)
abbrev cX16_init : ByteArray := prog_3_method_1_code
def yX16_init : MethodName := ⟨RX16, "<init>", "(CZZJ)V"⟩
def dkwX16_init_1 : List UInt8 := [181, 0, 20, 42, 22, 4, 181, 0, 23, 177]
abbrev dktX16_init_1 : List UInt8 := dkwX16_init_1 ++ []
def dkwX16_init_0 : List UInt8 := [42, 183, 0, 1, 42, 16, 113, 181, 0, 7, 42, 27, 181, 0, 13, 42, 28, 181, 0, 16, 42, 29]
abbrev dktX16_init_0 : List UInt8 := dkwX16_init_0 ++ dktX16_init_1
theorem dksX16_init_0 : cX16_init.data.toList.drop 0 = dktX16_init_0 := by decide +kernel
theorem dksX16_init_1 : cX16_init.data.toList.drop 22 = dktX16_init_1 := dk_seg dksX16_init_0 22 rfl rfl
theorem dX16_init_0 : decode cX16_init 0 = .ok (.aload_n 0, 1) := dk_42 (dk_at dksX16_init_0 0 rfl rfl)
theorem dX16_init_1 : decode cX16_init 1 = .ok (.invokespecial 1, 3) := dk_183 0 1 (dk_at dksX16_init_0 1 rfl rfl)
theorem dX16_init_4 : decode cX16_init 4 = .ok (.aload_n 0, 1) := dk_42 (dk_at dksX16_init_0 4 rfl rfl)
theorem dX16_init_5 : decode cX16_init 5 = .ok (.bipush 113, 2) := dk_16 113 (dk_at dksX16_init_0 5 rfl rfl)
theorem dX16_init_7 : decode cX16_init 7 = .ok (.putfield 7, 3) := dk_181 0 7 (dk_at dksX16_init_0 7 rfl rfl)
theorem dX16_init_10 : decode cX16_init 10 = .ok (.aload_n 0, 1) := dk_42 (dk_at dksX16_init_0 10 rfl rfl)
theorem dX16_init_11 : decode cX16_init 11 = .ok (.iload_n 1, 1) := dk_27 (dk_at dksX16_init_0 11 rfl rfl)
theorem dX16_init_12 : decode cX16_init 12 = .ok (.putfield 13, 3) := dk_181 0 13 (dk_at dksX16_init_0 12 rfl rfl)
theorem dX16_init_15 : decode cX16_init 15 = .ok (.aload_n 0, 1) := dk_42 (dk_at dksX16_init_0 15 rfl rfl)
theorem dX16_init_16 : decode cX16_init 16 = .ok (.iload_n 2, 1) := dk_28 (dk_at dksX16_init_0 16 rfl rfl)
theorem dX16_init_17 : decode cX16_init 17 = .ok (.putfield 16, 3) := dk_181 0 16 (dk_at dksX16_init_0 17 rfl rfl)
theorem dX16_init_20 : decode cX16_init 20 = .ok (.aload_n 0, 1) := dk_42 (dk_at dksX16_init_0 20 rfl rfl)
theorem dX16_init_21 : decode cX16_init 21 = .ok (.iload_n 3, 1) := dk_29 (dk_at dksX16_init_0 21 rfl rfl)
theorem dX16_init_22 : decode cX16_init 22 = .ok (.putfield 20, 3) := dk_181 0 20 (dk_at dksX16_init_1 0 rfl rfl)
theorem dX16_init_25 : decode cX16_init 25 = .ok (.aload_n 0, 1) := dk_42 (dk_at dksX16_init_1 3 rfl rfl)
theorem dX16_init_26 : decode cX16_init 26 = .ok (.lload 4, 2) := dk_22 4 (dk_at dksX16_init_1 4 rfl rfl)
theorem dX16_init_28 : decode cX16_init 28 = .ok (.putfield 23, 3) := dk_181 0 23 (dk_at dksX16_init_1 6 rfl rfl)
theorem dX16_init_31 : decode cX16_init 31 = .ok (.return_, 1) := dk_177 (dk_at dksX16_init_1 9 rfl rfl)
theorem q102 : (Jvm.Cond.initialized "SwapWhile$Change") ∈ lw_all := lw_g (lw_at lw_m1 38 rfl) rfl
theorem q219 : (Jvm.Cond.selects "SwapWhile$Change" ({ cls := "java/lang/Object", name := "getClass", desc := "()Ljava/lang/Class;" } : Jvm.MethodName) ({ cls := "java/lang/Object", name := "getClass", desc := "()Ljava/lang/Class;" } : Jvm.MethodName)) ∈ lw_all := lw_g (lw_at lw_m1 155 rfl) rfl
theorem q782 : (Jvm.Cond.selects "SwapWhile$Change" ({ cls := "java/lang/Object", name := "equals", desc := "(Ljava/lang/Object;)Z" } : Jvm.MethodName) ({ cls := "java/lang/Object", name := "equals", desc := "(Ljava/lang/Object;)Z" } : Jvm.MethodName)) ∈ lw_all := lw_g (lw_at lw_m3 238 rfl) rfl
theorem q1005 : (Jvm.Cond.instanceMethod ({ cls := "SwapWhile$Change", name := "target", desc := "(I)I" } : Jvm.MethodName)) ∈ lw_all := lw_g (lw_at lw_m4 221 rfl) rfl
theorem q1006 : (Jvm.Cond.selects "SwapWhile$Change" ({ cls := "SwapWhile$Change", name := "target", desc := "(I)I" } : Jvm.MethodName) ({ cls := "SwapWhile$Change", name := "target", desc := "(I)I" } : Jvm.MethodName)) ∈ lw_all := lw_g (lw_at lw_m4 222 rfl) rfl
theorem q1007 : (Jvm.Cond.code ({ cls := "SwapWhile$Change", name := "target", desc := "(I)I" } : Jvm.MethodName) prog_3_method_2_code (2 : Nat) (Option.some Jvm.ClassFile.FieldType.int)) ∈ lw_all := lw_g (lw_at lw_m4 223 rfl) rfl
theorem q1215 : (Jvm.Cond.instantiable "SwapWhile$Change" (5 : Nat)) ∈ lw_all := lw_g (lw_at lw_m5 191 rfl) rfl
theorem q1217 : (Jvm.Cond.instanceMethod ({ cls := "SwapWhile$Change", name := "<init>", desc := "(CZZJ)V" } : Jvm.MethodName)) ∈ lw_all := lw_g (lw_at lw_m5 193 rfl) rfl
theorem q1218 : (Jvm.Cond.code ({ cls := "SwapWhile$Change", name := "<init>", desc := "(CZZJ)V" } : Jvm.MethodName) prog_3_method_1_code (6 : Nat) (Option.none : Option Jvm.ClassFile.FieldType)) ∈ lw_all := lw_g (lw_at lw_m5 194 rfl) rfl
theorem q1219 : (Jvm.Cond.methodLink "SwapWhile$Change" (1 : Nat) ({ cls := "java/lang/Object", name := "<init>", desc := "()V" } : Jvm.MethodName)) ∈ lw_all := lw_g (lw_at lw_m5 195 rfl) rfl
theorem q1220 : (Jvm.Cond.fieldLink "SwapWhile$Change" (13 : Nat) "SwapWhile$Change" "mode" "C") ∈ lw_all := lw_g (lw_at lw_m5 196 rfl) rfl
theorem q1222 : (Jvm.Cond.fieldLink "SwapWhile$Change" (16 : Nat) "SwapWhile$Change" "isBack" "Z") ∈ lw_all := lw_g (lw_at lw_m5 198 rfl) rfl
theorem q1224 : (Jvm.Cond.fieldLink "SwapWhile$Change" (20 : Nat) "SwapWhile$Change" "isAtOnce" "Z") ∈ lw_all := lw_g (lw_at lw_m5 200 rfl) rfl
theorem q1226 : (Jvm.Cond.fieldLink "SwapWhile$Change" (23 : Nat) "SwapWhile$Change" "last" "J") ∈ lw_all := lw_g (lw_at lw_m5 202 rfl) rfl
theorem q1228 : (Jvm.Cond.fieldLink "SwapWhile$Change" (7 : Nat) "SwapWhile$Change" "state" "C") ∈ lw_all := lw_g (lw_at lw_m5 204 rfl) rfl
theorem q1230 : (Jvm.Cond.laysFinal "SwapWhile$Change" "SwapWhile$Change" "mode" "C") ∈ lw_all := lw_g (lw_at lw_m5 206 rfl) rfl
theorem q1231 : (Jvm.Cond.soleField "SwapWhile$Change" "mode") ∈ lw_all := lw_g (lw_at lw_m5 207 rfl) rfl
theorem q1232 : (Jvm.Cond.laysFinal "SwapWhile$Change" "SwapWhile$Change" "isBack" "Z") ∈ lw_all := lw_g (lw_at lw_m5 208 rfl) rfl
theorem q1233 : (Jvm.Cond.soleField "SwapWhile$Change" "isBack") ∈ lw_all := lw_g (lw_at lw_m5 209 rfl) rfl
theorem q1234 : (Jvm.Cond.laysFinal "SwapWhile$Change" "SwapWhile$Change" "isAtOnce" "Z") ∈ lw_all := lw_g (lw_at lw_m5 210 rfl) rfl
theorem q1235 : (Jvm.Cond.soleField "SwapWhile$Change" "isAtOnce") ∈ lw_all := lw_g (lw_at lw_m5 211 rfl) rfl
theorem q1236 : (Jvm.Cond.laysFinal "SwapWhile$Change" "SwapWhile$Change" "last" "J") ∈ lw_all := lw_g (lw_at lw_m5 212 rfl) rfl
theorem q1237 : (Jvm.Cond.soleField "SwapWhile$Change" "last") ∈ lw_all := lw_g (lw_at lw_m5 213 rfl) rfl
theorem q1238 : (Jvm.Cond.lays "SwapWhile$Change" "SwapWhile$Change" "state" "C") ∈ lw_all := lw_g (lw_at lw_m5 214 rfl) rfl
theorem q1239 : (Jvm.Cond.soleField "SwapWhile$Change" "state") ∈ lw_all := lw_g (lw_at lw_m5 215 rfl) rfl
theorem q1240 : (Jvm.Cond.superclass "SwapWhile$Change" "java/lang/Object") ∈ lw_all := lw_g (lw_at lw_m5 216 rfl) rfl
theorem q2239 : (Jvm.Cond.castable "SwapWhile$Change" "java/lang/Object") ∈ lw_tbl := lw_at lw_m10 15 rfl
theorem in_X16 : ∀ w ∈ wsX160, w ∈ lw_all := lw_in wsX160 [1230, 1232, 1234, 1236, 1238] (by decide +kernel) (by decide +kernel)

/-! SwapWhile$Code$1 -/
set_option maxRecDepth 100000
def RX19 : String := "SwapWhile$Code$1"
abbrev cX19_kindOf : ByteArray := prog_5_method_2_code
def yX19_kindOf : MethodName := ⟨RX19, "kindOf", "(LSwapWhile$Instruction;)I"⟩
theorem dX19_kindOf_0 : decode cX19_kindOf 0 = .ok (.aload_n 1, 1) := by decide +kernel
theorem dX19_kindOf_1 : decode cX19_kindOf 1 = .ok (.getfield 7, 3) := by decide +kernel
theorem dX19_kindOf_4 : decode cX19_kindOf 4 = .ok (.ireturn, 1) := by decide +kernel
theorem q221 : (Jvm.Cond.selects "SwapWhile$Code$1" ({ cls := "java/lang/Object", name := "getClass", desc := "()Ljava/lang/Class;" } : Jvm.MethodName) ({ cls := "java/lang/Object", name := "getClass", desc := "()Ljava/lang/Class;" } : Jvm.MethodName)) ∈ lw_all := lw_g (lw_at lw_m1 157 rfl) rfl
theorem q546 : (Jvm.Cond.selects "SwapWhile$Code$1" ({ cls := "SwapWhile$Code", name := "areIn", desc := "(III)Z" } : Jvm.MethodName) ({ cls := "SwapWhile$Code", name := "areIn", desc := "(III)Z" } : Jvm.MethodName)) ∈ lw_all := lw_g (lw_at lw_m3 2 rfl) rfl
theorem q618 : (Jvm.Cond.fieldLinkNest "SwapWhile$Code$1" (7 : Nat) "SwapWhile$Instruction" "b" "I" "SwapWhile") ∈ lw_tbl := lw_at lw_m3 74 rfl
theorem q786 : (Jvm.Cond.selects "SwapWhile$Code$1" ({ cls := "java/lang/Object", name := "equals", desc := "(Ljava/lang/Object;)Z" } : Jvm.MethodName) ({ cls := "java/lang/Enum", name := "equals", desc := "(Ljava/lang/Object;)Z" } : Jvm.MethodName)) ∈ lw_all := lw_g (lw_at lw_m4 2 rfl) rfl
theorem q926 : (Jvm.Cond.selects "SwapWhile$Code$1" ({ cls := "SwapWhile$Code", name := "kindOf", desc := "(LSwapWhile$Instruction;)I" } : Jvm.MethodName) ({ cls := "SwapWhile$Code$1", name := "kindOf", desc := "(LSwapWhile$Instruction;)I" } : Jvm.MethodName)) ∈ lw_all := lw_g (lw_at lw_m4 142 rfl) rfl
theorem q927 : (Jvm.Cond.instanceMethod ({ cls := "SwapWhile$Code$1", name := "kindOf", desc := "(LSwapWhile$Instruction;)I" } : Jvm.MethodName)) ∈ lw_all := lw_g (lw_at lw_m4 143 rfl) rfl
theorem q928 : (Jvm.Cond.code ({ cls := "SwapWhile$Code$1", name := "kindOf", desc := "(LSwapWhile$Instruction;)I" } : Jvm.MethodName) prog_5_method_2_code (2 : Nat) (Option.some Jvm.ClassFile.FieldType.int)) ∈ lw_all := lw_g (lw_at lw_m4 144 rfl) rfl
theorem q1162 : (Jvm.Cond.selects "SwapWhile$Code$1" ({ cls := "SwapWhile$Code", name := "ordinal", desc := "()I" } : Jvm.MethodName) ({ cls := "java/lang/Enum", name := "ordinal", desc := "()I" } : Jvm.MethodName)) ∈ lw_all := lw_g (lw_at lw_m5 138 rfl) rfl
theorem q2223 : (Jvm.Cond.castable "SwapWhile$Code$1" "java/lang/Object") ∈ lw_tbl := lw_at lw_m9 239 rfl
theorem q2251 : (Jvm.Cond.castable "SwapWhile$Code$1" "SwapWhile$Code") ∈ lw_tbl := lw_at lw_m10 27 rfl

/-! SwapWhile$Code$2 -/
set_option maxRecDepth 100000
def RX20 : String := "SwapWhile$Code$2"
abbrev cX20_kindOf : ByteArray := prog_6_method_2_code
def yX20_kindOf : MethodName := ⟨RX20, "kindOf", "(LSwapWhile$Instruction;)I"⟩
def dkwX20_kindOf_0 : List UInt8 := [43, 180, 0, 7, 16, 10, 108, 172]
abbrev dktX20_kindOf_0 : List UInt8 := dkwX20_kindOf_0 ++ []
theorem dksX20_kindOf_0 : cX20_kindOf.data.toList.drop 0 = dktX20_kindOf_0 := by decide +kernel
theorem dX20_kindOf_0 : decode cX20_kindOf 0 = .ok (.aload_n 1, 1) := dk_43 (dk_at dksX20_kindOf_0 0 rfl rfl)
theorem dX20_kindOf_1 : decode cX20_kindOf 1 = .ok (.getfield 7, 3) := dk_180 0 7 (dk_at dksX20_kindOf_0 1 rfl rfl)
theorem dX20_kindOf_4 : decode cX20_kindOf 4 = .ok (.bipush 10, 2) := dk_16 10 (dk_at dksX20_kindOf_0 4 rfl rfl)
theorem dX20_kindOf_6 : decode cX20_kindOf 6 = .ok (.idiv, 1) := dk_108 (dk_at dksX20_kindOf_0 6 rfl rfl)
theorem dX20_kindOf_7 : decode cX20_kindOf 7 = .ok (.ireturn, 1) := dk_172 (dk_at dksX20_kindOf_0 7 rfl rfl)
theorem q222 : (Jvm.Cond.selects "SwapWhile$Code$2" ({ cls := "java/lang/Object", name := "getClass", desc := "()Ljava/lang/Class;" } : Jvm.MethodName) ({ cls := "java/lang/Object", name := "getClass", desc := "()Ljava/lang/Class;" } : Jvm.MethodName)) ∈ lw_all := lw_g (lw_at lw_m1 158 rfl) rfl
theorem q547 : (Jvm.Cond.selects "SwapWhile$Code$2" ({ cls := "SwapWhile$Code", name := "areIn", desc := "(III)Z" } : Jvm.MethodName) ({ cls := "SwapWhile$Code", name := "areIn", desc := "(III)Z" } : Jvm.MethodName)) ∈ lw_all := lw_g (lw_at lw_m3 3 rfl) rfl
theorem q619 : (Jvm.Cond.fieldLinkNest "SwapWhile$Code$2" (7 : Nat) "SwapWhile$Instruction" "b" "I" "SwapWhile") ∈ lw_tbl := lw_at lw_m3 75 rfl
theorem q787 : (Jvm.Cond.selects "SwapWhile$Code$2" ({ cls := "java/lang/Object", name := "equals", desc := "(Ljava/lang/Object;)Z" } : Jvm.MethodName) ({ cls := "java/lang/Enum", name := "equals", desc := "(Ljava/lang/Object;)Z" } : Jvm.MethodName)) ∈ lw_all := lw_g (lw_at lw_m4 3 rfl) rfl
theorem q929 : (Jvm.Cond.selects "SwapWhile$Code$2" ({ cls := "SwapWhile$Code", name := "kindOf", desc := "(LSwapWhile$Instruction;)I" } : Jvm.MethodName) ({ cls := "SwapWhile$Code$2", name := "kindOf", desc := "(LSwapWhile$Instruction;)I" } : Jvm.MethodName)) ∈ lw_all := lw_g (lw_at lw_m4 145 rfl) rfl
theorem q930 : (Jvm.Cond.instanceMethod ({ cls := "SwapWhile$Code$2", name := "kindOf", desc := "(LSwapWhile$Instruction;)I" } : Jvm.MethodName)) ∈ lw_all := lw_g (lw_at lw_m4 146 rfl) rfl
theorem q931 : (Jvm.Cond.code ({ cls := "SwapWhile$Code$2", name := "kindOf", desc := "(LSwapWhile$Instruction;)I" } : Jvm.MethodName) prog_6_method_2_code (2 : Nat) (Option.some Jvm.ClassFile.FieldType.int)) ∈ lw_all := lw_g (lw_at lw_m4 147 rfl) rfl
theorem q1163 : (Jvm.Cond.selects "SwapWhile$Code$2" ({ cls := "SwapWhile$Code", name := "ordinal", desc := "()I" } : Jvm.MethodName) ({ cls := "java/lang/Enum", name := "ordinal", desc := "()I" } : Jvm.MethodName)) ∈ lw_all := lw_g (lw_at lw_m5 139 rfl) rfl
theorem q2224 : (Jvm.Cond.castable "SwapWhile$Code$2" "java/lang/Object") ∈ lw_tbl := lw_at lw_m10 0 rfl
theorem q2252 : (Jvm.Cond.castable "SwapWhile$Code$2" "SwapWhile$Code") ∈ lw_tbl := lw_at lw_m10 28 rfl

/-! SwapWhile$Code$3 -/
set_option maxRecDepth 100000
def RX21 : String := "SwapWhile$Code$3"
abbrev cX21_kindOf : ByteArray := prog_7_method_2_code
def yX21_kindOf : MethodName := ⟨RX21, "kindOf", "(LSwapWhile$Instruction;)I"⟩
def dkwX21_kindOf_0 : List UInt8 := [43, 180, 0, 7, 16, 10, 108, 172]
abbrev dktX21_kindOf_0 : List UInt8 := dkwX21_kindOf_0 ++ []
theorem dksX21_kindOf_0 : cX21_kindOf.data.toList.drop 0 = dktX21_kindOf_0 := by decide +kernel
theorem dX21_kindOf_0 : decode cX21_kindOf 0 = .ok (.aload_n 1, 1) := dk_43 (dk_at dksX21_kindOf_0 0 rfl rfl)
theorem dX21_kindOf_1 : decode cX21_kindOf 1 = .ok (.getfield 7, 3) := dk_180 0 7 (dk_at dksX21_kindOf_0 1 rfl rfl)
theorem dX21_kindOf_4 : decode cX21_kindOf 4 = .ok (.bipush 10, 2) := dk_16 10 (dk_at dksX21_kindOf_0 4 rfl rfl)
theorem dX21_kindOf_6 : decode cX21_kindOf 6 = .ok (.idiv, 1) := dk_108 (dk_at dksX21_kindOf_0 6 rfl rfl)
theorem dX21_kindOf_7 : decode cX21_kindOf 7 = .ok (.ireturn, 1) := dk_172 (dk_at dksX21_kindOf_0 7 rfl rfl)
theorem q223 : (Jvm.Cond.selects "SwapWhile$Code$3" ({ cls := "java/lang/Object", name := "getClass", desc := "()Ljava/lang/Class;" } : Jvm.MethodName) ({ cls := "java/lang/Object", name := "getClass", desc := "()Ljava/lang/Class;" } : Jvm.MethodName)) ∈ lw_all := lw_g (lw_at lw_m1 159 rfl) rfl
theorem q548 : (Jvm.Cond.selects "SwapWhile$Code$3" ({ cls := "SwapWhile$Code", name := "areIn", desc := "(III)Z" } : Jvm.MethodName) ({ cls := "SwapWhile$Code", name := "areIn", desc := "(III)Z" } : Jvm.MethodName)) ∈ lw_all := lw_g (lw_at lw_m3 4 rfl) rfl
theorem q620 : (Jvm.Cond.fieldLinkNest "SwapWhile$Code$3" (7 : Nat) "SwapWhile$Instruction" "b" "I" "SwapWhile") ∈ lw_tbl := lw_at lw_m3 76 rfl
theorem q788 : (Jvm.Cond.selects "SwapWhile$Code$3" ({ cls := "java/lang/Object", name := "equals", desc := "(Ljava/lang/Object;)Z" } : Jvm.MethodName) ({ cls := "java/lang/Enum", name := "equals", desc := "(Ljava/lang/Object;)Z" } : Jvm.MethodName)) ∈ lw_all := lw_g (lw_at lw_m4 4 rfl) rfl
theorem q932 : (Jvm.Cond.selects "SwapWhile$Code$3" ({ cls := "SwapWhile$Code", name := "kindOf", desc := "(LSwapWhile$Instruction;)I" } : Jvm.MethodName) ({ cls := "SwapWhile$Code$3", name := "kindOf", desc := "(LSwapWhile$Instruction;)I" } : Jvm.MethodName)) ∈ lw_all := lw_g (lw_at lw_m4 148 rfl) rfl
theorem q933 : (Jvm.Cond.instanceMethod ({ cls := "SwapWhile$Code$3", name := "kindOf", desc := "(LSwapWhile$Instruction;)I" } : Jvm.MethodName)) ∈ lw_all := lw_g (lw_at lw_m4 149 rfl) rfl
theorem q934 : (Jvm.Cond.code ({ cls := "SwapWhile$Code$3", name := "kindOf", desc := "(LSwapWhile$Instruction;)I" } : Jvm.MethodName) prog_7_method_2_code (2 : Nat) (Option.some Jvm.ClassFile.FieldType.int)) ∈ lw_all := lw_g (lw_at lw_m4 150 rfl) rfl
theorem q1164 : (Jvm.Cond.selects "SwapWhile$Code$3" ({ cls := "SwapWhile$Code", name := "ordinal", desc := "()I" } : Jvm.MethodName) ({ cls := "java/lang/Enum", name := "ordinal", desc := "()I" } : Jvm.MethodName)) ∈ lw_all := lw_g (lw_at lw_m5 140 rfl) rfl
theorem q2225 : (Jvm.Cond.castable "SwapWhile$Code$3" "java/lang/Object") ∈ lw_tbl := lw_at lw_m10 1 rfl
theorem q2253 : (Jvm.Cond.castable "SwapWhile$Code$3" "SwapWhile$Code") ∈ lw_tbl := lw_at lw_m10 29 rfl

/-! SwapWhile$Operand$1 -/
set_option maxRecDepth 100000
def RX22 : String := "SwapWhile$Operand$1"
abbrev cX22_isIn : ByteArray := prog_12_method_2_code
def yX22_isIn : MethodName := ⟨RX22, "isIn", "(I)Z"⟩
def dkwX22_isIn_0 : List UInt8 := [27, 3, 6, 184, 0, 9, 172]
abbrev dktX22_isIn_0 : List UInt8 := dkwX22_isIn_0 ++ []
theorem dksX22_isIn_0 : cX22_isIn.data.toList.drop 0 = dktX22_isIn_0 := by decide +kernel
theorem dX22_isIn_0 : decode cX22_isIn 0 = .ok (.iload_n 1, 1) := dk_27 (dk_at dksX22_isIn_0 0 rfl rfl)
theorem dX22_isIn_1 : decode cX22_isIn 1 = .ok (.iconst 0, 1) := dk_3 (dk_at dksX22_isIn_0 1 rfl rfl)
theorem dX22_isIn_2 : decode cX22_isIn 2 = .ok (.iconst 3, 1) := dk_6 (dk_at dksX22_isIn_0 2 rfl rfl)
theorem dX22_isIn_3 : decode cX22_isIn 3 = .ok (.invokestatic 9, 3) := dk_184 0 9 (dk_at dksX22_isIn_0 3 rfl rfl)
theorem dX22_isIn_6 : decode cX22_isIn 6 = .ok (.ireturn, 1) := dk_172 (dk_at dksX22_isIn_0 6 rfl rfl)
theorem q226 : (Jvm.Cond.selects "SwapWhile$Operand$1" ({ cls := "java/lang/Object", name := "getClass", desc := "()Ljava/lang/Class;" } : Jvm.MethodName) ({ cls := "java/lang/Object", name := "getClass", desc := "()Ljava/lang/Class;" } : Jvm.MethodName)) ∈ lw_all := lw_g (lw_at lw_m1 162 rfl) rfl
theorem q553 : (Jvm.Cond.selects "SwapWhile$Operand$1" ({ cls := "SwapWhile$Operand", name := "isIn", desc := "(I)Z" } : Jvm.MethodName) ({ cls := "SwapWhile$Operand$1", name := "isIn", desc := "(I)Z" } : Jvm.MethodName)) ∈ lw_all := lw_g (lw_at lw_m3 9 rfl) rfl
theorem q554 : (Jvm.Cond.instanceMethod ({ cls := "SwapWhile$Operand$1", name := "isIn", desc := "(I)Z" } : Jvm.MethodName)) ∈ lw_all := lw_g (lw_at lw_m3 10 rfl) rfl
theorem q555 : (Jvm.Cond.code ({ cls := "SwapWhile$Operand$1", name := "isIn", desc := "(I)Z" } : Jvm.MethodName) prog_12_method_2_code (2 : Nat) (Option.some Jvm.ClassFile.FieldType.boolean)) ∈ lw_all := lw_g (lw_at lw_m3 11 rfl) rfl
theorem q556 : (Jvm.Cond.methodLinkNest "SwapWhile$Operand$1" (9 : Nat) ({ cls := "SwapWhile", name := "isIn", desc := "(III)Z" } : Jvm.MethodName) "SwapWhile") ∈ lw_tbl := lw_at lw_m3 12 rfl
theorem q800 : (Jvm.Cond.selects "SwapWhile$Operand$1" ({ cls := "java/lang/Object", name := "equals", desc := "(Ljava/lang/Object;)Z" } : Jvm.MethodName) ({ cls := "java/lang/Enum", name := "equals", desc := "(Ljava/lang/Object;)Z" } : Jvm.MethodName)) ∈ lw_all := lw_g (lw_at lw_m4 16 rfl) rfl
theorem q2229 : (Jvm.Cond.castable "SwapWhile$Operand$1" "java/lang/Object") ∈ lw_tbl := lw_at lw_m10 5 rfl

/-! SwapWhile$Operand$2 -/
set_option maxRecDepth 100000
def RX23 : String := "SwapWhile$Operand$2"
abbrev cX23_isIn : ByteArray := prog_13_method_2_code
def yX23_isIn : MethodName := ⟨RX23, "isIn", "(I)Z"⟩
def dkwX23_isIn_0 : List UInt8 := [27, 3, 16, 10, 184, 0, 9, 172]
abbrev dktX23_isIn_0 : List UInt8 := dkwX23_isIn_0 ++ []
theorem dksX23_isIn_0 : cX23_isIn.data.toList.drop 0 = dktX23_isIn_0 := by decide +kernel
theorem dX23_isIn_0 : decode cX23_isIn 0 = .ok (.iload_n 1, 1) := dk_27 (dk_at dksX23_isIn_0 0 rfl rfl)
theorem dX23_isIn_1 : decode cX23_isIn 1 = .ok (.iconst 0, 1) := dk_3 (dk_at dksX23_isIn_0 1 rfl rfl)
theorem dX23_isIn_2 : decode cX23_isIn 2 = .ok (.bipush 10, 2) := dk_16 10 (dk_at dksX23_isIn_0 2 rfl rfl)
theorem dX23_isIn_4 : decode cX23_isIn 4 = .ok (.invokestatic 9, 3) := dk_184 0 9 (dk_at dksX23_isIn_0 4 rfl rfl)
theorem dX23_isIn_7 : decode cX23_isIn 7 = .ok (.ireturn, 1) := dk_172 (dk_at dksX23_isIn_0 7 rfl rfl)
theorem q227 : (Jvm.Cond.selects "SwapWhile$Operand$2" ({ cls := "java/lang/Object", name := "getClass", desc := "()Ljava/lang/Class;" } : Jvm.MethodName) ({ cls := "java/lang/Object", name := "getClass", desc := "()Ljava/lang/Class;" } : Jvm.MethodName)) ∈ lw_all := lw_g (lw_at lw_m1 163 rfl) rfl
theorem q557 : (Jvm.Cond.selects "SwapWhile$Operand$2" ({ cls := "SwapWhile$Operand", name := "isIn", desc := "(I)Z" } : Jvm.MethodName) ({ cls := "SwapWhile$Operand$2", name := "isIn", desc := "(I)Z" } : Jvm.MethodName)) ∈ lw_all := lw_g (lw_at lw_m3 13 rfl) rfl
theorem q558 : (Jvm.Cond.instanceMethod ({ cls := "SwapWhile$Operand$2", name := "isIn", desc := "(I)Z" } : Jvm.MethodName)) ∈ lw_all := lw_g (lw_at lw_m3 14 rfl) rfl
theorem q559 : (Jvm.Cond.code ({ cls := "SwapWhile$Operand$2", name := "isIn", desc := "(I)Z" } : Jvm.MethodName) prog_13_method_2_code (2 : Nat) (Option.some Jvm.ClassFile.FieldType.boolean)) ∈ lw_all := lw_g (lw_at lw_m3 15 rfl) rfl
theorem q560 : (Jvm.Cond.methodLinkNest "SwapWhile$Operand$2" (9 : Nat) ({ cls := "SwapWhile", name := "isIn", desc := "(III)Z" } : Jvm.MethodName) "SwapWhile") ∈ lw_tbl := lw_at lw_m3 16 rfl
theorem q801 : (Jvm.Cond.selects "SwapWhile$Operand$2" ({ cls := "java/lang/Object", name := "equals", desc := "(Ljava/lang/Object;)Z" } : Jvm.MethodName) ({ cls := "java/lang/Enum", name := "equals", desc := "(Ljava/lang/Object;)Z" } : Jvm.MethodName)) ∈ lw_all := lw_g (lw_at lw_m4 17 rfl) rfl
theorem q2247 : (Jvm.Cond.castable "SwapWhile$Operand$2" "java/lang/Object") ∈ lw_tbl := lw_at lw_m10 23 rfl

/-! SwapWhile$Operand$3 -/
set_option maxRecDepth 100000
def RX24 : String := "SwapWhile$Operand$3"
abbrev cX24_isIn : ByteArray := prog_14_method_2_code
def yX24_isIn : MethodName := ⟨RX24, "isIn", "(I)Z"⟩
def dkwX24_isIn_0 : List UInt8 := [27, 3, 7, 184, 0, 9, 172]
abbrev dktX24_isIn_0 : List UInt8 := dkwX24_isIn_0 ++ []
theorem dksX24_isIn_0 : cX24_isIn.data.toList.drop 0 = dktX24_isIn_0 := by decide +kernel
theorem dX24_isIn_0 : decode cX24_isIn 0 = .ok (.iload_n 1, 1) := dk_27 (dk_at dksX24_isIn_0 0 rfl rfl)
theorem dX24_isIn_1 : decode cX24_isIn 1 = .ok (.iconst 0, 1) := dk_3 (dk_at dksX24_isIn_0 1 rfl rfl)
theorem dX24_isIn_2 : decode cX24_isIn 2 = .ok (.iconst 4, 1) := dk_7 (dk_at dksX24_isIn_0 2 rfl rfl)
theorem dX24_isIn_3 : decode cX24_isIn 3 = .ok (.invokestatic 9, 3) := dk_184 0 9 (dk_at dksX24_isIn_0 3 rfl rfl)
theorem dX24_isIn_6 : decode cX24_isIn 6 = .ok (.ireturn, 1) := dk_172 (dk_at dksX24_isIn_0 6 rfl rfl)
theorem q228 : (Jvm.Cond.selects "SwapWhile$Operand$3" ({ cls := "java/lang/Object", name := "getClass", desc := "()Ljava/lang/Class;" } : Jvm.MethodName) ({ cls := "java/lang/Object", name := "getClass", desc := "()Ljava/lang/Class;" } : Jvm.MethodName)) ∈ lw_all := lw_g (lw_at lw_m1 164 rfl) rfl
theorem q561 : (Jvm.Cond.selects "SwapWhile$Operand$3" ({ cls := "SwapWhile$Operand", name := "isIn", desc := "(I)Z" } : Jvm.MethodName) ({ cls := "SwapWhile$Operand$3", name := "isIn", desc := "(I)Z" } : Jvm.MethodName)) ∈ lw_all := lw_g (lw_at lw_m3 17 rfl) rfl
theorem q562 : (Jvm.Cond.instanceMethod ({ cls := "SwapWhile$Operand$3", name := "isIn", desc := "(I)Z" } : Jvm.MethodName)) ∈ lw_all := lw_g (lw_at lw_m3 18 rfl) rfl
theorem q563 : (Jvm.Cond.code ({ cls := "SwapWhile$Operand$3", name := "isIn", desc := "(I)Z" } : Jvm.MethodName) prog_14_method_2_code (2 : Nat) (Option.some Jvm.ClassFile.FieldType.boolean)) ∈ lw_all := lw_g (lw_at lw_m3 19 rfl) rfl
theorem q564 : (Jvm.Cond.methodLinkNest "SwapWhile$Operand$3" (9 : Nat) ({ cls := "SwapWhile", name := "isIn", desc := "(III)Z" } : Jvm.MethodName) "SwapWhile") ∈ lw_tbl := lw_at lw_m3 20 rfl
theorem q802 : (Jvm.Cond.selects "SwapWhile$Operand$3" ({ cls := "java/lang/Object", name := "equals", desc := "(Ljava/lang/Object;)Z" } : Jvm.MethodName) ({ cls := "java/lang/Enum", name := "equals", desc := "(Ljava/lang/Object;)Z" } : Jvm.MethodName)) ∈ lw_all := lw_g (lw_at lw_m4 18 rfl) rfl
theorem q2248 : (Jvm.Cond.castable "SwapWhile$Operand$3" "java/lang/Object") ∈ lw_tbl := lw_at lw_m10 24 rfl

/-! SwapWhile$Operand$4 -/
set_option maxRecDepth 100000
def RX25 : String := "SwapWhile$Operand$4"
abbrev cX25_isIn : ByteArray := prog_15_method_2_code
def yX25_isIn : MethodName := ⟨RX25, "isIn", "(I)Z"⟩
def dkwX25_isIn_0 : List UInt8 := [27, 3, 6, 184, 0, 9, 172]
abbrev dktX25_isIn_0 : List UInt8 := dkwX25_isIn_0 ++ []
theorem dksX25_isIn_0 : cX25_isIn.data.toList.drop 0 = dktX25_isIn_0 := by decide +kernel
theorem dX25_isIn_0 : decode cX25_isIn 0 = .ok (.iload_n 1, 1) := dk_27 (dk_at dksX25_isIn_0 0 rfl rfl)
theorem dX25_isIn_1 : decode cX25_isIn 1 = .ok (.iconst 0, 1) := dk_3 (dk_at dksX25_isIn_0 1 rfl rfl)
theorem dX25_isIn_2 : decode cX25_isIn 2 = .ok (.iconst 3, 1) := dk_6 (dk_at dksX25_isIn_0 2 rfl rfl)
theorem dX25_isIn_3 : decode cX25_isIn 3 = .ok (.invokestatic 9, 3) := dk_184 0 9 (dk_at dksX25_isIn_0 3 rfl rfl)
theorem dX25_isIn_6 : decode cX25_isIn 6 = .ok (.ireturn, 1) := dk_172 (dk_at dksX25_isIn_0 6 rfl rfl)
theorem q229 : (Jvm.Cond.selects "SwapWhile$Operand$4" ({ cls := "java/lang/Object", name := "getClass", desc := "()Ljava/lang/Class;" } : Jvm.MethodName) ({ cls := "java/lang/Object", name := "getClass", desc := "()Ljava/lang/Class;" } : Jvm.MethodName)) ∈ lw_all := lw_g (lw_at lw_m1 165 rfl) rfl
theorem q565 : (Jvm.Cond.selects "SwapWhile$Operand$4" ({ cls := "SwapWhile$Operand", name := "isIn", desc := "(I)Z" } : Jvm.MethodName) ({ cls := "SwapWhile$Operand$4", name := "isIn", desc := "(I)Z" } : Jvm.MethodName)) ∈ lw_all := lw_g (lw_at lw_m3 21 rfl) rfl
theorem q566 : (Jvm.Cond.instanceMethod ({ cls := "SwapWhile$Operand$4", name := "isIn", desc := "(I)Z" } : Jvm.MethodName)) ∈ lw_all := lw_g (lw_at lw_m3 22 rfl) rfl
theorem q567 : (Jvm.Cond.code ({ cls := "SwapWhile$Operand$4", name := "isIn", desc := "(I)Z" } : Jvm.MethodName) prog_15_method_2_code (2 : Nat) (Option.some Jvm.ClassFile.FieldType.boolean)) ∈ lw_all := lw_g (lw_at lw_m3 23 rfl) rfl
theorem q568 : (Jvm.Cond.methodLinkNest "SwapWhile$Operand$4" (9 : Nat) ({ cls := "SwapWhile", name := "isIn", desc := "(III)Z" } : Jvm.MethodName) "SwapWhile") ∈ lw_tbl := lw_at lw_m3 24 rfl
theorem q803 : (Jvm.Cond.selects "SwapWhile$Operand$4" ({ cls := "java/lang/Object", name := "equals", desc := "(Ljava/lang/Object;)Z" } : Jvm.MethodName) ({ cls := "java/lang/Enum", name := "equals", desc := "(Ljava/lang/Object;)Z" } : Jvm.MethodName)) ∈ lw_all := lw_g (lw_at lw_m4 19 rfl) rfl
theorem q2249 : (Jvm.Cond.castable "SwapWhile$Operand$4" "java/lang/Object") ∈ lw_tbl := lw_at lw_m10 25 rfl

/-! SwapWhile$Operand$5 -/
set_option maxRecDepth 100000
def RX26 : String := "SwapWhile$Operand$5"
abbrev cX26_isIn : ByteArray := prog_16_method_2_code
def yX26_isIn : MethodName := ⟨RX26, "isIn", "(I)Z"⟩
def dkwX26_isIn_0 : List UInt8 := [27, 3, 5, 184, 0, 9, 172]
abbrev dktX26_isIn_0 : List UInt8 := dkwX26_isIn_0 ++ []
theorem dksX26_isIn_0 : cX26_isIn.data.toList.drop 0 = dktX26_isIn_0 := by decide +kernel
theorem dX26_isIn_0 : decode cX26_isIn 0 = .ok (.iload_n 1, 1) := dk_27 (dk_at dksX26_isIn_0 0 rfl rfl)
theorem dX26_isIn_1 : decode cX26_isIn 1 = .ok (.iconst 0, 1) := dk_3 (dk_at dksX26_isIn_0 1 rfl rfl)
theorem dX26_isIn_2 : decode cX26_isIn 2 = .ok (.iconst 2, 1) := dk_5 (dk_at dksX26_isIn_0 2 rfl rfl)
theorem dX26_isIn_3 : decode cX26_isIn 3 = .ok (.invokestatic 9, 3) := dk_184 0 9 (dk_at dksX26_isIn_0 3 rfl rfl)
theorem dX26_isIn_6 : decode cX26_isIn 6 = .ok (.ireturn, 1) := dk_172 (dk_at dksX26_isIn_0 6 rfl rfl)
theorem q230 : (Jvm.Cond.selects "SwapWhile$Operand$5" ({ cls := "java/lang/Object", name := "getClass", desc := "()Ljava/lang/Class;" } : Jvm.MethodName) ({ cls := "java/lang/Object", name := "getClass", desc := "()Ljava/lang/Class;" } : Jvm.MethodName)) ∈ lw_all := lw_g (lw_at lw_m1 166 rfl) rfl
theorem q569 : (Jvm.Cond.selects "SwapWhile$Operand$5" ({ cls := "SwapWhile$Operand", name := "isIn", desc := "(I)Z" } : Jvm.MethodName) ({ cls := "SwapWhile$Operand$5", name := "isIn", desc := "(I)Z" } : Jvm.MethodName)) ∈ lw_all := lw_g (lw_at lw_m3 25 rfl) rfl
theorem q570 : (Jvm.Cond.instanceMethod ({ cls := "SwapWhile$Operand$5", name := "isIn", desc := "(I)Z" } : Jvm.MethodName)) ∈ lw_all := lw_g (lw_at lw_m3 26 rfl) rfl
theorem q571 : (Jvm.Cond.code ({ cls := "SwapWhile$Operand$5", name := "isIn", desc := "(I)Z" } : Jvm.MethodName) prog_16_method_2_code (2 : Nat) (Option.some Jvm.ClassFile.FieldType.boolean)) ∈ lw_all := lw_g (lw_at lw_m3 27 rfl) rfl
theorem q572 : (Jvm.Cond.methodLinkNest "SwapWhile$Operand$5" (9 : Nat) ({ cls := "SwapWhile", name := "isIn", desc := "(III)Z" } : Jvm.MethodName) "SwapWhile") ∈ lw_tbl := lw_at lw_m3 28 rfl
theorem q804 : (Jvm.Cond.selects "SwapWhile$Operand$5" ({ cls := "java/lang/Object", name := "equals", desc := "(Ljava/lang/Object;)Z" } : Jvm.MethodName) ({ cls := "java/lang/Enum", name := "equals", desc := "(Ljava/lang/Object;)Z" } : Jvm.MethodName)) ∈ lw_all := lw_g (lw_at lw_m4 20 rfl) rfl
theorem q2246 : (Jvm.Cond.castable "SwapWhile$Operand$5" "java/lang/Object") ∈ lw_tbl := lw_at lw_m10 22 rfl

/-! SwapWhile$Operand$7 -/
set_option maxRecDepth 100000
def RX27 : String := "SwapWhile$Operand$7"
abbrev cX27_isIn : ByteArray := prog_18_method_2_code
def yX27_isIn : MethodName := ⟨RX27, "isIn", "(I)Z"⟩
theorem dX27_isIn_0 : decode cX27_isIn 0 = .ok (.iconst 1, 1) := by decide +kernel
theorem dX27_isIn_1 : decode cX27_isIn 1 = .ok (.ireturn, 1) := by decide +kernel
theorem q232 : (Jvm.Cond.selects "SwapWhile$Operand$7" ({ cls := "java/lang/Object", name := "getClass", desc := "()Ljava/lang/Class;" } : Jvm.MethodName) ({ cls := "java/lang/Object", name := "getClass", desc := "()Ljava/lang/Class;" } : Jvm.MethodName)) ∈ lw_all := lw_g (lw_at lw_m1 168 rfl) rfl
theorem q580 : (Jvm.Cond.instanceMethod ({ cls := "SwapWhile$Operand$7", name := "isIn", desc := "(I)Z" } : Jvm.MethodName)) ∈ lw_all := lw_g (lw_at lw_m3 36 rfl) rfl
theorem q581 : (Jvm.Cond.code ({ cls := "SwapWhile$Operand$7", name := "isIn", desc := "(I)Z" } : Jvm.MethodName) prog_18_method_2_code (2 : Nat) (Option.some Jvm.ClassFile.FieldType.boolean)) ∈ lw_all := lw_g (lw_at lw_m3 37 rfl) rfl
theorem q582 : (Jvm.Cond.selects "SwapWhile$Operand$7" ({ cls := "SwapWhile$Operand", name := "isIn", desc := "(I)Z" } : Jvm.MethodName) ({ cls := "SwapWhile$Operand$7", name := "isIn", desc := "(I)Z" } : Jvm.MethodName)) ∈ lw_all := lw_g (lw_at lw_m3 38 rfl) rfl
theorem q806 : (Jvm.Cond.selects "SwapWhile$Operand$7" ({ cls := "java/lang/Object", name := "equals", desc := "(Ljava/lang/Object;)Z" } : Jvm.MethodName) ({ cls := "java/lang/Enum", name := "equals", desc := "(Ljava/lang/Object;)Z" } : Jvm.MethodName)) ∈ lw_all := lw_g (lw_at lw_m4 22 rfl) rfl
theorem q2228 : (Jvm.Cond.castable "SwapWhile$Operand$7" "java/lang/Object") ∈ lw_tbl := lw_at lw_m10 4 rfl
