theorem q1036 : (Jvm.Cond.interfaceMethod "SwapWhile$FrameTest" "SwapWhile$FrameTest" "holds" "(LSwapWhile$Frame;)Z") ∈ lw_tbl := lw_at lw_m5 12 rfl
set_option maxRecDepth 100000
theorem q1037 : (Jvm.Cond.declares ({ cls := "SwapWhile$FrameTest", name := "holds", desc := "(LSwapWhile$Frame;)Z" } : Jvm.MethodName)) ∈ lw_tbl := lw_at lw_m5 13 rfl

theorem q87 : (Jvm.Cond.initialized "SwapWhile$Operand") ∈ lw_all := lw_g (lw_at lw_m1 23 rfl) rfl
set_option maxRecDepth 100000
theorem q551 : (Jvm.Cond.declares ({ cls := "SwapWhile$Operand", name := "isIn", desc := "(I)Z" } : Jvm.MethodName)) ∈ lw_tbl := lw_at lw_m3 7 rfl
theorem q552 : (Jvm.Cond.sameMethod "SwapWhile$Operand" "SwapWhile$Operand" "isIn" "(I)Z") ∈ lw_all := lw_g (lw_at lw_m3 8 rfl) rfl
theorem q578 : (Jvm.Cond.laysStatic "SwapWhile$Operand" "KIND" "LSwapWhile$Operand;") ∈ lw_tbl := lw_at lw_m3 34 rfl
theorem q609 : (Jvm.Cond.laysStatic "SwapWhile$Operand" "ANY" "LSwapWhile$Operand;") ∈ lw_tbl := lw_at lw_m3 65 rfl
theorem q2257 : (Jvm.Cond.castable "SwapWhile$Operand" "java/lang/Object") ∈ lw_tbl := lw_at lw_m10 33 rfl
theorem q2283 : (Jvm.Cond.laysStatic "SwapWhile$Operand" "LOCAL" "LSwapWhile$Operand;") ∈ lw_tbl := lw_at lw_m10 59 rfl
theorem q2284 : (Jvm.Cond.laysStatic "SwapWhile$Operand" "FIELD" "LSwapWhile$Operand;") ∈ lw_tbl := lw_at lw_m10 60 rfl
theorem q2285 : (Jvm.Cond.laysStatic "SwapWhile$Operand" "PLACE" "LSwapWhile$Operand;") ∈ lw_tbl := lw_at lw_m10 61 rfl
theorem q2286 : (Jvm.Cond.laysStatic "SwapWhile$Operand" "FUNCTION" "LSwapWhile$Operand;") ∈ lw_tbl := lw_at lw_m10 62 rfl
theorem q2287 : (Jvm.Cond.laysStatic "SwapWhile$Operand" "ENTRY" "LSwapWhile$Operand;") ∈ lw_tbl := lw_at lw_m10 63 rfl

theorem q1315 : (Jvm.Cond.sameMethod "[B" "java/lang/Object" "clone" "()Ljava/lang/Object;") ∈ lw_all := lw_g (lw_at lw_m6 51 rfl) rfl
set_option maxRecDepth 100000
theorem q1316 : (Jvm.Cond.selects "[B" ({ cls := "[B", name := "clone", desc := "()Ljava/lang/Object;" } : Jvm.MethodName) ({ cls := "java/lang/Object", name := "clone", desc := "()Ljava/lang/Object;" } : Jvm.MethodName)) ∈ lw_all := lw_g (lw_at lw_m6 52 rfl) rfl
theorem q1317 : (Jvm.Cond.castable "[B" "java/lang/Cloneable") ∈ lw_tbl := lw_at lw_m6 53 rfl
theorem q2264 : (Jvm.Cond.castable "[B" "java/lang/Object") ∈ lw_tbl := lw_at lw_m10 40 rfl

theorem q2266 : (Jvm.Cond.castable "[D" "java/lang/Object") ∈ lw_tbl := lw_at lw_m10 42 rfl
set_option maxRecDepth 100000

theorem q1119 : (Jvm.Cond.sameMethod "[I" "java/lang/Object" "clone" "()Ljava/lang/Object;") ∈ lw_all := lw_g (lw_at lw_m5 95 rfl) rfl
set_option maxRecDepth 100000
theorem q1120 : (Jvm.Cond.selects "[I" ({ cls := "[I", name := "clone", desc := "()Ljava/lang/Object;" } : Jvm.MethodName) ({ cls := "java/lang/Object", name := "clone", desc := "()Ljava/lang/Object;" } : Jvm.MethodName)) ∈ lw_all := lw_g (lw_at lw_m5 96 rfl) rfl
theorem q1121 : (Jvm.Cond.castable "[I" "java/lang/Cloneable") ∈ lw_tbl := lw_at lw_m5 97 rfl
theorem q2262 : (Jvm.Cond.castable "[I" "java/lang/Object") ∈ lw_tbl := lw_at lw_m10 38 rfl

theorem q2265 : (Jvm.Cond.castable "[J" "java/lang/Object") ∈ lw_tbl := lw_at lw_m10 41 rfl
set_option maxRecDepth 100000

theorem q2259 : (Jvm.Cond.castable "[LSwapWhile$Carry;" "java/lang/Object") ∈ lw_tbl := lw_at lw_m10 35 rfl
set_option maxRecDepth 100000

theorem q535 : (Jvm.Cond.sameMethod "[LSwapWhile$Code;" "java/lang/Object" "clone" "()Ljava/lang/Object;") ∈ lw_all := lw_g (lw_at lw_m2 231 rfl) rfl
set_option maxRecDepth 100000
theorem q538 : (Jvm.Cond.selects "[LSwapWhile$Code;" ({ cls := "[LSwapWhile$Code;", name := "clone", desc := "()Ljava/lang/Object;" } : Jvm.MethodName) ({ cls := "java/lang/Object", name := "clone", desc := "()Ljava/lang/Object;" } : Jvm.MethodName)) ∈ lw_all := lw_g (lw_at lw_m2 234 rfl) rfl
theorem q539 : (Jvm.Cond.castable "[LSwapWhile$Code;" "java/lang/Cloneable") ∈ lw_tbl := lw_at lw_m2 235 rfl
theorem q2263 : (Jvm.Cond.castable "[LSwapWhile$Code;" "java/lang/Object") ∈ lw_tbl := lw_at lw_m10 39 rfl

theorem q2258 : (Jvm.Cond.castable "[LSwapWhile$Strand;" "java/lang/Object") ∈ lw_tbl := lw_at lw_m10 34 rfl
set_option maxRecDepth 100000

theorem q2254 : (Jvm.Cond.sameMethod "[Ljava/lang/Object;" "java/lang/Object" "getClass" "()Ljava/lang/Class;") ∈ lw_all := lw_g (lw_at lw_m10 30 rfl) rfl
set_option maxRecDepth 100000
theorem q2255 : (Jvm.Cond.selects "[Ljava/lang/Object;" ({ cls := "java/lang/Object", name := "getClass", desc := "()Ljava/lang/Class;" } : Jvm.MethodName) ({ cls := "java/lang/Object", name := "getClass", desc := "()Ljava/lang/Class;" } : Jvm.MethodName)) ∈ lw_all := lw_g (lw_at lw_m10 31 rfl) rfl
theorem q2261 : (Jvm.Cond.castable "[Ljava/lang/Object;" "java/lang/Object") ∈ lw_tbl := lw_at lw_m10 37 rfl

theorem q2260 : (Jvm.Cond.castable "[[I" "java/lang/Object") ∈ lw_tbl := lw_at lw_m10 36 rfl
set_option maxRecDepth 100000

theorem q109 : (Jvm.Cond.initialized "java/lang/Integer$IntegerCache") ∈ lw_all := lw_g (lw_at lw_m1 45 rfl) rfl
set_option maxRecDepth 100000
theorem q2026 : (Jvm.Cond.laysStatic "java/lang/Integer$IntegerCache" "high" "I") ∈ lw_tbl := lw_at lw_m9 42 rfl
theorem q2028 : (Jvm.Cond.laysStatic "java/lang/Integer$IntegerCache" "cache" "[Ljava/lang/Integer;") ∈ lw_tbl := lw_at lw_m9 44 rfl

theorem q74 : (Jvm.Cond.initialized "java/lang/System") ∈ lw_all := lw_g (lw_at lw_m1 10 rfl) rfl
set_option maxRecDepth 100000
theorem q265 : (Jvm.Cond.static ({ cls := "java/lang/System", name := "arraycopy", desc := "(Ljava/lang/Object;ILjava/lang/Object;II)V" } : Jvm.MethodName)) ∈ lw_all := lw_g (lw_at lw_m1 201 rfl) rfl
theorem q266 : (Jvm.Cond.native ({ cls := "java/lang/System", name := "arraycopy", desc := "(Ljava/lang/Object;ILjava/lang/Object;II)V" } : Jvm.MethodName)) ∈ lw_all := lw_g (lw_at lw_m1 202 rfl) rfl

theorem q336 : (Jvm.Cond.interfaceMethod "java/util/Collection" "java/util/Collection" "toArray" "()[Ljava/lang/Object;") ∈ lw_tbl := lw_at lw_m2 32 rfl
set_option maxRecDepth 100000
theorem q337 : (Jvm.Cond.declares ({ cls := "java/util/Collection", name := "toArray", desc := "()[Ljava/lang/Object;" } : Jvm.MethodName)) ∈ lw_tbl := lw_at lw_m2 33 rfl

theorem q879 : (Jvm.Cond.interfaceMethod "java/util/Iterator" "java/util/Iterator" "hasNext" "()Z") ∈ lw_tbl := lw_at lw_m4 95 rfl
set_option maxRecDepth 100000
theorem q880 : (Jvm.Cond.declares ({ cls := "java/util/Iterator", name := "hasNext", desc := "()Z" } : Jvm.MethodName)) ∈ lw_tbl := lw_at lw_m4 96 rfl
theorem q889 : (Jvm.Cond.interfaceMethod "java/util/Iterator" "java/util/Iterator" "next" "()Ljava/lang/Object;") ∈ lw_tbl := lw_at lw_m4 105 rfl
theorem q890 : (Jvm.Cond.declares ({ cls := "java/util/Iterator", name := "next", desc := "()Ljava/lang/Object;" } : Jvm.MethodName)) ∈ lw_tbl := lw_at lw_m4 106 rfl

theorem q181 : (Jvm.Cond.interfaceMethod "java/util/List" "java/util/List" "add" "(Ljava/lang/Object;)Z") ∈ lw_tbl := lw_at lw_m1 117 rfl
set_option maxRecDepth 100000
theorem q182 : (Jvm.Cond.declares ({ cls := "java/util/List", name := "add", desc := "(Ljava/lang/Object;)Z" } : Jvm.MethodName)) ∈ lw_tbl := lw_at lw_m1 118 rfl
theorem q300 : (Jvm.Cond.interfaceMethod "java/util/List" "java/util/List" "get" "(I)Ljava/lang/Object;") ∈ lw_tbl := lw_at lw_m1 236 rfl
theorem q301 : (Jvm.Cond.declares ({ cls := "java/util/List", name := "get", desc := "(I)Ljava/lang/Object;" } : Jvm.MethodName)) ∈ lw_tbl := lw_at lw_m1 237 rfl
theorem q327 : (Jvm.Cond.interfaceMethod "java/util/List" "java/util/List" "addAll" "(Ljava/util/Collection;)Z") ∈ lw_tbl := lw_at lw_m2 23 rfl
theorem q328 : (Jvm.Cond.declares ({ cls := "java/util/List", name := "addAll", desc := "(Ljava/util/Collection;)Z" } : Jvm.MethodName)) ∈ lw_tbl := lw_at lw_m2 24 rfl
theorem q406 : (Jvm.Cond.interfaceMethod "java/util/List" "java/util/List" "size" "()I") ∈ lw_tbl := lw_at lw_m2 102 rfl
theorem q407 : (Jvm.Cond.declares ({ cls := "java/util/List", name := "size", desc := "()I" } : Jvm.MethodName)) ∈ lw_tbl := lw_at lw_m2 103 rfl
theorem q642 : (Jvm.Cond.interfaceMethod "java/util/List" "java/util/List" "clear" "()V") ∈ lw_tbl := lw_at lw_m3 98 rfl
theorem q643 : (Jvm.Cond.declares ({ cls := "java/util/List", name := "clear", desc := "()V" } : Jvm.MethodName)) ∈ lw_tbl := lw_at lw_m3 99 rfl
theorem q759 : (Jvm.Cond.interfaceMethod "java/util/List" "java/util/List" "equals" "(Ljava/lang/Object;)Z") ∈ lw_tbl := lw_at lw_m3 215 rfl
theorem q760 : (Jvm.Cond.declares ({ cls := "java/util/List", name := "equals", desc := "(Ljava/lang/Object;)Z" } : Jvm.MethodName)) ∈ lw_tbl := lw_at lw_m3 216 rfl
theorem q851 : (Jvm.Cond.interfaceMethod "java/util/List" "java/util/List" "iterator" "()Ljava/util/Iterator;") ∈ lw_tbl := lw_at lw_m4 67 rfl
theorem q852 : (Jvm.Cond.declares ({ cls := "java/util/List", name := "iterator", desc := "()Ljava/util/Iterator;" } : Jvm.MethodName)) ∈ lw_tbl := lw_at lw_m4 68 rfl
theorem q992 : (Jvm.Cond.interfaceMethod "java/util/List" "java/util/List" "isEmpty" "()Z") ∈ lw_tbl := lw_at lw_m4 208 rfl
theorem q993 : (Jvm.Cond.declares ({ cls := "java/util/List", name := "isEmpty", desc := "()Z" } : Jvm.MethodName)) ∈ lw_tbl := lw_at lw_m4 209 rfl
theorem q1062 : (Jvm.Cond.interfaceMethod "java/util/List" "java/util/List" "remove" "(I)Ljava/lang/Object;") ∈ lw_tbl := lw_at lw_m5 38 rfl
theorem q1063 : (Jvm.Cond.declares ({ cls := "java/util/List", name := "remove", desc := "(I)Ljava/lang/Object;" } : Jvm.MethodName)) ∈ lw_tbl := lw_at lw_m5 39 rfl
theorem q1243 : (Jvm.Cond.interfaceMethod "java/util/List" "java/util/List" "add" "(ILjava/lang/Object;)V") ∈ lw_tbl := lw_at lw_m5 219 rfl
theorem q1244 : (Jvm.Cond.declares ({ cls := "java/util/List", name := "add", desc := "(ILjava/lang/Object;)V" } : Jvm.MethodName)) ∈ lw_tbl := lw_at lw_m5 220 rfl
theorem q1537 : (Jvm.Cond.interfaceMethod "java/util/List" "java/util/List" "indexOf" "(Ljava/lang/Object;)I") ∈ lw_tbl := lw_at lw_m7 33 rfl
theorem q1538 : (Jvm.Cond.declares ({ cls := "java/util/List", name := "indexOf", desc := "(Ljava/lang/Object;)I" } : Jvm.MethodName)) ∈ lw_tbl := lw_at lw_m7 34 rfl

theorem q150 : (Jvm.Cond.arrayOver (Jvm.ClassFile.FieldType.object "SwapWhile$Strand")) ∈ lw_tbl := lw_at lw_m1 86 rfl
set_option maxRecDepth 100000
theorem q176 : (Jvm.Cond.arrayOver (Jvm.ClassFile.FieldType.object "SwapWhile$Carry")) ∈ lw_tbl := lw_at lw_m1 112 rfl
theorem q178 : (Jvm.Cond.arrayOver (Jvm.ClassFile.FieldType.array Jvm.ClassFile.FieldType.int)) ∈ lw_tbl := lw_at lw_m1 114 rfl
theorem q259 : (Jvm.Cond.arrayOver (Jvm.ClassFile.FieldType.object "java/lang/Object")) ∈ lw_tbl := lw_at lw_m1 195 rfl
theorem q295 : (Jvm.Cond.arrayClass Jvm.ClassFile.FieldType.int) ∈ lw_all := lw_g (lw_at lw_m1 231 rfl) rfl
theorem q540 : (Jvm.Cond.arrayOver (Jvm.ClassFile.FieldType.object "SwapWhile$Code")) ∈ lw_tbl := lw_at lw_m2 236 rfl
theorem q726 : (Jvm.Cond.arrayClass Jvm.ClassFile.FieldType.byte) ∈ lw_all := lw_g (lw_at lw_m3 182 rfl) rfl
theorem q2190 : (Jvm.Cond.arrayClass Jvm.ClassFile.FieldType.long) ∈ lw_all := lw_g (lw_at lw_m9 206 rfl) rfl
theorem q2191 : (Jvm.Cond.arrayClass Jvm.ClassFile.FieldType.double) ∈ lw_all := lw_g (lw_at lw_m9 207 rfl) rfl

/-! java/util/AbstractCollection -/
set_option maxRecDepth 100000
def RJ0 : String := "java/util/AbstractCollection"
abbrev cJ0_init : ByteArray := prog_58_method_1_code
def yJ0_init : MethodName := ⟨RJ0, "<init>", "()V"⟩
theorem dJ0_init_0 : decode cJ0_init 0 = .ok (.aload_n 0, 1) := by decide +kernel
theorem dJ0_init_1 : decode cJ0_init 1 = .ok (.invokespecial 1, 3) := by decide +kernel
theorem dJ0_init_4 : decode cJ0_init 4 = .ok (.return_, 1) := by decide +kernel
theorem q66 : (Jvm.Cond.initialized "java/util/AbstractCollection") ∈ lw_all := lw_g (lw_at lw_m1 2 rfl) rfl
theorem q129 : (Jvm.Cond.instanceMethod ({ cls := "java/util/AbstractCollection", name := "<init>", desc := "()V" } : Jvm.MethodName)) ∈ lw_all := lw_g (lw_at lw_m1 65 rfl) rfl
theorem q130 : (Jvm.Cond.code ({ cls := "java/util/AbstractCollection", name := "<init>", desc := "()V" } : Jvm.MethodName) prog_58_method_1_code (1 : Nat) (Option.none : Option Jvm.ClassFile.FieldType)) ∈ lw_all := lw_g (lw_at lw_m1 66 rfl) rfl
theorem q131 : (Jvm.Cond.methodLink "java/util/AbstractCollection" (1 : Nat) ({ cls := "java/lang/Object", name := "<init>", desc := "()V" } : Jvm.MethodName)) ∈ lw_all := lw_g (lw_at lw_m1 67 rfl) rfl

/-! java/util/AbstractList -/
set_option maxRecDepth 100000
def RJ1 : String := "java/util/AbstractList"
abbrev cJ1_init : ByteArray := prog_59_method_1_code
def yJ1_init : MethodName := ⟨RJ1, "<init>", "()V"⟩
def dkwJ1_init_0 : List UInt8 := [42, 183, 0, 1, 42, 3, 181, 0, 7, 177]
abbrev dktJ1_init_0 : List UInt8 := dkwJ1_init_0 ++ []
theorem dksJ1_init_0 : cJ1_init.data.toList.drop 0 = dktJ1_init_0 := by decide +kernel
theorem dJ1_init_0 : decode cJ1_init 0 = .ok (.aload_n 0, 1) := dk_42 (dk_at dksJ1_init_0 0 rfl rfl)
theorem dJ1_init_1 : decode cJ1_init 1 = .ok (.invokespecial 1, 3) := dk_183 0 1 (dk_at dksJ1_init_0 1 rfl rfl)
theorem dJ1_init_4 : decode cJ1_init 4 = .ok (.aload_n 0, 1) := dk_42 (dk_at dksJ1_init_0 4 rfl rfl)
theorem dJ1_init_5 : decode cJ1_init 5 = .ok (.iconst 0, 1) := dk_3 (dk_at dksJ1_init_0 5 rfl rfl)
theorem dJ1_init_6 : decode cJ1_init 6 = .ok (.putfield 7, 3) := dk_181 0 7 (dk_at dksJ1_init_0 6 rfl rfl)
theorem dJ1_init_9 : decode cJ1_init 9 = .ok (.return_, 1) := dk_177 (dk_at dksJ1_init_0 9 rfl rfl)
theorem q67 : (Jvm.Cond.initialized "java/util/AbstractList") ∈ lw_all := lw_g (lw_at lw_m1 3 rfl) rfl
theorem q126 : (Jvm.Cond.instanceMethod ({ cls := "java/util/AbstractList", name := "<init>", desc := "()V" } : Jvm.MethodName)) ∈ lw_all := lw_g (lw_at lw_m1 62 rfl) rfl
theorem q127 : (Jvm.Cond.code ({ cls := "java/util/AbstractList", name := "<init>", desc := "()V" } : Jvm.MethodName) prog_59_method_1_code (1 : Nat) (Option.none : Option Jvm.ClassFile.FieldType)) ∈ lw_all := lw_g (lw_at lw_m1 63 rfl) rfl
theorem q128 : (Jvm.Cond.methodLink "java/util/AbstractList" (1 : Nat) ({ cls := "java/util/AbstractCollection", name := "<init>", desc := "()V" } : Jvm.MethodName)) ∈ lw_all := lw_g (lw_at lw_m1 64 rfl) rfl
theorem q138 : (Jvm.Cond.fieldLink "java/util/AbstractList" (7 : Nat) "java/util/AbstractList" "modCount" "I") ∈ lw_all := lw_g (lw_at lw_m1 74 rfl) rfl
theorem q147 : (Jvm.Cond.soleField "java/util/AbstractList" "modCount") ∈ lw_all := lw_g (lw_at lw_m1 83 rfl) rfl

/-! java/util/ArrayList -/
set_option maxRecDepth 100000
def RJ2 : String := "java/util/ArrayList"
def TJ2 : u_T := fun k => match k with
  | 0 => ("java/util/AbstractList", "modCount", "I", false)
  | 1 => ("java/util/ArrayList", "elementData", "[Ljava/lang/Object;", false)
  | _ => ("java/util/ArrayList", "size", "I", false)
def tyJ2 : Nat → FieldType := fun k => match k with
  | 0 => .int
  | 1 => .array (.object "java/lang/Object")
  | _ => .int
abbrev wsJ20 : List Cond := u_ws RJ2 TJ2 3
theorem nmJ2 : ∀ a, a < 3 → ∀ b, b < 3 → a ≠ b → (TJ2 a).2.1 ≠ (TJ2 b).2.1 := by decide +kernel
theorem tyJ2_ok : ∀ k, k < 3 → parseFieldDescriptor (TJ2 k).2.2.1 = some (tyJ2 k) := by decide +kernel
abbrev cJ2_init : ByteArray := prog_60_method_2_code
def yJ2_init : MethodName := ⟨RJ2, "<init>", "()V"⟩
def dkwJ2_init_0 : List UInt8 := [42, 183, 0, 1, 42, 178, 0, 39, 181, 0, 9, 177]
abbrev dktJ2_init_0 : List UInt8 := dkwJ2_init_0 ++ []
theorem dksJ2_init_0 : cJ2_init.data.toList.drop 0 = dktJ2_init_0 := by decide +kernel
theorem dJ2_init_0 : decode cJ2_init 0 = .ok (.aload_n 0, 1) := dk_42 (dk_at dksJ2_init_0 0 rfl rfl)
theorem dJ2_init_1 : decode cJ2_init 1 = .ok (.invokespecial 1, 3) := dk_183 0 1 (dk_at dksJ2_init_0 1 rfl rfl)
theorem dJ2_init_4 : decode cJ2_init 4 = .ok (.aload_n 0, 1) := dk_42 (dk_at dksJ2_init_0 4 rfl rfl)
theorem dJ2_init_5 : decode cJ2_init 5 = .ok (.getstatic 39, 3) := dk_178 0 39 (dk_at dksJ2_init_0 5 rfl rfl)
theorem dJ2_init_8 : decode cJ2_init 8 = .ok (.putfield 9, 3) := dk_181 0 9 (dk_at dksJ2_init_0 8 rfl rfl)
theorem dJ2_init_11 : decode cJ2_init 11 = .ok (.return_, 1) := dk_177 (dk_at dksJ2_init_0 11 rfl rfl)
abbrev cJ2_add : ByteArray := prog_60_method_25_code
def yJ2_add : MethodName := ⟨RJ2, "add", "(Ljava/lang/Object;)Z"⟩
def dkwJ2_add_1 : List UInt8 := [172]
abbrev dktJ2_add_1 : List UInt8 := dkwJ2_add_1 ++ []
def dkwJ2_add_0 : List UInt8 := [42, 89, 180, 0, 63, 4, 96, 181, 0, 63, 42, 43, 42, 180, 0, 9, 42, 180, 0, 48, 182, 0, 131, 4]
abbrev dktJ2_add_0 : List UInt8 := dkwJ2_add_0 ++ dktJ2_add_1
theorem dksJ2_add_0 : cJ2_add.data.toList.drop 0 = dktJ2_add_0 := by decide +kernel
theorem dksJ2_add_1 : cJ2_add.data.toList.drop 24 = dktJ2_add_1 := dk_seg dksJ2_add_0 24 rfl rfl
theorem dJ2_add_0 : decode cJ2_add 0 = .ok (.aload_n 0, 1) := dk_42 (dk_at dksJ2_add_0 0 rfl rfl)
theorem dJ2_add_1 : decode cJ2_add 1 = .ok (.dup, 1) := dk_89 (dk_at dksJ2_add_0 1 rfl rfl)
theorem dJ2_add_2 : decode cJ2_add 2 = .ok (.getfield 63, 3) := dk_180 0 63 (dk_at dksJ2_add_0 2 rfl rfl)
theorem dJ2_add_5 : decode cJ2_add 5 = .ok (.iconst 1, 1) := dk_4 (dk_at dksJ2_add_0 5 rfl rfl)
theorem dJ2_add_6 : decode cJ2_add 6 = .ok (.iadd, 1) := dk_96 (dk_at dksJ2_add_0 6 rfl rfl)
theorem dJ2_add_7 : decode cJ2_add 7 = .ok (.putfield 63, 3) := dk_181 0 63 (dk_at dksJ2_add_0 7 rfl rfl)
theorem dJ2_add_10 : decode cJ2_add 10 = .ok (.aload_n 0, 1) := dk_42 (dk_at dksJ2_add_0 10 rfl rfl)
theorem dJ2_add_11 : decode cJ2_add 11 = .ok (.aload_n 1, 1) := dk_43 (dk_at dksJ2_add_0 11 rfl rfl)
theorem dJ2_add_12 : decode cJ2_add 12 = .ok (.aload_n 0, 1) := dk_42 (dk_at dksJ2_add_0 12 rfl rfl)
theorem dJ2_add_13 : decode cJ2_add 13 = .ok (.getfield 9, 3) := dk_180 0 9 (dk_at dksJ2_add_0 13 rfl rfl)
theorem dJ2_add_16 : decode cJ2_add 16 = .ok (.aload_n 0, 1) := dk_42 (dk_at dksJ2_add_0 16 rfl rfl)
theorem dJ2_add_17 : decode cJ2_add 17 = .ok (.getfield 48, 3) := dk_180 0 48 (dk_at dksJ2_add_0 17 rfl rfl)
theorem dJ2_add_20 : decode cJ2_add 20 = .ok (.invokevirtual 131, 3) := dk_182 0 131 (dk_at dksJ2_add_0 20 rfl rfl)
theorem dJ2_add_23 : decode cJ2_add 23 = .ok (.iconst 1, 1) := dk_4 (dk_at dksJ2_add_0 23 rfl rfl)
theorem dJ2_add_24 : decode cJ2_add 24 = .ok (.ireturn, 1) := dk_172 (dk_at dksJ2_add_1 0 rfl rfl)
abbrev cJ2_add_2 : ByteArray := prog_60_method_24_code
def yJ2_add_2 : MethodName := ⟨RJ2, "add", "(Ljava/lang/Object;[Ljava/lang/Object;I)V"⟩
def dkwJ2_add_2_0 : List UInt8 := [29, 44, 190, 160, 0, 8, 42, 182, 0, 129, 77, 44, 29, 43, 83, 42, 29, 4, 96, 181, 0, 48, 177]
abbrev dktJ2_add_2_0 : List UInt8 := dkwJ2_add_2_0 ++ []
theorem dksJ2_add_2_0 : cJ2_add_2.data.toList.drop 0 = dktJ2_add_2_0 := by decide +kernel
theorem dJ2_add_2_0 : decode cJ2_add_2 0 = .ok (.iload_n 3, 1) := dk_29 (dk_at dksJ2_add_2_0 0 rfl rfl)
theorem dJ2_add_2_1 : decode cJ2_add_2 1 = .ok (.aload_n 2, 1) := dk_44 (dk_at dksJ2_add_2_0 1 rfl rfl)
theorem dJ2_add_2_2 : decode cJ2_add_2 2 = .ok (.arraylength, 1) := dk_190 (dk_at dksJ2_add_2_0 2 rfl rfl)
theorem dJ2_add_2_3 : decode cJ2_add_2 3 = .ok (.if_icmp .ne 8, 3) := dk_160 0 8 (dk_at dksJ2_add_2_0 3 rfl rfl)
theorem dJ2_add_2_6 : decode cJ2_add_2 6 = .ok (.aload_n 0, 1) := dk_42 (dk_at dksJ2_add_2_0 6 rfl rfl)
theorem dJ2_add_2_7 : decode cJ2_add_2 7 = .ok (.invokevirtual 129, 3) := dk_182 0 129 (dk_at dksJ2_add_2_0 7 rfl rfl)
theorem dJ2_add_2_10 : decode cJ2_add_2 10 = .ok (.astore_n 2, 1) := dk_77 (dk_at dksJ2_add_2_0 10 rfl rfl)
theorem dJ2_add_2_11 : decode cJ2_add_2 11 = .ok (.aload_n 2, 1) := dk_44 (dk_at dksJ2_add_2_0 11 rfl rfl)
theorem dJ2_add_2_12 : decode cJ2_add_2 12 = .ok (.iload_n 3, 1) := dk_29 (dk_at dksJ2_add_2_0 12 rfl rfl)
theorem dJ2_add_2_13 : decode cJ2_add_2 13 = .ok (.aload_n 1, 1) := dk_43 (dk_at dksJ2_add_2_0 13 rfl rfl)
theorem dJ2_add_2_14 : decode cJ2_add_2 14 = .ok (.aastore, 1) := dk_83 (dk_at dksJ2_add_2_0 14 rfl rfl)
theorem dJ2_add_2_15 : decode cJ2_add_2 15 = .ok (.aload_n 0, 1) := dk_42 (dk_at dksJ2_add_2_0 15 rfl rfl)
theorem dJ2_add_2_16 : decode cJ2_add_2 16 = .ok (.iload_n 3, 1) := dk_29 (dk_at dksJ2_add_2_0 16 rfl rfl)
theorem dJ2_add_2_17 : decode cJ2_add_2 17 = .ok (.iconst 1, 1) := dk_4 (dk_at dksJ2_add_2_0 17 rfl rfl)
theorem dJ2_add_2_18 : decode cJ2_add_2 18 = .ok (.iadd, 1) := dk_96 (dk_at dksJ2_add_2_0 18 rfl rfl)
theorem dJ2_add_2_19 : decode cJ2_add_2 19 = .ok (.putfield 48, 3) := dk_181 0 48 (dk_at dksJ2_add_2_0 19 rfl rfl)
theorem dJ2_add_2_22 : decode cJ2_add_2 22 = .ok (.return_, 1) := dk_177 (dk_at dksJ2_add_2_0 22 rfl rfl)
abbrev cJ2_grow : ByteArray := prog_60_method_7_code
def yJ2_grow : MethodName := ⟨RJ2, "grow", "()[Ljava/lang/Object;"⟩
def dkwJ2_grow_0 : List UInt8 := [42, 42, 180, 0, 48, 4, 96, 182, 0, 69, 176]
abbrev dktJ2_grow_0 : List UInt8 := dkwJ2_grow_0 ++ []
theorem dksJ2_grow_0 : cJ2_grow.data.toList.drop 0 = dktJ2_grow_0 := by decide +kernel
theorem dJ2_grow_0 : decode cJ2_grow 0 = .ok (.aload_n 0, 1) := dk_42 (dk_at dksJ2_grow_0 0 rfl rfl)
theorem dJ2_grow_1 : decode cJ2_grow 1 = .ok (.aload_n 0, 1) := dk_42 (dk_at dksJ2_grow_0 1 rfl rfl)
theorem dJ2_grow_2 : decode cJ2_grow 2 = .ok (.getfield 48, 3) := dk_180 0 48 (dk_at dksJ2_grow_0 2 rfl rfl)
theorem dJ2_grow_5 : decode cJ2_grow 5 = .ok (.iconst 1, 1) := dk_4 (dk_at dksJ2_grow_0 5 rfl rfl)
theorem dJ2_grow_6 : decode cJ2_grow 6 = .ok (.iadd, 1) := dk_96 (dk_at dksJ2_grow_0 6 rfl rfl)
theorem dJ2_grow_7 : decode cJ2_grow 7 = .ok (.invokevirtual 69, 3) := dk_182 0 69 (dk_at dksJ2_grow_0 7 rfl rfl)
theorem dJ2_grow_10 : decode cJ2_grow 10 = .ok (.areturn, 1) := dk_176 (dk_at dksJ2_grow_0 10 rfl rfl)
abbrev cJ2_grow_2 : ByteArray := prog_60_method_6_code
def yJ2_grow_2 : MethodName := ⟨RJ2, "grow", "(I)[Ljava/lang/Object;"⟩
def dkwJ2_grow_2_2 : List UInt8 := [27, 184, 0, 79, 189, 0, 7, 90, 181, 0, 9, 176]
abbrev dktJ2_grow_2_2 : List UInt8 := dkwJ2_grow_2_2 ++ []
def dkwJ2_grow_2_1 : List UInt8 := [28, 4, 122, 184, 0, 73, 62, 42, 42, 180, 0, 9, 29, 184, 0, 66, 90, 181, 0, 9, 176, 42, 16, 10]
abbrev dktJ2_grow_2_1 : List UInt8 := dkwJ2_grow_2_1 ++ dktJ2_grow_2_2
def dkwJ2_grow_2_0 : List UInt8 := [42, 180, 0, 9, 190, 61, 28, 157, 0, 13, 42, 180, 0, 9, 178, 0, 39, 165, 0, 28, 28, 27, 28, 100]
abbrev dktJ2_grow_2_0 : List UInt8 := dkwJ2_grow_2_0 ++ dktJ2_grow_2_1
theorem dksJ2_grow_2_0 : cJ2_grow_2.data.toList.drop 0 = dktJ2_grow_2_0 := by decide +kernel
theorem dksJ2_grow_2_1 : cJ2_grow_2.data.toList.drop 24 = dktJ2_grow_2_1 := dk_seg dksJ2_grow_2_0 24 rfl rfl
theorem dksJ2_grow_2_2 : cJ2_grow_2.data.toList.drop 48 = dktJ2_grow_2_2 := dk_seg dksJ2_grow_2_1 24 rfl rfl
theorem dJ2_grow_2_0 : decode cJ2_grow_2 0 = .ok (.aload_n 0, 1) := dk_42 (dk_at dksJ2_grow_2_0 0 rfl rfl)
theorem dJ2_grow_2_1 : decode cJ2_grow_2 1 = .ok (.getfield 9, 3) := dk_180 0 9 (dk_at dksJ2_grow_2_0 1 rfl rfl)
theorem dJ2_grow_2_4 : decode cJ2_grow_2 4 = .ok (.arraylength, 1) := dk_190 (dk_at dksJ2_grow_2_0 4 rfl rfl)
theorem dJ2_grow_2_5 : decode cJ2_grow_2 5 = .ok (.istore_n 2, 1) := dk_61 (dk_at dksJ2_grow_2_0 5 rfl rfl)
theorem dJ2_grow_2_6 : decode cJ2_grow_2 6 = .ok (.iload_n 2, 1) := dk_28 (dk_at dksJ2_grow_2_0 6 rfl rfl)
theorem dJ2_grow_2_7 : decode cJ2_grow_2 7 = .ok (.ifCond .gt 13, 3) := dk_157 0 13 (dk_at dksJ2_grow_2_0 7 rfl rfl)
theorem dJ2_grow_2_10 : decode cJ2_grow_2 10 = .ok (.aload_n 0, 1) := dk_42 (dk_at dksJ2_grow_2_0 10 rfl rfl)
theorem dJ2_grow_2_11 : decode cJ2_grow_2 11 = .ok (.getfield 9, 3) := dk_180 0 9 (dk_at dksJ2_grow_2_0 11 rfl rfl)
theorem dJ2_grow_2_14 : decode cJ2_grow_2 14 = .ok (.getstatic 39, 3) := dk_178 0 39 (dk_at dksJ2_grow_2_0 14 rfl rfl)
theorem dJ2_grow_2_17 : decode cJ2_grow_2 17 = .ok (.if_acmp .eq 28, 3) := dk_165 0 28 (dk_at dksJ2_grow_2_0 17 rfl rfl)
theorem dJ2_grow_2_20 : decode cJ2_grow_2 20 = .ok (.iload_n 2, 1) := dk_28 (dk_at dksJ2_grow_2_0 20 rfl rfl)
theorem dJ2_grow_2_21 : decode cJ2_grow_2 21 = .ok (.iload_n 1, 1) := dk_27 (dk_at dksJ2_grow_2_0 21 rfl rfl)
theorem dJ2_grow_2_22 : decode cJ2_grow_2 22 = .ok (.iload_n 2, 1) := dk_28 (dk_at dksJ2_grow_2_0 22 rfl rfl)
theorem dJ2_grow_2_23 : decode cJ2_grow_2 23 = .ok (.isub, 1) := dk_100 (dk_at dksJ2_grow_2_0 23 rfl rfl)
theorem dJ2_grow_2_24 : decode cJ2_grow_2 24 = .ok (.iload_n 2, 1) := dk_28 (dk_at dksJ2_grow_2_1 0 rfl rfl)
theorem dJ2_grow_2_25 : decode cJ2_grow_2 25 = .ok (.iconst 1, 1) := dk_4 (dk_at dksJ2_grow_2_1 1 rfl rfl)
theorem dJ2_grow_2_26 : decode cJ2_grow_2 26 = .ok (.ishr, 1) := dk_122 (dk_at dksJ2_grow_2_1 2 rfl rfl)
theorem dJ2_grow_2_27 : decode cJ2_grow_2 27 = .ok (.invokestatic 73, 3) := dk_184 0 73 (dk_at dksJ2_grow_2_1 3 rfl rfl)
theorem dJ2_grow_2_30 : decode cJ2_grow_2 30 = .ok (.istore_n 3, 1) := dk_62 (dk_at dksJ2_grow_2_1 6 rfl rfl)
theorem dJ2_grow_2_31 : decode cJ2_grow_2 31 = .ok (.aload_n 0, 1) := dk_42 (dk_at dksJ2_grow_2_1 7 rfl rfl)
theorem dJ2_grow_2_32 : decode cJ2_grow_2 32 = .ok (.aload_n 0, 1) := dk_42 (dk_at dksJ2_grow_2_1 8 rfl rfl)
theorem dJ2_grow_2_33 : decode cJ2_grow_2 33 = .ok (.getfield 9, 3) := dk_180 0 9 (dk_at dksJ2_grow_2_1 9 rfl rfl)
theorem dJ2_grow_2_36 : decode cJ2_grow_2 36 = .ok (.iload_n 3, 1) := dk_29 (dk_at dksJ2_grow_2_1 12 rfl rfl)
theorem dJ2_grow_2_37 : decode cJ2_grow_2 37 = .ok (.invokestatic 66, 3) := dk_184 0 66 (dk_at dksJ2_grow_2_1 13 rfl rfl)
theorem dJ2_grow_2_40 : decode cJ2_grow_2 40 = .ok (.dup_x1, 1) := dk_90 (dk_at dksJ2_grow_2_1 16 rfl rfl)
theorem dJ2_grow_2_41 : decode cJ2_grow_2 41 = .ok (.putfield 9, 3) := dk_181 0 9 (dk_at dksJ2_grow_2_1 17 rfl rfl)
theorem dJ2_grow_2_44 : decode cJ2_grow_2 44 = .ok (.areturn, 1) := dk_176 (dk_at dksJ2_grow_2_1 20 rfl rfl)
theorem dJ2_grow_2_45 : decode cJ2_grow_2 45 = .ok (.aload_n 0, 1) := dk_42 (dk_at dksJ2_grow_2_1 21 rfl rfl)
theorem dJ2_grow_2_46 : decode cJ2_grow_2 46 = .ok (.bipush 10, 2) := dk_16 10 (dk_at dksJ2_grow_2_1 22 rfl rfl)
theorem dJ2_grow_2_48 : decode cJ2_grow_2 48 = .ok (.iload_n 1, 1) := dk_27 (dk_at dksJ2_grow_2_2 0 rfl rfl)
theorem dJ2_grow_2_49 : decode cJ2_grow_2 49 = .ok (.invokestatic 79, 3) := dk_184 0 79 (dk_at dksJ2_grow_2_2 1 rfl rfl)
theorem dJ2_grow_2_52 : decode cJ2_grow_2 52 = .ok (.anewarray 7, 3) := dk_189 0 7 (dk_at dksJ2_grow_2_2 4 rfl rfl)
theorem dJ2_grow_2_55 : decode cJ2_grow_2 55 = .ok (.dup_x1, 1) := dk_90 (dk_at dksJ2_grow_2_2 7 rfl rfl)
theorem dJ2_grow_2_56 : decode cJ2_grow_2 56 = .ok (.putfield 9, 3) := dk_181 0 9 (dk_at dksJ2_grow_2_2 8 rfl rfl)
theorem dJ2_grow_2_59 : decode cJ2_grow_2 59 = .ok (.areturn, 1) := dk_176 (dk_at dksJ2_grow_2_2 11 rfl rfl)
abbrev cJ2_get : ByteArray := prog_60_method_20_code
def yJ2_get : MethodName := ⟨RJ2, "get", "(I)Ljava/lang/Object;"⟩
def dkwJ2_get_0 : List UInt8 := [27, 42, 180, 0, 48, 184, 0, 118, 87, 42, 27, 182, 0, 123, 176]
abbrev dktJ2_get_0 : List UInt8 := dkwJ2_get_0 ++ []
theorem dksJ2_get_0 : cJ2_get.data.toList.drop 0 = dktJ2_get_0 := by decide +kernel
theorem dJ2_get_0 : decode cJ2_get 0 = .ok (.iload_n 1, 1) := dk_27 (dk_at dksJ2_get_0 0 rfl rfl)
theorem dJ2_get_1 : decode cJ2_get 1 = .ok (.aload_n 0, 1) := dk_42 (dk_at dksJ2_get_0 1 rfl rfl)
theorem dJ2_get_2 : decode cJ2_get 2 = .ok (.getfield 48, 3) := dk_180 0 48 (dk_at dksJ2_get_0 2 rfl rfl)
theorem dJ2_get_5 : decode cJ2_get 5 = .ok (.invokestatic 118, 3) := dk_184 0 118 (dk_at dksJ2_get_0 5 rfl rfl)
theorem dJ2_get_8 : decode cJ2_get 8 = .ok (.pop, 1) := dk_87 (dk_at dksJ2_get_0 8 rfl rfl)
theorem dJ2_get_9 : decode cJ2_get 9 = .ok (.aload_n 0, 1) := dk_42 (dk_at dksJ2_get_0 9 rfl rfl)
theorem dJ2_get_10 : decode cJ2_get 10 = .ok (.iload_n 1, 1) := dk_27 (dk_at dksJ2_get_0 10 rfl rfl)
theorem dJ2_get_11 : decode cJ2_get 11 = .ok (.invokevirtual 123, 3) := dk_182 0 123 (dk_at dksJ2_get_0 11 rfl rfl)
theorem dJ2_get_14 : decode cJ2_get 14 = .ok (.areturn, 1) := dk_176 (dk_at dksJ2_get_0 14 rfl rfl)
abbrev cJ2_elementData : ByteArray := prog_60_method_18_code
def yJ2_elementData : MethodName := ⟨RJ2, "elementData", "(I)Ljava/lang/Object;"⟩
def dkwJ2_elementData_0 : List UInt8 := [42, 180, 0, 9, 27, 50, 176]
abbrev dktJ2_elementData_0 : List UInt8 := dkwJ2_elementData_0 ++ []
theorem dksJ2_elementData_0 : cJ2_elementData.data.toList.drop 0 = dktJ2_elementData_0 := by decide +kernel
theorem dJ2_elementData_0 : decode cJ2_elementData 0 = .ok (.aload_n 0, 1) := dk_42 (dk_at dksJ2_elementData_0 0 rfl rfl)
theorem dJ2_elementData_1 : decode cJ2_elementData 1 = .ok (.getfield 9, 3) := dk_180 0 9 (dk_at dksJ2_elementData_0 1 rfl rfl)
theorem dJ2_elementData_4 : decode cJ2_elementData 4 = .ok (.iload_n 1, 1) := dk_27 (dk_at dksJ2_elementData_0 4 rfl rfl)
theorem dJ2_elementData_5 : decode cJ2_elementData 5 = .ok (.aaload, 1) := dk_50 (dk_at dksJ2_elementData_0 5 rfl rfl)
theorem dJ2_elementData_6 : decode cJ2_elementData 6 = .ok (.areturn, 1) := dk_176 (dk_at dksJ2_elementData_0 6 rfl rfl)
abbrev cJ2_addAll : ByteArray := prog_60_method_41_code
def yJ2_addAll : MethodName := ⟨RJ2, "addAll", "(Ljava/util/Collection;)Z"⟩
def dkwJ2_addAll_3 : List UInt8 := [181, 0, 48, 4, 172]
abbrev dktJ2_addAll_3 : List UInt8 := dkwJ2_addAll_3 ++ []
def dkwJ2_addAll_2 : List UInt8 := [21, 5, 29, 96, 182, 0, 69, 58, 4, 44, 3, 25, 4, 21, 5, 29, 184, 0, 112, 42, 21, 5, 29, 96]
abbrev dktJ2_addAll_2 : List UInt8 := dkwJ2_addAll_2 ++ dktJ2_addAll_3
def dkwJ2_addAll_1 : List UInt8 := [3, 172, 29, 42, 180, 0, 9, 89, 58, 4, 190, 42, 180, 0, 48, 89, 54, 5, 100, 164, 0, 13, 42]
abbrev dktJ2_addAll_1 : List UInt8 := dkwJ2_addAll_1 ++ dktJ2_addAll_2
def dkwJ2_addAll_0 : List UInt8 := [43, 185, 0, 42, 1, 0, 77, 42, 89, 180, 0, 63, 4, 96, 181, 0, 63, 44, 190, 62, 29, 154, 0, 5]
abbrev dktJ2_addAll_0 : List UInt8 := dkwJ2_addAll_0 ++ dktJ2_addAll_1
theorem dksJ2_addAll_0 : cJ2_addAll.data.toList.drop 0 = dktJ2_addAll_0 := by decide +kernel
theorem dksJ2_addAll_1 : cJ2_addAll.data.toList.drop 24 = dktJ2_addAll_1 := dk_seg dksJ2_addAll_0 24 rfl rfl
theorem dksJ2_addAll_2 : cJ2_addAll.data.toList.drop 47 = dktJ2_addAll_2 := dk_seg dksJ2_addAll_1 23 rfl rfl
theorem dksJ2_addAll_3 : cJ2_addAll.data.toList.drop 71 = dktJ2_addAll_3 := dk_seg dksJ2_addAll_2 24 rfl rfl
theorem dJ2_addAll_0 : decode cJ2_addAll 0 = .ok (.aload_n 1, 1) := dk_43 (dk_at dksJ2_addAll_0 0 rfl rfl)
theorem dJ2_addAll_1 : decode cJ2_addAll 1 = .ok (.invokeinterface 42 1, 5) := by decide +kernel
theorem dJ2_addAll_6 : decode cJ2_addAll 6 = .ok (.astore_n 2, 1) := dk_77 (dk_at dksJ2_addAll_0 6 rfl rfl)
theorem dJ2_addAll_7 : decode cJ2_addAll 7 = .ok (.aload_n 0, 1) := dk_42 (dk_at dksJ2_addAll_0 7 rfl rfl)
theorem dJ2_addAll_8 : decode cJ2_addAll 8 = .ok (.dup, 1) := dk_89 (dk_at dksJ2_addAll_0 8 rfl rfl)
theorem dJ2_addAll_9 : decode cJ2_addAll 9 = .ok (.getfield 63, 3) := dk_180 0 63 (dk_at dksJ2_addAll_0 9 rfl rfl)
theorem dJ2_addAll_12 : decode cJ2_addAll 12 = .ok (.iconst 1, 1) := dk_4 (dk_at dksJ2_addAll_0 12 rfl rfl)
theorem dJ2_addAll_13 : decode cJ2_addAll 13 = .ok (.iadd, 1) := dk_96 (dk_at dksJ2_addAll_0 13 rfl rfl)
theorem dJ2_addAll_14 : decode cJ2_addAll 14 = .ok (.putfield 63, 3) := dk_181 0 63 (dk_at dksJ2_addAll_0 14 rfl rfl)
theorem dJ2_addAll_17 : decode cJ2_addAll 17 = .ok (.aload_n 2, 1) := dk_44 (dk_at dksJ2_addAll_0 17 rfl rfl)
theorem dJ2_addAll_18 : decode cJ2_addAll 18 = .ok (.arraylength, 1) := dk_190 (dk_at dksJ2_addAll_0 18 rfl rfl)
theorem dJ2_addAll_19 : decode cJ2_addAll 19 = .ok (.istore_n 3, 1) := dk_62 (dk_at dksJ2_addAll_0 19 rfl rfl)
theorem dJ2_addAll_20 : decode cJ2_addAll 20 = .ok (.iload_n 3, 1) := dk_29 (dk_at dksJ2_addAll_0 20 rfl rfl)
theorem dJ2_addAll_21 : decode cJ2_addAll 21 = .ok (.ifCond .ne 5, 3) := dk_154 0 5 (dk_at dksJ2_addAll_0 21 rfl rfl)
theorem dJ2_addAll_24 : decode cJ2_addAll 24 = .ok (.iconst 0, 1) := dk_3 (dk_at dksJ2_addAll_1 0 rfl rfl)
theorem dJ2_addAll_25 : decode cJ2_addAll 25 = .ok (.ireturn, 1) := dk_172 (dk_at dksJ2_addAll_1 1 rfl rfl)
theorem dJ2_addAll_26 : decode cJ2_addAll 26 = .ok (.iload_n 3, 1) := dk_29 (dk_at dksJ2_addAll_1 2 rfl rfl)
theorem dJ2_addAll_27 : decode cJ2_addAll 27 = .ok (.aload_n 0, 1) := dk_42 (dk_at dksJ2_addAll_1 3 rfl rfl)
theorem dJ2_addAll_28 : decode cJ2_addAll 28 = .ok (.getfield 9, 3) := dk_180 0 9 (dk_at dksJ2_addAll_1 4 rfl rfl)
theorem dJ2_addAll_31 : decode cJ2_addAll 31 = .ok (.dup, 1) := dk_89 (dk_at dksJ2_addAll_1 7 rfl rfl)
theorem dJ2_addAll_32 : decode cJ2_addAll 32 = .ok (.astore 4, 2) := dk_58 4 (dk_at dksJ2_addAll_1 8 rfl rfl)
theorem dJ2_addAll_34 : decode cJ2_addAll 34 = .ok (.arraylength, 1) := dk_190 (dk_at dksJ2_addAll_1 10 rfl rfl)
theorem dJ2_addAll_35 : decode cJ2_addAll 35 = .ok (.aload_n 0, 1) := dk_42 (dk_at dksJ2_addAll_1 11 rfl rfl)
theorem dJ2_addAll_36 : decode cJ2_addAll 36 = .ok (.getfield 48, 3) := dk_180 0 48 (dk_at dksJ2_addAll_1 12 rfl rfl)
theorem dJ2_addAll_39 : decode cJ2_addAll 39 = .ok (.dup, 1) := dk_89 (dk_at dksJ2_addAll_1 15 rfl rfl)
theorem dJ2_addAll_40 : decode cJ2_addAll 40 = .ok (.istore 5, 2) := dk_54 5 (dk_at dksJ2_addAll_1 16 rfl rfl)
theorem dJ2_addAll_42 : decode cJ2_addAll 42 = .ok (.isub, 1) := dk_100 (dk_at dksJ2_addAll_1 18 rfl rfl)
theorem dJ2_addAll_43 : decode cJ2_addAll 43 = .ok (.if_icmp .le 13, 3) := dk_164 0 13 (dk_at dksJ2_addAll_1 19 rfl rfl)
theorem dJ2_addAll_46 : decode cJ2_addAll 46 = .ok (.aload_n 0, 1) := dk_42 (dk_at dksJ2_addAll_1 22 rfl rfl)
theorem dJ2_addAll_47 : decode cJ2_addAll 47 = .ok (.iload 5, 2) := dk_21 5 (dk_at dksJ2_addAll_2 0 rfl rfl)
theorem dJ2_addAll_49 : decode cJ2_addAll 49 = .ok (.iload_n 3, 1) := dk_29 (dk_at dksJ2_addAll_2 2 rfl rfl)
theorem dJ2_addAll_50 : decode cJ2_addAll 50 = .ok (.iadd, 1) := dk_96 (dk_at dksJ2_addAll_2 3 rfl rfl)
theorem dJ2_addAll_51 : decode cJ2_addAll 51 = .ok (.invokevirtual 69, 3) := dk_182 0 69 (dk_at dksJ2_addAll_2 4 rfl rfl)
theorem dJ2_addAll_54 : decode cJ2_addAll 54 = .ok (.astore 4, 2) := dk_58 4 (dk_at dksJ2_addAll_2 7 rfl rfl)
theorem dJ2_addAll_56 : decode cJ2_addAll 56 = .ok (.aload_n 2, 1) := dk_44 (dk_at dksJ2_addAll_2 9 rfl rfl)
theorem dJ2_addAll_57 : decode cJ2_addAll 57 = .ok (.iconst 0, 1) := dk_3 (dk_at dksJ2_addAll_2 10 rfl rfl)
theorem dJ2_addAll_58 : decode cJ2_addAll 58 = .ok (.aload 4, 2) := dk_25 4 (dk_at dksJ2_addAll_2 11 rfl rfl)
theorem dJ2_addAll_60 : decode cJ2_addAll 60 = .ok (.iload 5, 2) := dk_21 5 (dk_at dksJ2_addAll_2 13 rfl rfl)
theorem dJ2_addAll_62 : decode cJ2_addAll 62 = .ok (.iload_n 3, 1) := dk_29 (dk_at dksJ2_addAll_2 15 rfl rfl)
theorem dJ2_addAll_63 : decode cJ2_addAll 63 = .ok (.invokestatic 112, 3) := dk_184 0 112 (dk_at dksJ2_addAll_2 16 rfl rfl)
theorem dJ2_addAll_66 : decode cJ2_addAll 66 = .ok (.aload_n 0, 1) := dk_42 (dk_at dksJ2_addAll_2 19 rfl rfl)
theorem dJ2_addAll_67 : decode cJ2_addAll 67 = .ok (.iload 5, 2) := dk_21 5 (dk_at dksJ2_addAll_2 20 rfl rfl)
theorem dJ2_addAll_69 : decode cJ2_addAll 69 = .ok (.iload_n 3, 1) := dk_29 (dk_at dksJ2_addAll_2 22 rfl rfl)
theorem dJ2_addAll_70 : decode cJ2_addAll 70 = .ok (.iadd, 1) := dk_96 (dk_at dksJ2_addAll_2 23 rfl rfl)
theorem dJ2_addAll_71 : decode cJ2_addAll 71 = .ok (.putfield 48, 3) := dk_181 0 48 (dk_at dksJ2_addAll_3 0 rfl rfl)
theorem dJ2_addAll_74 : decode cJ2_addAll 74 = .ok (.iconst 1, 1) := dk_4 (dk_at dksJ2_addAll_3 3 rfl rfl)
theorem dJ2_addAll_75 : decode cJ2_addAll 75 = .ok (.ireturn, 1) := dk_172 (dk_at dksJ2_addAll_3 4 rfl rfl)
abbrev cJ2_toArray : ByteArray := prog_60_method_16_code
def yJ2_toArray : MethodName := ⟨RJ2, "toArray", "()[Ljava/lang/Object;"⟩
def dkwJ2_toArray_0 : List UInt8 := [42, 180, 0, 9, 42, 180, 0, 48, 184, 0, 66, 176]
abbrev dktJ2_toArray_0 : List UInt8 := dkwJ2_toArray_0 ++ []
theorem dksJ2_toArray_0 : cJ2_toArray.data.toList.drop 0 = dktJ2_toArray_0 := by decide +kernel
theorem dJ2_toArray_0 : decode cJ2_toArray 0 = .ok (.aload_n 0, 1) := dk_42 (dk_at dksJ2_toArray_0 0 rfl rfl)
theorem dJ2_toArray_1 : decode cJ2_toArray 1 = .ok (.getfield 9, 3) := dk_180 0 9 (dk_at dksJ2_toArray_0 1 rfl rfl)
theorem dJ2_toArray_4 : decode cJ2_toArray 4 = .ok (.aload_n 0, 1) := dk_42 (dk_at dksJ2_toArray_0 4 rfl rfl)
theorem dJ2_toArray_5 : decode cJ2_toArray 5 = .ok (.getfield 48, 3) := dk_180 0 48 (dk_at dksJ2_toArray_0 5 rfl rfl)
theorem dJ2_toArray_8 : decode cJ2_toArray 8 = .ok (.invokestatic 66, 3) := dk_184 0 66 (dk_at dksJ2_toArray_0 8 rfl rfl)
theorem dJ2_toArray_11 : decode cJ2_toArray 11 = .ok (.areturn, 1) := dk_176 (dk_at dksJ2_toArray_0 11 rfl rfl)
abbrev cJ2_size : ByteArray := prog_60_method_8_code
def yJ2_size : MethodName := ⟨RJ2, "size", "()I"⟩
theorem dJ2_size_0 : decode cJ2_size 0 = .ok (.aload_n 0, 1) := by decide +kernel
theorem dJ2_size_1 : decode cJ2_size 1 = .ok (.getfield 48, 3) := by decide +kernel
theorem dJ2_size_4 : decode cJ2_size 4 = .ok (.ireturn, 1) := by decide +kernel
abbrev cJ2_clear : ByteArray := prog_60_method_40_code
def yJ2_clear : MethodName := ⟨RJ2, "clear", "()V"⟩
def dkwJ2_clear_1 : List UInt8 := [181, 0, 48, 62, 29, 28, 162, 0, 13, 43, 29, 1, 83, 132, 3, 1, 167, 255, 244, 177]
abbrev dktJ2_clear_1 : List UInt8 := dkwJ2_clear_1 ++ []
def dkwJ2_clear_0 : List UInt8 := [42, 89, 180, 0, 63, 4, 96, 181, 0, 63, 42, 180, 0, 9, 76, 42, 180, 0, 48, 61, 42, 3, 90]
abbrev dktJ2_clear_0 : List UInt8 := dkwJ2_clear_0 ++ dktJ2_clear_1
theorem dksJ2_clear_0 : cJ2_clear.data.toList.drop 0 = dktJ2_clear_0 := by decide +kernel
theorem dksJ2_clear_1 : cJ2_clear.data.toList.drop 23 = dktJ2_clear_1 := dk_seg dksJ2_clear_0 23 rfl rfl
theorem dJ2_clear_0 : decode cJ2_clear 0 = .ok (.aload_n 0, 1) := dk_42 (dk_at dksJ2_clear_0 0 rfl rfl)
theorem dJ2_clear_1 : decode cJ2_clear 1 = .ok (.dup, 1) := dk_89 (dk_at dksJ2_clear_0 1 rfl rfl)
theorem dJ2_clear_2 : decode cJ2_clear 2 = .ok (.getfield 63, 3) := dk_180 0 63 (dk_at dksJ2_clear_0 2 rfl rfl)
theorem dJ2_clear_5 : decode cJ2_clear 5 = .ok (.iconst 1, 1) := dk_4 (dk_at dksJ2_clear_0 5 rfl rfl)
theorem dJ2_clear_6 : decode cJ2_clear 6 = .ok (.iadd, 1) := dk_96 (dk_at dksJ2_clear_0 6 rfl rfl)
theorem dJ2_clear_7 : decode cJ2_clear 7 = .ok (.putfield 63, 3) := dk_181 0 63 (dk_at dksJ2_clear_0 7 rfl rfl)
theorem dJ2_clear_10 : decode cJ2_clear 10 = .ok (.aload_n 0, 1) := dk_42 (dk_at dksJ2_clear_0 10 rfl rfl)
theorem dJ2_clear_11 : decode cJ2_clear 11 = .ok (.getfield 9, 3) := dk_180 0 9 (dk_at dksJ2_clear_0 11 rfl rfl)
theorem dJ2_clear_14 : decode cJ2_clear 14 = .ok (.astore_n 1, 1) := dk_76 (dk_at dksJ2_clear_0 14 rfl rfl)
theorem dJ2_clear_15 : decode cJ2_clear 15 = .ok (.aload_n 0, 1) := dk_42 (dk_at dksJ2_clear_0 15 rfl rfl)
theorem dJ2_clear_16 : decode cJ2_clear 16 = .ok (.getfield 48, 3) := dk_180 0 48 (dk_at dksJ2_clear_0 16 rfl rfl)
theorem dJ2_clear_19 : decode cJ2_clear 19 = .ok (.istore_n 2, 1) := dk_61 (dk_at dksJ2_clear_0 19 rfl rfl)
theorem dJ2_clear_20 : decode cJ2_clear 20 = .ok (.aload_n 0, 1) := dk_42 (dk_at dksJ2_clear_0 20 rfl rfl)
theorem dJ2_clear_21 : decode cJ2_clear 21 = .ok (.iconst 0, 1) := dk_3 (dk_at dksJ2_clear_0 21 rfl rfl)
theorem dJ2_clear_22 : decode cJ2_clear 22 = .ok (.dup_x1, 1) := dk_90 (dk_at dksJ2_clear_0 22 rfl rfl)
theorem dJ2_clear_23 : decode cJ2_clear 23 = .ok (.putfield 48, 3) := dk_181 0 48 (dk_at dksJ2_clear_1 0 rfl rfl)
theorem dJ2_clear_26 : decode cJ2_clear 26 = .ok (.istore_n 3, 1) := dk_62 (dk_at dksJ2_clear_1 3 rfl rfl)
theorem dJ2_clear_27 : decode cJ2_clear 27 = .ok (.iload_n 3, 1) := dk_29 (dk_at dksJ2_clear_1 4 rfl rfl)
theorem dJ2_clear_28 : decode cJ2_clear 28 = .ok (.iload_n 2, 1) := dk_28 (dk_at dksJ2_clear_1 5 rfl rfl)
theorem dJ2_clear_29 : decode cJ2_clear 29 = .ok (.if_icmp .ge 13, 3) := dk_162 0 13 (dk_at dksJ2_clear_1 6 rfl rfl)
theorem dJ2_clear_32 : decode cJ2_clear 32 = .ok (.aload_n 1, 1) := dk_43 (dk_at dksJ2_clear_1 9 rfl rfl)
theorem dJ2_clear_33 : decode cJ2_clear 33 = .ok (.iload_n 3, 1) := dk_29 (dk_at dksJ2_clear_1 10 rfl rfl)
theorem dJ2_clear_34 : decode cJ2_clear 34 = .ok (.aconst_null, 1) := dk_1 (dk_at dksJ2_clear_1 11 rfl rfl)
theorem dJ2_clear_35 : decode cJ2_clear 35 = .ok (.aastore, 1) := dk_83 (dk_at dksJ2_clear_1 12 rfl rfl)
theorem dJ2_clear_36 : decode cJ2_clear 36 = .ok (.iinc 3 1, 3) := dk_132 3 1 (dk_at dksJ2_clear_1 13 rfl rfl)
theorem dJ2_clear_39 : decode cJ2_clear 39 = .ok (.goto (-12), 3) := dk_167 255 244 (dk_at dksJ2_clear_1 16 rfl rfl)
theorem dJ2_clear_42 : decode cJ2_clear 42 = .ok (.return_, 1) := dk_177 (dk_at dksJ2_clear_1 19 rfl rfl)
abbrev cJ2_equals : ByteArray := prog_60_method_32_code
def yJ2_equals : MethodName := ⟨RJ2, "equals", "(Ljava/lang/Object;)Z"⟩
def dkwJ2_equals_2 : List UInt8 := [3, 42, 180, 0, 48, 182, 0, 154, 62, 42, 28, 182, 0, 158, 29, 172]
abbrev dktJ2_equals_2 : List UInt8 := dkwJ2_equals_2 ++ []
def dkwJ2_equals_1 : List UInt8 := [182, 0, 111, 18, 10, 166, 0, 14, 42, 43, 192, 0, 10, 182, 0, 150, 167, 0, 16, 42, 43, 192, 0, 148]
abbrev dktJ2_equals_1 : List UInt8 := dkwJ2_equals_1 ++ dktJ2_equals_2
def dkwJ2_equals_0 : List UInt8 := [43, 42, 166, 0, 5, 4, 172, 43, 193, 0, 148, 154, 0, 5, 3, 172, 42, 180, 0, 63, 61, 43]
abbrev dktJ2_equals_0 : List UInt8 := dkwJ2_equals_0 ++ dktJ2_equals_1
theorem dksJ2_equals_0 : cJ2_equals.data.toList.drop 0 = dktJ2_equals_0 := by decide +kernel
theorem dksJ2_equals_1 : cJ2_equals.data.toList.drop 22 = dktJ2_equals_1 := dk_seg dksJ2_equals_0 22 rfl rfl
theorem dksJ2_equals_2 : cJ2_equals.data.toList.drop 46 = dktJ2_equals_2 := dk_seg dksJ2_equals_1 24 rfl rfl
theorem dJ2_equals_0 : decode cJ2_equals 0 = .ok (.aload_n 1, 1) := dk_43 (dk_at dksJ2_equals_0 0 rfl rfl)
theorem dJ2_equals_1 : decode cJ2_equals 1 = .ok (.aload_n 0, 1) := dk_42 (dk_at dksJ2_equals_0 1 rfl rfl)
theorem dJ2_equals_2 : decode cJ2_equals 2 = .ok (.if_acmp .ne 5, 3) := dk_166 0 5 (dk_at dksJ2_equals_0 2 rfl rfl)
theorem dJ2_equals_5 : decode cJ2_equals 5 = .ok (.iconst 1, 1) := dk_4 (dk_at dksJ2_equals_0 5 rfl rfl)
theorem dJ2_equals_6 : decode cJ2_equals 6 = .ok (.ireturn, 1) := dk_172 (dk_at dksJ2_equals_0 6 rfl rfl)
theorem dJ2_equals_7 : decode cJ2_equals 7 = .ok (.aload_n 1, 1) := dk_43 (dk_at dksJ2_equals_0 7 rfl rfl)
theorem dJ2_equals_8 : decode cJ2_equals 8 = .ok (.instanceof 148, 3) := dk_193 0 148 (dk_at dksJ2_equals_0 8 rfl rfl)
theorem dJ2_equals_11 : decode cJ2_equals 11 = .ok (.ifCond .ne 5, 3) := dk_154 0 5 (dk_at dksJ2_equals_0 11 rfl rfl)
theorem dJ2_equals_14 : decode cJ2_equals 14 = .ok (.iconst 0, 1) := dk_3 (dk_at dksJ2_equals_0 14 rfl rfl)
theorem dJ2_equals_15 : decode cJ2_equals 15 = .ok (.ireturn, 1) := dk_172 (dk_at dksJ2_equals_0 15 rfl rfl)
theorem dJ2_equals_16 : decode cJ2_equals 16 = .ok (.aload_n 0, 1) := dk_42 (dk_at dksJ2_equals_0 16 rfl rfl)
theorem dJ2_equals_17 : decode cJ2_equals 17 = .ok (.getfield 63, 3) := dk_180 0 63 (dk_at dksJ2_equals_0 17 rfl rfl)
theorem dJ2_equals_20 : decode cJ2_equals 20 = .ok (.istore_n 2, 1) := dk_61 (dk_at dksJ2_equals_0 20 rfl rfl)
theorem dJ2_equals_21 : decode cJ2_equals 21 = .ok (.aload_n 1, 1) := dk_43 (dk_at dksJ2_equals_0 21 rfl rfl)
theorem dJ2_equals_22 : decode cJ2_equals 22 = .ok (.invokevirtual 111, 3) := dk_182 0 111 (dk_at dksJ2_equals_1 0 rfl rfl)
theorem dJ2_equals_25 : decode cJ2_equals 25 = .ok (.ldc 10, 2) := dk_18 10 (dk_at dksJ2_equals_1 3 rfl rfl)
theorem dJ2_equals_27 : decode cJ2_equals 27 = .ok (.if_acmp .ne 14, 3) := dk_166 0 14 (dk_at dksJ2_equals_1 5 rfl rfl)
theorem dJ2_equals_30 : decode cJ2_equals 30 = .ok (.aload_n 0, 1) := dk_42 (dk_at dksJ2_equals_1 8 rfl rfl)
theorem dJ2_equals_31 : decode cJ2_equals 31 = .ok (.aload_n 1, 1) := dk_43 (dk_at dksJ2_equals_1 9 rfl rfl)
theorem dJ2_equals_32 : decode cJ2_equals 32 = .ok (.checkcast 10, 3) := dk_192 0 10 (dk_at dksJ2_equals_1 10 rfl rfl)
theorem dJ2_equals_35 : decode cJ2_equals 35 = .ok (.invokevirtual 150, 3) := dk_182 0 150 (dk_at dksJ2_equals_1 13 rfl rfl)
theorem dJ2_equals_38 : decode cJ2_equals 38 = .ok (.goto 16, 3) := dk_167 0 16 (dk_at dksJ2_equals_1 16 rfl rfl)
theorem dJ2_equals_41 : decode cJ2_equals 41 = .ok (.aload_n 0, 1) := dk_42 (dk_at dksJ2_equals_1 19 rfl rfl)
theorem dJ2_equals_42 : decode cJ2_equals 42 = .ok (.aload_n 1, 1) := dk_43 (dk_at dksJ2_equals_1 20 rfl rfl)
theorem dJ2_equals_43 : decode cJ2_equals 43 = .ok (.checkcast 148, 3) := dk_192 0 148 (dk_at dksJ2_equals_1 21 rfl rfl)
theorem dJ2_equals_46 : decode cJ2_equals 46 = .ok (.iconst 0, 1) := dk_3 (dk_at dksJ2_equals_2 0 rfl rfl)
theorem dJ2_equals_47 : decode cJ2_equals 47 = .ok (.aload_n 0, 1) := dk_42 (dk_at dksJ2_equals_2 1 rfl rfl)
theorem dJ2_equals_48 : decode cJ2_equals 48 = .ok (.getfield 48, 3) := dk_180 0 48 (dk_at dksJ2_equals_2 2 rfl rfl)
theorem dJ2_equals_51 : decode cJ2_equals 51 = .ok (.invokevirtual 154, 3) := dk_182 0 154 (dk_at dksJ2_equals_2 5 rfl rfl)
theorem dJ2_equals_54 : decode cJ2_equals 54 = .ok (.istore_n 3, 1) := dk_62 (dk_at dksJ2_equals_2 8 rfl rfl)
theorem dJ2_equals_55 : decode cJ2_equals 55 = .ok (.aload_n 0, 1) := dk_42 (dk_at dksJ2_equals_2 9 rfl rfl)
theorem dJ2_equals_56 : decode cJ2_equals 56 = .ok (.iload_n 2, 1) := dk_28 (dk_at dksJ2_equals_2 10 rfl rfl)
theorem dJ2_equals_57 : decode cJ2_equals 57 = .ok (.invokevirtual 158, 3) := dk_182 0 158 (dk_at dksJ2_equals_2 11 rfl rfl)
theorem dJ2_equals_60 : decode cJ2_equals 60 = .ok (.iload_n 3, 1) := dk_29 (dk_at dksJ2_equals_2 14 rfl rfl)
theorem dJ2_equals_61 : decode cJ2_equals 61 = .ok (.ireturn, 1) := dk_172 (dk_at dksJ2_equals_2 15 rfl rfl)
abbrev cJ2_equalsArrayList : ByteArray := prog_60_method_34_code
def yJ2_equalsArrayList : MethodName := ⟨RJ2, "equalsArrayList", "(Ljava/util/ArrayList;)Z"⟩
def dkwJ2_equalsArrayList_4 : List UInt8 := [132, 7, 1, 167, 255, 225, 43, 28, 182, 0, 158, 21, 4, 172]
abbrev dktJ2_equalsArrayList_4 : List UInt8 := dkwJ2_equalsArrayList_4 ++ []
def dkwJ2_equalsArrayList_3 : List UInt8 := [25, 6, 21, 7, 50, 25, 5, 21, 7, 50, 184, 0, 177, 154, 0, 9, 3, 54, 4, 167, 0, 9]
abbrev dktJ2_equalsArrayList_3 : List UInt8 := dkwJ2_equalsArrayList_3 ++ dktJ2_equalsArrayList_4
def dkwJ2_equalsArrayList_2 : List UInt8 := [29, 25, 5, 190, 164, 0, 11, 187, 0, 161, 89, 183, 0, 163, 191, 3, 54, 7, 21, 7, 29, 162, 0, 31]
abbrev dktJ2_equalsArrayList_2 : List UInt8 := dkwJ2_equalsArrayList_2 ++ dktJ2_equalsArrayList_3
def dkwJ2_equalsArrayList_1 : List UInt8 := [54, 4, 153, 0, 74, 43, 180, 0, 9, 58, 5, 42, 180, 0, 9, 58, 6, 29, 25, 6, 190, 163, 0, 10]
abbrev dktJ2_equalsArrayList_1 : List UInt8 := dkwJ2_equalsArrayList_1 ++ dktJ2_equalsArrayList_2
def dkwJ2_equalsArrayList_0 : List UInt8 := [43, 180, 0, 63, 61, 42, 180, 0, 48, 62, 29, 43, 180, 0, 48, 160, 0, 7, 4, 167, 0, 4, 3, 89]
abbrev dktJ2_equalsArrayList_0 : List UInt8 := dkwJ2_equalsArrayList_0 ++ dktJ2_equalsArrayList_1
theorem dksJ2_equalsArrayList_0 : cJ2_equalsArrayList.data.toList.drop 0 = dktJ2_equalsArrayList_0 := by decide +kernel
theorem dksJ2_equalsArrayList_1 : cJ2_equalsArrayList.data.toList.drop 24 = dktJ2_equalsArrayList_1 := dk_seg dksJ2_equalsArrayList_0 24 rfl rfl
theorem dksJ2_equalsArrayList_2 : cJ2_equalsArrayList.data.toList.drop 48 = dktJ2_equalsArrayList_2 := dk_seg dksJ2_equalsArrayList_1 24 rfl rfl
theorem dksJ2_equalsArrayList_3 : cJ2_equalsArrayList.data.toList.drop 72 = dktJ2_equalsArrayList_3 := dk_seg dksJ2_equalsArrayList_2 24 rfl rfl
theorem dksJ2_equalsArrayList_4 : cJ2_equalsArrayList.data.toList.drop 94 = dktJ2_equalsArrayList_4 := dk_seg dksJ2_equalsArrayList_3 22 rfl rfl
theorem dJ2_equalsArrayList_0 : decode cJ2_equalsArrayList 0 = .ok (.aload_n 1, 1) := dk_43 (dk_at dksJ2_equalsArrayList_0 0 rfl rfl)
theorem dJ2_equalsArrayList_1 : decode cJ2_equalsArrayList 1 = .ok (.getfield 63, 3) := dk_180 0 63 (dk_at dksJ2_equalsArrayList_0 1 rfl rfl)
theorem dJ2_equalsArrayList_4 : decode cJ2_equalsArrayList 4 = .ok (.istore_n 2, 1) := dk_61 (dk_at dksJ2_equalsArrayList_0 4 rfl rfl)
theorem dJ2_equalsArrayList_5 : decode cJ2_equalsArrayList 5 = .ok (.aload_n 0, 1) := dk_42 (dk_at dksJ2_equalsArrayList_0 5 rfl rfl)
theorem dJ2_equalsArrayList_6 : decode cJ2_equalsArrayList 6 = .ok (.getfield 48, 3) := dk_180 0 48 (dk_at dksJ2_equalsArrayList_0 6 rfl rfl)
theorem dJ2_equalsArrayList_9 : decode cJ2_equalsArrayList 9 = .ok (.istore_n 3, 1) := dk_62 (dk_at dksJ2_equalsArrayList_0 9 rfl rfl)
theorem dJ2_equalsArrayList_10 : decode cJ2_equalsArrayList 10 = .ok (.iload_n 3, 1) := dk_29 (dk_at dksJ2_equalsArrayList_0 10 rfl rfl)
theorem dJ2_equalsArrayList_11 : decode cJ2_equalsArrayList 11 = .ok (.aload_n 1, 1) := dk_43 (dk_at dksJ2_equalsArrayList_0 11 rfl rfl)
theorem dJ2_equalsArrayList_12 : decode cJ2_equalsArrayList 12 = .ok (.getfield 48, 3) := dk_180 0 48 (dk_at dksJ2_equalsArrayList_0 12 rfl rfl)
theorem dJ2_equalsArrayList_15 : decode cJ2_equalsArrayList 15 = .ok (.if_icmp .ne 7, 3) := dk_160 0 7 (dk_at dksJ2_equalsArrayList_0 15 rfl rfl)
theorem dJ2_equalsArrayList_18 : decode cJ2_equalsArrayList 18 = .ok (.iconst 1, 1) := dk_4 (dk_at dksJ2_equalsArrayList_0 18 rfl rfl)
theorem dJ2_equalsArrayList_19 : decode cJ2_equalsArrayList 19 = .ok (.goto 4, 3) := dk_167 0 4 (dk_at dksJ2_equalsArrayList_0 19 rfl rfl)
theorem dJ2_equalsArrayList_22 : decode cJ2_equalsArrayList 22 = .ok (.iconst 0, 1) := dk_3 (dk_at dksJ2_equalsArrayList_0 22 rfl rfl)
theorem dJ2_equalsArrayList_23 : decode cJ2_equalsArrayList 23 = .ok (.dup, 1) := dk_89 (dk_at dksJ2_equalsArrayList_0 23 rfl rfl)
theorem dJ2_equalsArrayList_24 : decode cJ2_equalsArrayList 24 = .ok (.istore 4, 2) := dk_54 4 (dk_at dksJ2_equalsArrayList_1 0 rfl rfl)
theorem dJ2_equalsArrayList_26 : decode cJ2_equalsArrayList 26 = .ok (.ifCond .eq 74, 3) := dk_153 0 74 (dk_at dksJ2_equalsArrayList_1 2 rfl rfl)
theorem dJ2_equalsArrayList_29 : decode cJ2_equalsArrayList 29 = .ok (.aload_n 1, 1) := dk_43 (dk_at dksJ2_equalsArrayList_1 5 rfl rfl)
theorem dJ2_equalsArrayList_30 : decode cJ2_equalsArrayList 30 = .ok (.getfield 9, 3) := dk_180 0 9 (dk_at dksJ2_equalsArrayList_1 6 rfl rfl)
theorem dJ2_equalsArrayList_33 : decode cJ2_equalsArrayList 33 = .ok (.astore 5, 2) := dk_58 5 (dk_at dksJ2_equalsArrayList_1 9 rfl rfl)
theorem dJ2_equalsArrayList_35 : decode cJ2_equalsArrayList 35 = .ok (.aload_n 0, 1) := dk_42 (dk_at dksJ2_equalsArrayList_1 11 rfl rfl)
theorem dJ2_equalsArrayList_36 : decode cJ2_equalsArrayList 36 = .ok (.getfield 9, 3) := dk_180 0 9 (dk_at dksJ2_equalsArrayList_1 12 rfl rfl)
theorem dJ2_equalsArrayList_39 : decode cJ2_equalsArrayList 39 = .ok (.astore 6, 2) := dk_58 6 (dk_at dksJ2_equalsArrayList_1 15 rfl rfl)
theorem dJ2_equalsArrayList_41 : decode cJ2_equalsArrayList 41 = .ok (.iload_n 3, 1) := dk_29 (dk_at dksJ2_equalsArrayList_1 17 rfl rfl)
theorem dJ2_equalsArrayList_42 : decode cJ2_equalsArrayList 42 = .ok (.aload 6, 2) := dk_25 6 (dk_at dksJ2_equalsArrayList_1 18 rfl rfl)
theorem dJ2_equalsArrayList_44 : decode cJ2_equalsArrayList 44 = .ok (.arraylength, 1) := dk_190 (dk_at dksJ2_equalsArrayList_1 20 rfl rfl)
theorem dJ2_equalsArrayList_45 : decode cJ2_equalsArrayList 45 = .ok (.if_icmp .gt 10, 3) := dk_163 0 10 (dk_at dksJ2_equalsArrayList_1 21 rfl rfl)
theorem dJ2_equalsArrayList_48 : decode cJ2_equalsArrayList 48 = .ok (.iload_n 3, 1) := dk_29 (dk_at dksJ2_equalsArrayList_2 0 rfl rfl)
theorem dJ2_equalsArrayList_49 : decode cJ2_equalsArrayList 49 = .ok (.aload 5, 2) := dk_25 5 (dk_at dksJ2_equalsArrayList_2 1 rfl rfl)
theorem dJ2_equalsArrayList_51 : decode cJ2_equalsArrayList 51 = .ok (.arraylength, 1) := dk_190 (dk_at dksJ2_equalsArrayList_2 3 rfl rfl)
theorem dJ2_equalsArrayList_52 : decode cJ2_equalsArrayList 52 = .ok (.if_icmp .le 11, 3) := dk_164 0 11 (dk_at dksJ2_equalsArrayList_2 4 rfl rfl)
theorem dJ2_equalsArrayList_55 : decode cJ2_equalsArrayList 55 = .ok (.new 161, 3) := dk_187 0 161 (dk_at dksJ2_equalsArrayList_2 7 rfl rfl)
theorem dJ2_equalsArrayList_58 : decode cJ2_equalsArrayList 58 = .ok (.dup, 1) := dk_89 (dk_at dksJ2_equalsArrayList_2 10 rfl rfl)
theorem dJ2_equalsArrayList_59 : decode cJ2_equalsArrayList 59 = .ok (.invokespecial 163, 3) := dk_183 0 163 (dk_at dksJ2_equalsArrayList_2 11 rfl rfl)
theorem dJ2_equalsArrayList_62 : decode cJ2_equalsArrayList 62 = .ok (.athrow, 1) := dk_191 (dk_at dksJ2_equalsArrayList_2 14 rfl rfl)
theorem dJ2_equalsArrayList_63 : decode cJ2_equalsArrayList 63 = .ok (.iconst 0, 1) := dk_3 (dk_at dksJ2_equalsArrayList_2 15 rfl rfl)
theorem dJ2_equalsArrayList_64 : decode cJ2_equalsArrayList 64 = .ok (.istore 7, 2) := dk_54 7 (dk_at dksJ2_equalsArrayList_2 16 rfl rfl)
theorem dJ2_equalsArrayList_66 : decode cJ2_equalsArrayList 66 = .ok (.iload 7, 2) := dk_21 7 (dk_at dksJ2_equalsArrayList_2 18 rfl rfl)
theorem dJ2_equalsArrayList_68 : decode cJ2_equalsArrayList 68 = .ok (.iload_n 3, 1) := dk_29 (dk_at dksJ2_equalsArrayList_2 20 rfl rfl)
theorem dJ2_equalsArrayList_69 : decode cJ2_equalsArrayList 69 = .ok (.if_icmp .ge 31, 3) := dk_162 0 31 (dk_at dksJ2_equalsArrayList_2 21 rfl rfl)
theorem dJ2_equalsArrayList_72 : decode cJ2_equalsArrayList 72 = .ok (.aload 6, 2) := dk_25 6 (dk_at dksJ2_equalsArrayList_3 0 rfl rfl)
theorem dJ2_equalsArrayList_74 : decode cJ2_equalsArrayList 74 = .ok (.iload 7, 2) := dk_21 7 (dk_at dksJ2_equalsArrayList_3 2 rfl rfl)
theorem dJ2_equalsArrayList_76 : decode cJ2_equalsArrayList 76 = .ok (.aaload, 1) := dk_50 (dk_at dksJ2_equalsArrayList_3 4 rfl rfl)
theorem dJ2_equalsArrayList_77 : decode cJ2_equalsArrayList 77 = .ok (.aload 5, 2) := dk_25 5 (dk_at dksJ2_equalsArrayList_3 5 rfl rfl)
theorem dJ2_equalsArrayList_79 : decode cJ2_equalsArrayList 79 = .ok (.iload 7, 2) := dk_21 7 (dk_at dksJ2_equalsArrayList_3 7 rfl rfl)
theorem dJ2_equalsArrayList_81 : decode cJ2_equalsArrayList 81 = .ok (.aaload, 1) := dk_50 (dk_at dksJ2_equalsArrayList_3 9 rfl rfl)
theorem dJ2_equalsArrayList_82 : decode cJ2_equalsArrayList 82 = .ok (.invokestatic 177, 3) := dk_184 0 177 (dk_at dksJ2_equalsArrayList_3 10 rfl rfl)
theorem dJ2_equalsArrayList_85 : decode cJ2_equalsArrayList 85 = .ok (.ifCond .ne 9, 3) := dk_154 0 9 (dk_at dksJ2_equalsArrayList_3 13 rfl rfl)
theorem dJ2_equalsArrayList_88 : decode cJ2_equalsArrayList 88 = .ok (.iconst 0, 1) := dk_3 (dk_at dksJ2_equalsArrayList_3 16 rfl rfl)
theorem dJ2_equalsArrayList_89 : decode cJ2_equalsArrayList 89 = .ok (.istore 4, 2) := dk_54 4 (dk_at dksJ2_equalsArrayList_3 17 rfl rfl)
theorem dJ2_equalsArrayList_91 : decode cJ2_equalsArrayList 91 = .ok (.goto 9, 3) := dk_167 0 9 (dk_at dksJ2_equalsArrayList_3 19 rfl rfl)
theorem dJ2_equalsArrayList_94 : decode cJ2_equalsArrayList 94 = .ok (.iinc 7 1, 3) := dk_132 7 1 (dk_at dksJ2_equalsArrayList_4 0 rfl rfl)
theorem dJ2_equalsArrayList_97 : decode cJ2_equalsArrayList 97 = .ok (.goto (-31), 3) := dk_167 255 225 (dk_at dksJ2_equalsArrayList_4 3 rfl rfl)
theorem dJ2_equalsArrayList_100 : decode cJ2_equalsArrayList 100 = .ok (.aload_n 1, 1) := dk_43 (dk_at dksJ2_equalsArrayList_4 6 rfl rfl)
theorem dJ2_equalsArrayList_101 : decode cJ2_equalsArrayList 101 = .ok (.iload_n 2, 1) := dk_28 (dk_at dksJ2_equalsArrayList_4 7 rfl rfl)
theorem dJ2_equalsArrayList_102 : decode cJ2_equalsArrayList 102 = .ok (.invokevirtual 158, 3) := dk_182 0 158 (dk_at dksJ2_equalsArrayList_4 8 rfl rfl)
theorem dJ2_equalsArrayList_105 : decode cJ2_equalsArrayList 105 = .ok (.iload 4, 2) := dk_21 4 (dk_at dksJ2_equalsArrayList_4 11 rfl rfl)
theorem dJ2_equalsArrayList_107 : decode cJ2_equalsArrayList 107 = .ok (.ireturn, 1) := dk_172 (dk_at dksJ2_equalsArrayList_4 13 rfl rfl)
abbrev cJ2_checkForComodification : ByteArray := prog_60_method_35_code
def yJ2_checkForComodification : MethodName := ⟨RJ2, "checkForComodification", "(I)V"⟩
def dkwJ2_checkForComodification_0 : List UInt8 := [42, 180, 0, 63, 27, 159, 0, 11, 187, 0, 161, 89, 183, 0, 163, 191, 177]
abbrev dktJ2_checkForComodification_0 : List UInt8 := dkwJ2_checkForComodification_0 ++ []
theorem dksJ2_checkForComodification_0 : cJ2_checkForComodification.data.toList.drop 0 = dktJ2_checkForComodification_0 := by decide +kernel
theorem dJ2_checkForComodification_0 : decode cJ2_checkForComodification 0 = .ok (.aload_n 0, 1) := dk_42 (dk_at dksJ2_checkForComodification_0 0 rfl rfl)
theorem dJ2_checkForComodification_1 : decode cJ2_checkForComodification 1 = .ok (.getfield 63, 3) := dk_180 0 63 (dk_at dksJ2_checkForComodification_0 1 rfl rfl)
theorem dJ2_checkForComodification_4 : decode cJ2_checkForComodification 4 = .ok (.iload_n 1, 1) := dk_27 (dk_at dksJ2_checkForComodification_0 4 rfl rfl)
theorem dJ2_checkForComodification_5 : decode cJ2_checkForComodification 5 = .ok (.if_icmp .eq 11, 3) := dk_159 0 11 (dk_at dksJ2_checkForComodification_0 5 rfl rfl)
theorem dJ2_checkForComodification_8 : decode cJ2_checkForComodification 8 = .ok (.new 161, 3) := dk_187 0 161 (dk_at dksJ2_checkForComodification_0 8 rfl rfl)
theorem dJ2_checkForComodification_11 : decode cJ2_checkForComodification 11 = .ok (.dup, 1) := dk_89 (dk_at dksJ2_checkForComodification_0 11 rfl rfl)
theorem dJ2_checkForComodification_12 : decode cJ2_checkForComodification 12 = .ok (.invokespecial 163, 3) := dk_183 0 163 (dk_at dksJ2_checkForComodification_0 12 rfl rfl)
theorem dJ2_checkForComodification_15 : decode cJ2_checkForComodification 15 = .ok (.athrow, 1) := dk_191 (dk_at dksJ2_checkForComodification_0 15 rfl rfl)
theorem dJ2_checkForComodification_16 : decode cJ2_checkForComodification 16 = .ok (.return_, 1) := dk_177 (dk_at dksJ2_checkForComodification_0 16 rfl rfl)
abbrev cJ2_equalsRange : ByteArray := prog_60_method_33_code
def yJ2_equalsRange : MethodName := ⟨RJ2, "equalsRange", "(Ljava/util/List;II)Z"⟩
def dkwJ2_equalsRange_3 : List UInt8 := [25, 5, 185, 0, 168, 1, 0, 154, 0, 7, 4, 167, 0, 4, 3, 172]
abbrev dktJ2_equalsRange_3 : List UInt8 := dkwJ2_equalsRange_3 ++ []
def dkwJ2_equalsRange_2 : List UInt8 := [28, 50, 25, 5, 185, 0, 174, 1, 0, 184, 0, 177, 154, 0, 5, 3, 172, 132, 2, 1, 167, 255, 219]
abbrev dktJ2_equalsRange_2 : List UInt8 := dkwJ2_equalsRange_2 ++ dktJ2_equalsRange_3
def dkwJ2_equalsRange_1 : List UInt8 := [185, 0, 164, 1, 0, 58, 5, 28, 29, 162, 0, 38, 25, 5, 185, 0, 168, 1, 0, 153, 0, 20, 25, 4]
abbrev dktJ2_equalsRange_1 : List UInt8 := dkwJ2_equalsRange_1 ++ dktJ2_equalsRange_2
def dkwJ2_equalsRange_0 : List UInt8 := [42, 180, 0, 9, 58, 4, 29, 25, 4, 190, 164, 0, 11, 187, 0, 161, 89, 183, 0, 163, 191, 43]
abbrev dktJ2_equalsRange_0 : List UInt8 := dkwJ2_equalsRange_0 ++ dktJ2_equalsRange_1
theorem dksJ2_equalsRange_0 : cJ2_equalsRange.data.toList.drop 0 = dktJ2_equalsRange_0 := by decide +kernel
theorem dksJ2_equalsRange_1 : cJ2_equalsRange.data.toList.drop 22 = dktJ2_equalsRange_1 := dk_seg dksJ2_equalsRange_0 22 rfl rfl
theorem dksJ2_equalsRange_2 : cJ2_equalsRange.data.toList.drop 46 = dktJ2_equalsRange_2 := dk_seg dksJ2_equalsRange_1 24 rfl rfl
theorem dksJ2_equalsRange_3 : cJ2_equalsRange.data.toList.drop 69 = dktJ2_equalsRange_3 := dk_seg dksJ2_equalsRange_2 23 rfl rfl
theorem dJ2_equalsRange_0 : decode cJ2_equalsRange 0 = .ok (.aload_n 0, 1) := dk_42 (dk_at dksJ2_equalsRange_0 0 rfl rfl)
theorem dJ2_equalsRange_1 : decode cJ2_equalsRange 1 = .ok (.getfield 9, 3) := dk_180 0 9 (dk_at dksJ2_equalsRange_0 1 rfl rfl)
theorem dJ2_equalsRange_4 : decode cJ2_equalsRange 4 = .ok (.astore 4, 2) := dk_58 4 (dk_at dksJ2_equalsRange_0 4 rfl rfl)
theorem dJ2_equalsRange_6 : decode cJ2_equalsRange 6 = .ok (.iload_n 3, 1) := dk_29 (dk_at dksJ2_equalsRange_0 6 rfl rfl)
theorem dJ2_equalsRange_7 : decode cJ2_equalsRange 7 = .ok (.aload 4, 2) := dk_25 4 (dk_at dksJ2_equalsRange_0 7 rfl rfl)
theorem dJ2_equalsRange_9 : decode cJ2_equalsRange 9 = .ok (.arraylength, 1) := dk_190 (dk_at dksJ2_equalsRange_0 9 rfl rfl)
theorem dJ2_equalsRange_10 : decode cJ2_equalsRange 10 = .ok (.if_icmp .le 11, 3) := dk_164 0 11 (dk_at dksJ2_equalsRange_0 10 rfl rfl)
theorem dJ2_equalsRange_13 : decode cJ2_equalsRange 13 = .ok (.new 161, 3) := dk_187 0 161 (dk_at dksJ2_equalsRange_0 13 rfl rfl)
theorem dJ2_equalsRange_16 : decode cJ2_equalsRange 16 = .ok (.dup, 1) := dk_89 (dk_at dksJ2_equalsRange_0 16 rfl rfl)
theorem dJ2_equalsRange_17 : decode cJ2_equalsRange 17 = .ok (.invokespecial 163, 3) := dk_183 0 163 (dk_at dksJ2_equalsRange_0 17 rfl rfl)
theorem dJ2_equalsRange_20 : decode cJ2_equalsRange 20 = .ok (.athrow, 1) := dk_191 (dk_at dksJ2_equalsRange_0 20 rfl rfl)
theorem dJ2_equalsRange_21 : decode cJ2_equalsRange 21 = .ok (.aload_n 1, 1) := dk_43 (dk_at dksJ2_equalsRange_0 21 rfl rfl)
theorem dJ2_equalsRange_22 : decode cJ2_equalsRange 22 = .ok (.invokeinterface 164 1, 5) := by decide +kernel
theorem dJ2_equalsRange_27 : decode cJ2_equalsRange 27 = .ok (.astore 5, 2) := dk_58 5 (dk_at dksJ2_equalsRange_1 5 rfl rfl)
theorem dJ2_equalsRange_29 : decode cJ2_equalsRange 29 = .ok (.iload_n 2, 1) := dk_28 (dk_at dksJ2_equalsRange_1 7 rfl rfl)
theorem dJ2_equalsRange_30 : decode cJ2_equalsRange 30 = .ok (.iload_n 3, 1) := dk_29 (dk_at dksJ2_equalsRange_1 8 rfl rfl)
theorem dJ2_equalsRange_31 : decode cJ2_equalsRange 31 = .ok (.if_icmp .ge 38, 3) := dk_162 0 38 (dk_at dksJ2_equalsRange_1 9 rfl rfl)
theorem dJ2_equalsRange_34 : decode cJ2_equalsRange 34 = .ok (.aload 5, 2) := dk_25 5 (dk_at dksJ2_equalsRange_1 12 rfl rfl)
theorem dJ2_equalsRange_36 : decode cJ2_equalsRange 36 = .ok (.invokeinterface 168 1, 5) := by decide +kernel
theorem dJ2_equalsRange_41 : decode cJ2_equalsRange 41 = .ok (.ifCond .eq 20, 3) := dk_153 0 20 (dk_at dksJ2_equalsRange_1 19 rfl rfl)
theorem dJ2_equalsRange_44 : decode cJ2_equalsRange 44 = .ok (.aload 4, 2) := dk_25 4 (dk_at dksJ2_equalsRange_1 22 rfl rfl)
theorem dJ2_equalsRange_46 : decode cJ2_equalsRange 46 = .ok (.iload_n 2, 1) := dk_28 (dk_at dksJ2_equalsRange_2 0 rfl rfl)
theorem dJ2_equalsRange_47 : decode cJ2_equalsRange 47 = .ok (.aaload, 1) := dk_50 (dk_at dksJ2_equalsRange_2 1 rfl rfl)
theorem dJ2_equalsRange_48 : decode cJ2_equalsRange 48 = .ok (.aload 5, 2) := dk_25 5 (dk_at dksJ2_equalsRange_2 2 rfl rfl)
theorem dJ2_equalsRange_50 : decode cJ2_equalsRange 50 = .ok (.invokeinterface 174 1, 5) := by decide +kernel
theorem dJ2_equalsRange_55 : decode cJ2_equalsRange 55 = .ok (.invokestatic 177, 3) := dk_184 0 177 (dk_at dksJ2_equalsRange_2 9 rfl rfl)
theorem dJ2_equalsRange_58 : decode cJ2_equalsRange 58 = .ok (.ifCond .ne 5, 3) := dk_154 0 5 (dk_at dksJ2_equalsRange_2 12 rfl rfl)
theorem dJ2_equalsRange_61 : decode cJ2_equalsRange 61 = .ok (.iconst 0, 1) := dk_3 (dk_at dksJ2_equalsRange_2 15 rfl rfl)
theorem dJ2_equalsRange_62 : decode cJ2_equalsRange 62 = .ok (.ireturn, 1) := dk_172 (dk_at dksJ2_equalsRange_2 16 rfl rfl)
theorem dJ2_equalsRange_63 : decode cJ2_equalsRange 63 = .ok (.iinc 2 1, 3) := dk_132 2 1 (dk_at dksJ2_equalsRange_2 17 rfl rfl)
theorem dJ2_equalsRange_66 : decode cJ2_equalsRange 66 = .ok (.goto (-37), 3) := dk_167 255 219 (dk_at dksJ2_equalsRange_2 20 rfl rfl)
theorem dJ2_equalsRange_69 : decode cJ2_equalsRange 69 = .ok (.aload 5, 2) := dk_25 5 (dk_at dksJ2_equalsRange_3 0 rfl rfl)
theorem dJ2_equalsRange_71 : decode cJ2_equalsRange 71 = .ok (.invokeinterface 168 1, 5) := by decide +kernel
theorem dJ2_equalsRange_76 : decode cJ2_equalsRange 76 = .ok (.ifCond .ne 7, 3) := dk_154 0 7 (dk_at dksJ2_equalsRange_3 7 rfl rfl)
theorem dJ2_equalsRange_79 : decode cJ2_equalsRange 79 = .ok (.iconst 1, 1) := dk_4 (dk_at dksJ2_equalsRange_3 10 rfl rfl)
theorem dJ2_equalsRange_80 : decode cJ2_equalsRange 80 = .ok (.goto 4, 3) := dk_167 0 4 (dk_at dksJ2_equalsRange_3 11 rfl rfl)
theorem dJ2_equalsRange_83 : decode cJ2_equalsRange 83 = .ok (.iconst 0, 1) := dk_3 (dk_at dksJ2_equalsRange_3 14 rfl rfl)
theorem dJ2_equalsRange_84 : decode cJ2_equalsRange 84 = .ok (.ireturn, 1) := dk_172 (dk_at dksJ2_equalsRange_3 15 rfl rfl)
abbrev cJ2_iterator : ByteArray := prog_60_method_55_code
def yJ2_iterator : MethodName := ⟨RJ2, "iterator", "()Ljava/util/Iterator;"⟩
def dkwJ2_iterator_0 : List UInt8 := [187, 1, 11, 89, 42, 183, 1, 13, 176]
abbrev dktJ2_iterator_0 : List UInt8 := dkwJ2_iterator_0 ++ []
theorem dksJ2_iterator_0 : cJ2_iterator.data.toList.drop 0 = dktJ2_iterator_0 := by decide +kernel
theorem dJ2_iterator_0 : decode cJ2_iterator 0 = .ok (.new 267, 3) := dk_187 1 11 (dk_at dksJ2_iterator_0 0 rfl rfl)
theorem dJ2_iterator_3 : decode cJ2_iterator 3 = .ok (.dup, 1) := dk_89 (dk_at dksJ2_iterator_0 3 rfl rfl)
theorem dJ2_iterator_4 : decode cJ2_iterator 4 = .ok (.aload_n 0, 1) := dk_42 (dk_at dksJ2_iterator_0 4 rfl rfl)
theorem dJ2_iterator_5 : decode cJ2_iterator 5 = .ok (.invokespecial 269, 3) := dk_183 1 13 (dk_at dksJ2_iterator_0 5 rfl rfl)
theorem dJ2_iterator_8 : decode cJ2_iterator 8 = .ok (.areturn, 1) := dk_176 (dk_at dksJ2_iterator_0 8 rfl rfl)
abbrev cJ2_isEmpty : ByteArray := prog_60_method_9_code
def yJ2_isEmpty : MethodName := ⟨RJ2, "isEmpty", "()Z"⟩
def dkwJ2_isEmpty_0 : List UInt8 := [42, 180, 0, 48, 154, 0, 7, 4, 167, 0, 4, 3, 172]
abbrev dktJ2_isEmpty_0 : List UInt8 := dkwJ2_isEmpty_0 ++ []
theorem dksJ2_isEmpty_0 : cJ2_isEmpty.data.toList.drop 0 = dktJ2_isEmpty_0 := by decide +kernel
theorem dJ2_isEmpty_0 : decode cJ2_isEmpty 0 = .ok (.aload_n 0, 1) := dk_42 (dk_at dksJ2_isEmpty_0 0 rfl rfl)
theorem dJ2_isEmpty_1 : decode cJ2_isEmpty 1 = .ok (.getfield 48, 3) := dk_180 0 48 (dk_at dksJ2_isEmpty_0 1 rfl rfl)
theorem dJ2_isEmpty_4 : decode cJ2_isEmpty 4 = .ok (.ifCond .ne 7, 3) := dk_154 0 7 (dk_at dksJ2_isEmpty_0 4 rfl rfl)
theorem dJ2_isEmpty_7 : decode cJ2_isEmpty 7 = .ok (.iconst 1, 1) := dk_4 (dk_at dksJ2_isEmpty_0 7 rfl rfl)
theorem dJ2_isEmpty_8 : decode cJ2_isEmpty 8 = .ok (.goto 4, 3) := dk_167 0 4 (dk_at dksJ2_isEmpty_0 8 rfl rfl)
theorem dJ2_isEmpty_11 : decode cJ2_isEmpty 11 = .ok (.iconst 0, 1) := dk_3 (dk_at dksJ2_isEmpty_0 11 rfl rfl)
theorem dJ2_isEmpty_12 : decode cJ2_isEmpty 12 = .ok (.ireturn, 1) := dk_172 (dk_at dksJ2_isEmpty_0 12 rfl rfl)
abbrev cJ2_remove : ByteArray := prog_60_method_29_code
def yJ2_remove : MethodName := ⟨RJ2, "remove", "(I)Ljava/lang/Object;"⟩
def dkwJ2_remove_1 : List UInt8 := [45, 176]
abbrev dktJ2_remove_1 : List UInt8 := dkwJ2_remove_1 ++ []
def dkwJ2_remove_0 : List UInt8 := [27, 42, 180, 0, 48, 184, 0, 118, 87, 42, 180, 0, 9, 77, 44, 27, 50, 78, 42, 44, 27, 182, 0, 144]
abbrev dktJ2_remove_0 : List UInt8 := dkwJ2_remove_0 ++ dktJ2_remove_1
theorem dksJ2_remove_0 : cJ2_remove.data.toList.drop 0 = dktJ2_remove_0 := by decide +kernel
theorem dksJ2_remove_1 : cJ2_remove.data.toList.drop 24 = dktJ2_remove_1 := dk_seg dksJ2_remove_0 24 rfl rfl
theorem dJ2_remove_0 : decode cJ2_remove 0 = .ok (.iload_n 1, 1) := dk_27 (dk_at dksJ2_remove_0 0 rfl rfl)
theorem dJ2_remove_1 : decode cJ2_remove 1 = .ok (.aload_n 0, 1) := dk_42 (dk_at dksJ2_remove_0 1 rfl rfl)
theorem dJ2_remove_2 : decode cJ2_remove 2 = .ok (.getfield 48, 3) := dk_180 0 48 (dk_at dksJ2_remove_0 2 rfl rfl)
theorem dJ2_remove_5 : decode cJ2_remove 5 = .ok (.invokestatic 118, 3) := dk_184 0 118 (dk_at dksJ2_remove_0 5 rfl rfl)
theorem dJ2_remove_8 : decode cJ2_remove 8 = .ok (.pop, 1) := dk_87 (dk_at dksJ2_remove_0 8 rfl rfl)
theorem dJ2_remove_9 : decode cJ2_remove 9 = .ok (.aload_n 0, 1) := dk_42 (dk_at dksJ2_remove_0 9 rfl rfl)
theorem dJ2_remove_10 : decode cJ2_remove 10 = .ok (.getfield 9, 3) := dk_180 0 9 (dk_at dksJ2_remove_0 10 rfl rfl)
theorem dJ2_remove_13 : decode cJ2_remove 13 = .ok (.astore_n 2, 1) := dk_77 (dk_at dksJ2_remove_0 13 rfl rfl)
theorem dJ2_remove_14 : decode cJ2_remove 14 = .ok (.aload_n 2, 1) := dk_44 (dk_at dksJ2_remove_0 14 rfl rfl)
theorem dJ2_remove_15 : decode cJ2_remove 15 = .ok (.iload_n 1, 1) := dk_27 (dk_at dksJ2_remove_0 15 rfl rfl)
theorem dJ2_remove_16 : decode cJ2_remove 16 = .ok (.aaload, 1) := dk_50 (dk_at dksJ2_remove_0 16 rfl rfl)
theorem dJ2_remove_17 : decode cJ2_remove 17 = .ok (.astore_n 3, 1) := dk_78 (dk_at dksJ2_remove_0 17 rfl rfl)
theorem dJ2_remove_18 : decode cJ2_remove 18 = .ok (.aload_n 0, 1) := dk_42 (dk_at dksJ2_remove_0 18 rfl rfl)
theorem dJ2_remove_19 : decode cJ2_remove 19 = .ok (.aload_n 2, 1) := dk_44 (dk_at dksJ2_remove_0 19 rfl rfl)
theorem dJ2_remove_20 : decode cJ2_remove 20 = .ok (.iload_n 1, 1) := dk_27 (dk_at dksJ2_remove_0 20 rfl rfl)
theorem dJ2_remove_21 : decode cJ2_remove 21 = .ok (.invokevirtual 144, 3) := dk_182 0 144 (dk_at dksJ2_remove_0 21 rfl rfl)
theorem dJ2_remove_24 : decode cJ2_remove 24 = .ok (.aload_n 3, 1) := dk_45 (dk_at dksJ2_remove_1 0 rfl rfl)
theorem dJ2_remove_25 : decode cJ2_remove 25 = .ok (.areturn, 1) := dk_176 (dk_at dksJ2_remove_1 1 rfl rfl)
abbrev cJ2_fastRemove : ByteArray := prog_60_method_39_code
def yJ2_fastRemove : MethodName := ⟨RJ2, "fastRemove", "([Ljava/lang/Object;I)V"⟩
def dkwJ2_fastRemove_1 : List UInt8 := [4, 96, 43, 28, 29, 28, 100, 184, 0, 112, 43, 42, 29, 90, 181, 0, 48, 1, 83, 177]
abbrev dktJ2_fastRemove_1 : List UInt8 := dkwJ2_fastRemove_1 ++ []
def dkwJ2_fastRemove_0 : List UInt8 := [42, 89, 180, 0, 63, 4, 96, 181, 0, 63, 42, 180, 0, 48, 4, 100, 89, 62, 28, 164, 0, 15, 43, 28]
abbrev dktJ2_fastRemove_0 : List UInt8 := dkwJ2_fastRemove_0 ++ dktJ2_fastRemove_1
theorem dksJ2_fastRemove_0 : cJ2_fastRemove.data.toList.drop 0 = dktJ2_fastRemove_0 := by decide +kernel
theorem dksJ2_fastRemove_1 : cJ2_fastRemove.data.toList.drop 24 = dktJ2_fastRemove_1 := dk_seg dksJ2_fastRemove_0 24 rfl rfl
theorem dJ2_fastRemove_0 : decode cJ2_fastRemove 0 = .ok (.aload_n 0, 1) := dk_42 (dk_at dksJ2_fastRemove_0 0 rfl rfl)
theorem dJ2_fastRemove_1 : decode cJ2_fastRemove 1 = .ok (.dup, 1) := dk_89 (dk_at dksJ2_fastRemove_0 1 rfl rfl)
theorem dJ2_fastRemove_2 : decode cJ2_fastRemove 2 = .ok (.getfield 63, 3) := dk_180 0 63 (dk_at dksJ2_fastRemove_0 2 rfl rfl)
theorem dJ2_fastRemove_5 : decode cJ2_fastRemove 5 = .ok (.iconst 1, 1) := dk_4 (dk_at dksJ2_fastRemove_0 5 rfl rfl)
theorem dJ2_fastRemove_6 : decode cJ2_fastRemove 6 = .ok (.iadd, 1) := dk_96 (dk_at dksJ2_fastRemove_0 6 rfl rfl)
theorem dJ2_fastRemove_7 : decode cJ2_fastRemove 7 = .ok (.putfield 63, 3) := dk_181 0 63 (dk_at dksJ2_fastRemove_0 7 rfl rfl)
theorem dJ2_fastRemove_10 : decode cJ2_fastRemove 10 = .ok (.aload_n 0, 1) := dk_42 (dk_at dksJ2_fastRemove_0 10 rfl rfl)
theorem dJ2_fastRemove_11 : decode cJ2_fastRemove 11 = .ok (.getfield 48, 3) := dk_180 0 48 (dk_at dksJ2_fastRemove_0 11 rfl rfl)
theorem dJ2_fastRemove_14 : decode cJ2_fastRemove 14 = .ok (.iconst 1, 1) := dk_4 (dk_at dksJ2_fastRemove_0 14 rfl rfl)
theorem dJ2_fastRemove_15 : decode cJ2_fastRemove 15 = .ok (.isub, 1) := dk_100 (dk_at dksJ2_fastRemove_0 15 rfl rfl)
theorem dJ2_fastRemove_16 : decode cJ2_fastRemove 16 = .ok (.dup, 1) := dk_89 (dk_at dksJ2_fastRemove_0 16 rfl rfl)
theorem dJ2_fastRemove_17 : decode cJ2_fastRemove 17 = .ok (.istore_n 3, 1) := dk_62 (dk_at dksJ2_fastRemove_0 17 rfl rfl)
theorem dJ2_fastRemove_18 : decode cJ2_fastRemove 18 = .ok (.iload_n 2, 1) := dk_28 (dk_at dksJ2_fastRemove_0 18 rfl rfl)
theorem dJ2_fastRemove_19 : decode cJ2_fastRemove 19 = .ok (.if_icmp .le 15, 3) := dk_164 0 15 (dk_at dksJ2_fastRemove_0 19 rfl rfl)
theorem dJ2_fastRemove_22 : decode cJ2_fastRemove 22 = .ok (.aload_n 1, 1) := dk_43 (dk_at dksJ2_fastRemove_0 22 rfl rfl)
theorem dJ2_fastRemove_23 : decode cJ2_fastRemove 23 = .ok (.iload_n 2, 1) := dk_28 (dk_at dksJ2_fastRemove_0 23 rfl rfl)
theorem dJ2_fastRemove_24 : decode cJ2_fastRemove 24 = .ok (.iconst 1, 1) := dk_4 (dk_at dksJ2_fastRemove_1 0 rfl rfl)
theorem dJ2_fastRemove_25 : decode cJ2_fastRemove 25 = .ok (.iadd, 1) := dk_96 (dk_at dksJ2_fastRemove_1 1 rfl rfl)
theorem dJ2_fastRemove_26 : decode cJ2_fastRemove 26 = .ok (.aload_n 1, 1) := dk_43 (dk_at dksJ2_fastRemove_1 2 rfl rfl)
theorem dJ2_fastRemove_27 : decode cJ2_fastRemove 27 = .ok (.iload_n 2, 1) := dk_28 (dk_at dksJ2_fastRemove_1 3 rfl rfl)
theorem dJ2_fastRemove_28 : decode cJ2_fastRemove 28 = .ok (.iload_n 3, 1) := dk_29 (dk_at dksJ2_fastRemove_1 4 rfl rfl)
theorem dJ2_fastRemove_29 : decode cJ2_fastRemove 29 = .ok (.iload_n 2, 1) := dk_28 (dk_at dksJ2_fastRemove_1 5 rfl rfl)
theorem dJ2_fastRemove_30 : decode cJ2_fastRemove 30 = .ok (.isub, 1) := dk_100 (dk_at dksJ2_fastRemove_1 6 rfl rfl)
theorem dJ2_fastRemove_31 : decode cJ2_fastRemove 31 = .ok (.invokestatic 112, 3) := dk_184 0 112 (dk_at dksJ2_fastRemove_1 7 rfl rfl)
theorem dJ2_fastRemove_34 : decode cJ2_fastRemove 34 = .ok (.aload_n 1, 1) := dk_43 (dk_at dksJ2_fastRemove_1 10 rfl rfl)
theorem dJ2_fastRemove_35 : decode cJ2_fastRemove 35 = .ok (.aload_n 0, 1) := dk_42 (dk_at dksJ2_fastRemove_1 11 rfl rfl)
theorem dJ2_fastRemove_36 : decode cJ2_fastRemove 36 = .ok (.iload_n 3, 1) := dk_29 (dk_at dksJ2_fastRemove_1 12 rfl rfl)
theorem dJ2_fastRemove_37 : decode cJ2_fastRemove 37 = .ok (.dup_x1, 1) := dk_90 (dk_at dksJ2_fastRemove_1 13 rfl rfl)
theorem dJ2_fastRemove_38 : decode cJ2_fastRemove 38 = .ok (.putfield 48, 3) := dk_181 0 48 (dk_at dksJ2_fastRemove_1 14 rfl rfl)
theorem dJ2_fastRemove_41 : decode cJ2_fastRemove 41 = .ok (.aconst_null, 1) := dk_1 (dk_at dksJ2_fastRemove_1 17 rfl rfl)
theorem dJ2_fastRemove_42 : decode cJ2_fastRemove 42 = .ok (.aastore, 1) := dk_83 (dk_at dksJ2_fastRemove_1 18 rfl rfl)
theorem dJ2_fastRemove_43 : decode cJ2_fastRemove 43 = .ok (.return_, 1) := dk_177 (dk_at dksJ2_fastRemove_1 19 rfl rfl)
abbrev cJ2_add_3 : ByteArray := prog_60_method_26_code
def yJ2_add_3 : MethodName := ⟨RJ2, "add", "(ILjava/lang/Object;)V"⟩
def dkwJ2_add_3_2 : List UInt8 := [29, 27, 100, 184, 0, 112, 25, 4, 27, 44, 83, 42, 29, 4, 96, 181, 0, 48, 177]
abbrev dktJ2_add_3_2 : List UInt8 := dkwJ2_add_3_2 ++ []
def dkwJ2_add_3_1 : List UInt8 := [180, 0, 9, 89, 58, 4, 190, 160, 0, 9, 42, 182, 0, 129, 58, 4, 25, 4, 27, 25, 4, 27, 4, 96]
abbrev dktJ2_add_3_1 : List UInt8 := dkwJ2_add_3_1 ++ dktJ2_add_3_2
def dkwJ2_add_3_0 : List UInt8 := [42, 27, 182, 0, 135, 42, 89, 180, 0, 63, 4, 96, 181, 0, 63, 42, 180, 0, 48, 89, 62, 42]
abbrev dktJ2_add_3_0 : List UInt8 := dkwJ2_add_3_0 ++ dktJ2_add_3_1
theorem dksJ2_add_3_0 : cJ2_add_3.data.toList.drop 0 = dktJ2_add_3_0 := by decide +kernel
theorem dksJ2_add_3_1 : cJ2_add_3.data.toList.drop 22 = dktJ2_add_3_1 := dk_seg dksJ2_add_3_0 22 rfl rfl
theorem dksJ2_add_3_2 : cJ2_add_3.data.toList.drop 46 = dktJ2_add_3_2 := dk_seg dksJ2_add_3_1 24 rfl rfl
theorem dJ2_add_3_0 : decode cJ2_add_3 0 = .ok (.aload_n 0, 1) := dk_42 (dk_at dksJ2_add_3_0 0 rfl rfl)
theorem dJ2_add_3_1 : decode cJ2_add_3 1 = .ok (.iload_n 1, 1) := dk_27 (dk_at dksJ2_add_3_0 1 rfl rfl)
theorem dJ2_add_3_2 : decode cJ2_add_3 2 = .ok (.invokevirtual 135, 3) := dk_182 0 135 (dk_at dksJ2_add_3_0 2 rfl rfl)
theorem dJ2_add_3_5 : decode cJ2_add_3 5 = .ok (.aload_n 0, 1) := dk_42 (dk_at dksJ2_add_3_0 5 rfl rfl)
theorem dJ2_add_3_6 : decode cJ2_add_3 6 = .ok (.dup, 1) := dk_89 (dk_at dksJ2_add_3_0 6 rfl rfl)
theorem dJ2_add_3_7 : decode cJ2_add_3 7 = .ok (.getfield 63, 3) := dk_180 0 63 (dk_at dksJ2_add_3_0 7 rfl rfl)
theorem dJ2_add_3_10 : decode cJ2_add_3 10 = .ok (.iconst 1, 1) := dk_4 (dk_at dksJ2_add_3_0 10 rfl rfl)
theorem dJ2_add_3_11 : decode cJ2_add_3 11 = .ok (.iadd, 1) := dk_96 (dk_at dksJ2_add_3_0 11 rfl rfl)
theorem dJ2_add_3_12 : decode cJ2_add_3 12 = .ok (.putfield 63, 3) := dk_181 0 63 (dk_at dksJ2_add_3_0 12 rfl rfl)
theorem dJ2_add_3_15 : decode cJ2_add_3 15 = .ok (.aload_n 0, 1) := dk_42 (dk_at dksJ2_add_3_0 15 rfl rfl)
theorem dJ2_add_3_16 : decode cJ2_add_3 16 = .ok (.getfield 48, 3) := dk_180 0 48 (dk_at dksJ2_add_3_0 16 rfl rfl)
theorem dJ2_add_3_19 : decode cJ2_add_3 19 = .ok (.dup, 1) := dk_89 (dk_at dksJ2_add_3_0 19 rfl rfl)
theorem dJ2_add_3_20 : decode cJ2_add_3 20 = .ok (.istore_n 3, 1) := dk_62 (dk_at dksJ2_add_3_0 20 rfl rfl)
theorem dJ2_add_3_21 : decode cJ2_add_3 21 = .ok (.aload_n 0, 1) := dk_42 (dk_at dksJ2_add_3_0 21 rfl rfl)
theorem dJ2_add_3_22 : decode cJ2_add_3 22 = .ok (.getfield 9, 3) := dk_180 0 9 (dk_at dksJ2_add_3_1 0 rfl rfl)
theorem dJ2_add_3_25 : decode cJ2_add_3 25 = .ok (.dup, 1) := dk_89 (dk_at dksJ2_add_3_1 3 rfl rfl)
theorem dJ2_add_3_26 : decode cJ2_add_3 26 = .ok (.astore 4, 2) := dk_58 4 (dk_at dksJ2_add_3_1 4 rfl rfl)
theorem dJ2_add_3_28 : decode cJ2_add_3 28 = .ok (.arraylength, 1) := dk_190 (dk_at dksJ2_add_3_1 6 rfl rfl)
theorem dJ2_add_3_29 : decode cJ2_add_3 29 = .ok (.if_icmp .ne 9, 3) := dk_160 0 9 (dk_at dksJ2_add_3_1 7 rfl rfl)
theorem dJ2_add_3_32 : decode cJ2_add_3 32 = .ok (.aload_n 0, 1) := dk_42 (dk_at dksJ2_add_3_1 10 rfl rfl)
theorem dJ2_add_3_33 : decode cJ2_add_3 33 = .ok (.invokevirtual 129, 3) := dk_182 0 129 (dk_at dksJ2_add_3_1 11 rfl rfl)
theorem dJ2_add_3_36 : decode cJ2_add_3 36 = .ok (.astore 4, 2) := dk_58 4 (dk_at dksJ2_add_3_1 14 rfl rfl)
theorem dJ2_add_3_38 : decode cJ2_add_3 38 = .ok (.aload 4, 2) := dk_25 4 (dk_at dksJ2_add_3_1 16 rfl rfl)
theorem dJ2_add_3_40 : decode cJ2_add_3 40 = .ok (.iload_n 1, 1) := dk_27 (dk_at dksJ2_add_3_1 18 rfl rfl)
theorem dJ2_add_3_41 : decode cJ2_add_3 41 = .ok (.aload 4, 2) := dk_25 4 (dk_at dksJ2_add_3_1 19 rfl rfl)
theorem dJ2_add_3_43 : decode cJ2_add_3 43 = .ok (.iload_n 1, 1) := dk_27 (dk_at dksJ2_add_3_1 21 rfl rfl)
theorem dJ2_add_3_44 : decode cJ2_add_3 44 = .ok (.iconst 1, 1) := dk_4 (dk_at dksJ2_add_3_1 22 rfl rfl)
theorem dJ2_add_3_45 : decode cJ2_add_3 45 = .ok (.iadd, 1) := dk_96 (dk_at dksJ2_add_3_1 23 rfl rfl)
theorem dJ2_add_3_46 : decode cJ2_add_3 46 = .ok (.iload_n 3, 1) := dk_29 (dk_at dksJ2_add_3_2 0 rfl rfl)
theorem dJ2_add_3_47 : decode cJ2_add_3 47 = .ok (.iload_n 1, 1) := dk_27 (dk_at dksJ2_add_3_2 1 rfl rfl)
theorem dJ2_add_3_48 : decode cJ2_add_3 48 = .ok (.isub, 1) := dk_100 (dk_at dksJ2_add_3_2 2 rfl rfl)
theorem dJ2_add_3_49 : decode cJ2_add_3 49 = .ok (.invokestatic 112, 3) := dk_184 0 112 (dk_at dksJ2_add_3_2 3 rfl rfl)
theorem dJ2_add_3_52 : decode cJ2_add_3 52 = .ok (.aload 4, 2) := dk_25 4 (dk_at dksJ2_add_3_2 6 rfl rfl)
theorem dJ2_add_3_54 : decode cJ2_add_3 54 = .ok (.iload_n 1, 1) := dk_27 (dk_at dksJ2_add_3_2 8 rfl rfl)
theorem dJ2_add_3_55 : decode cJ2_add_3 55 = .ok (.aload_n 2, 1) := dk_44 (dk_at dksJ2_add_3_2 9 rfl rfl)
theorem dJ2_add_3_56 : decode cJ2_add_3 56 = .ok (.aastore, 1) := dk_83 (dk_at dksJ2_add_3_2 10 rfl rfl)
theorem dJ2_add_3_57 : decode cJ2_add_3 57 = .ok (.aload_n 0, 1) := dk_42 (dk_at dksJ2_add_3_2 11 rfl rfl)
theorem dJ2_add_3_58 : decode cJ2_add_3 58 = .ok (.iload_n 3, 1) := dk_29 (dk_at dksJ2_add_3_2 12 rfl rfl)
theorem dJ2_add_3_59 : decode cJ2_add_3 59 = .ok (.iconst 1, 1) := dk_4 (dk_at dksJ2_add_3_2 13 rfl rfl)
theorem dJ2_add_3_60 : decode cJ2_add_3 60 = .ok (.iadd, 1) := dk_96 (dk_at dksJ2_add_3_2 14 rfl rfl)
theorem dJ2_add_3_61 : decode cJ2_add_3 61 = .ok (.putfield 48, 3) := dk_181 0 48 (dk_at dksJ2_add_3_2 15 rfl rfl)
theorem dJ2_add_3_64 : decode cJ2_add_3 64 = .ok (.return_, 1) := dk_177 (dk_at dksJ2_add_3_2 18 rfl rfl)
abbrev cJ2_rangeCheckForAdd : ByteArray := prog_60_method_45_code
def yJ2_rangeCheckForAdd : MethodName := ⟨RJ2, "rangeCheckForAdd", "(I)V"⟩
def dkwJ2_rangeCheckForAdd_1 : List UInt8 := [191, 177]
abbrev dktJ2_rangeCheckForAdd_1 : List UInt8 := dkwJ2_rangeCheckForAdd_1 ++ []
def dkwJ2_rangeCheckForAdd_0 : List UInt8 := [27, 42, 180, 0, 48, 163, 0, 7, 27, 156, 0, 16, 187, 0, 187, 89, 42, 27, 182, 0, 198, 183, 0, 193]
abbrev dktJ2_rangeCheckForAdd_0 : List UInt8 := dkwJ2_rangeCheckForAdd_0 ++ dktJ2_rangeCheckForAdd_1
theorem dksJ2_rangeCheckForAdd_0 : cJ2_rangeCheckForAdd.data.toList.drop 0 = dktJ2_rangeCheckForAdd_0 := by decide +kernel
theorem dksJ2_rangeCheckForAdd_1 : cJ2_rangeCheckForAdd.data.toList.drop 24 = dktJ2_rangeCheckForAdd_1 := dk_seg dksJ2_rangeCheckForAdd_0 24 rfl rfl
theorem dJ2_rangeCheckForAdd_0 : decode cJ2_rangeCheckForAdd 0 = .ok (.iload_n 1, 1) := dk_27 (dk_at dksJ2_rangeCheckForAdd_0 0 rfl rfl)
theorem dJ2_rangeCheckForAdd_1 : decode cJ2_rangeCheckForAdd 1 = .ok (.aload_n 0, 1) := dk_42 (dk_at dksJ2_rangeCheckForAdd_0 1 rfl rfl)
theorem dJ2_rangeCheckForAdd_2 : decode cJ2_rangeCheckForAdd 2 = .ok (.getfield 48, 3) := dk_180 0 48 (dk_at dksJ2_rangeCheckForAdd_0 2 rfl rfl)
theorem dJ2_rangeCheckForAdd_5 : decode cJ2_rangeCheckForAdd 5 = .ok (.if_icmp .gt 7, 3) := dk_163 0 7 (dk_at dksJ2_rangeCheckForAdd_0 5 rfl rfl)
theorem dJ2_rangeCheckForAdd_8 : decode cJ2_rangeCheckForAdd 8 = .ok (.iload_n 1, 1) := dk_27 (dk_at dksJ2_rangeCheckForAdd_0 8 rfl rfl)
theorem dJ2_rangeCheckForAdd_9 : decode cJ2_rangeCheckForAdd 9 = .ok (.ifCond .ge 16, 3) := dk_156 0 16 (dk_at dksJ2_rangeCheckForAdd_0 9 rfl rfl)
theorem dJ2_rangeCheckForAdd_12 : decode cJ2_rangeCheckForAdd 12 = .ok (.new 187, 3) := dk_187 0 187 (dk_at dksJ2_rangeCheckForAdd_0 12 rfl rfl)
theorem dJ2_rangeCheckForAdd_15 : decode cJ2_rangeCheckForAdd 15 = .ok (.dup, 1) := dk_89 (dk_at dksJ2_rangeCheckForAdd_0 15 rfl rfl)
theorem dJ2_rangeCheckForAdd_16 : decode cJ2_rangeCheckForAdd 16 = .ok (.aload_n 0, 1) := dk_42 (dk_at dksJ2_rangeCheckForAdd_0 16 rfl rfl)
theorem dJ2_rangeCheckForAdd_17 : decode cJ2_rangeCheckForAdd 17 = .ok (.iload_n 1, 1) := dk_27 (dk_at dksJ2_rangeCheckForAdd_0 17 rfl rfl)
theorem dJ2_rangeCheckForAdd_18 : decode cJ2_rangeCheckForAdd 18 = .ok (.invokevirtual 198, 3) := dk_182 0 198 (dk_at dksJ2_rangeCheckForAdd_0 18 rfl rfl)
theorem dJ2_rangeCheckForAdd_21 : decode cJ2_rangeCheckForAdd 21 = .ok (.invokespecial 193, 3) := dk_183 0 193 (dk_at dksJ2_rangeCheckForAdd_0 21 rfl rfl)
theorem dJ2_rangeCheckForAdd_24 : decode cJ2_rangeCheckForAdd 24 = .ok (.athrow, 1) := dk_191 (dk_at dksJ2_rangeCheckForAdd_1 0 rfl rfl)
theorem dJ2_rangeCheckForAdd_25 : decode cJ2_rangeCheckForAdd 25 = .ok (.return_, 1) := dk_177 (dk_at dksJ2_rangeCheckForAdd_1 1 rfl rfl)
abbrev cJ2_outOfBoundsMsg : ByteArray := prog_60_method_46_code
def yJ2_outOfBoundsMsg : MethodName := ⟨RJ2, "outOfBoundsMsg", "(I)Ljava/lang/String;"⟩
def dkwJ2_outOfBoundsMsg_1 : List UInt8 := [180, 0, 48, 182, 0, 29, 182, 0, 32, 176]
abbrev dktJ2_outOfBoundsMsg_1 : List UInt8 := dkwJ2_outOfBoundsMsg_1 ++ []
def dkwJ2_outOfBoundsMsg_0 : List UInt8 := [187, 0, 20, 89, 183, 0, 22, 18, 201, 182, 0, 25, 27, 182, 0, 29, 18, 203, 182, 0, 25, 42]
abbrev dktJ2_outOfBoundsMsg_0 : List UInt8 := dkwJ2_outOfBoundsMsg_0 ++ dktJ2_outOfBoundsMsg_1
theorem dksJ2_outOfBoundsMsg_0 : cJ2_outOfBoundsMsg.data.toList.drop 0 = dktJ2_outOfBoundsMsg_0 := by decide +kernel
theorem dksJ2_outOfBoundsMsg_1 : cJ2_outOfBoundsMsg.data.toList.drop 22 = dktJ2_outOfBoundsMsg_1 := dk_seg dksJ2_outOfBoundsMsg_0 22 rfl rfl
theorem dJ2_outOfBoundsMsg_0 : decode cJ2_outOfBoundsMsg 0 = .ok (.new 20, 3) := dk_187 0 20 (dk_at dksJ2_outOfBoundsMsg_0 0 rfl rfl)
theorem dJ2_outOfBoundsMsg_3 : decode cJ2_outOfBoundsMsg 3 = .ok (.dup, 1) := dk_89 (dk_at dksJ2_outOfBoundsMsg_0 3 rfl rfl)
theorem dJ2_outOfBoundsMsg_4 : decode cJ2_outOfBoundsMsg 4 = .ok (.invokespecial 22, 3) := dk_183 0 22 (dk_at dksJ2_outOfBoundsMsg_0 4 rfl rfl)
theorem dJ2_outOfBoundsMsg_7 : decode cJ2_outOfBoundsMsg 7 = .ok (.ldc 201, 2) := dk_18 201 (dk_at dksJ2_outOfBoundsMsg_0 7 rfl rfl)
theorem dJ2_outOfBoundsMsg_9 : decode cJ2_outOfBoundsMsg 9 = .ok (.invokevirtual 25, 3) := dk_182 0 25 (dk_at dksJ2_outOfBoundsMsg_0 9 rfl rfl)
theorem dJ2_outOfBoundsMsg_12 : decode cJ2_outOfBoundsMsg 12 = .ok (.iload_n 1, 1) := dk_27 (dk_at dksJ2_outOfBoundsMsg_0 12 rfl rfl)
theorem dJ2_outOfBoundsMsg_13 : decode cJ2_outOfBoundsMsg 13 = .ok (.invokevirtual 29, 3) := dk_182 0 29 (dk_at dksJ2_outOfBoundsMsg_0 13 rfl rfl)
theorem dJ2_outOfBoundsMsg_16 : decode cJ2_outOfBoundsMsg 16 = .ok (.ldc 203, 2) := dk_18 203 (dk_at dksJ2_outOfBoundsMsg_0 16 rfl rfl)
theorem dJ2_outOfBoundsMsg_18 : decode cJ2_outOfBoundsMsg 18 = .ok (.invokevirtual 25, 3) := dk_182 0 25 (dk_at dksJ2_outOfBoundsMsg_0 18 rfl rfl)
theorem dJ2_outOfBoundsMsg_21 : decode cJ2_outOfBoundsMsg 21 = .ok (.aload_n 0, 1) := dk_42 (dk_at dksJ2_outOfBoundsMsg_0 21 rfl rfl)
theorem dJ2_outOfBoundsMsg_22 : decode cJ2_outOfBoundsMsg 22 = .ok (.getfield 48, 3) := dk_180 0 48 (dk_at dksJ2_outOfBoundsMsg_1 0 rfl rfl)
theorem dJ2_outOfBoundsMsg_25 : decode cJ2_outOfBoundsMsg 25 = .ok (.invokevirtual 29, 3) := dk_182 0 29 (dk_at dksJ2_outOfBoundsMsg_1 3 rfl rfl)
theorem dJ2_outOfBoundsMsg_28 : decode cJ2_outOfBoundsMsg 28 = .ok (.invokevirtual 32, 3) := dk_182 0 32 (dk_at dksJ2_outOfBoundsMsg_1 6 rfl rfl)
theorem dJ2_outOfBoundsMsg_31 : decode cJ2_outOfBoundsMsg 31 = .ok (.areturn, 1) := dk_176 (dk_at dksJ2_outOfBoundsMsg_1 9 rfl rfl)
abbrev cJ2_indexOf : ByteArray := prog_60_method_11_code
def yJ2_indexOf : MethodName := ⟨RJ2, "indexOf", "(Ljava/lang/Object;)I"⟩
def dkwJ2_indexOf_0 : List UInt8 := [42, 43, 3, 42, 180, 0, 48, 182, 0, 89, 172]
abbrev dktJ2_indexOf_0 : List UInt8 := dkwJ2_indexOf_0 ++ []
theorem dksJ2_indexOf_0 : cJ2_indexOf.data.toList.drop 0 = dktJ2_indexOf_0 := by decide +kernel
theorem dJ2_indexOf_0 : decode cJ2_indexOf 0 = .ok (.aload_n 0, 1) := dk_42 (dk_at dksJ2_indexOf_0 0 rfl rfl)
theorem dJ2_indexOf_1 : decode cJ2_indexOf 1 = .ok (.aload_n 1, 1) := dk_43 (dk_at dksJ2_indexOf_0 1 rfl rfl)
theorem dJ2_indexOf_2 : decode cJ2_indexOf 2 = .ok (.iconst 0, 1) := dk_3 (dk_at dksJ2_indexOf_0 2 rfl rfl)
theorem dJ2_indexOf_3 : decode cJ2_indexOf 3 = .ok (.aload_n 0, 1) := dk_42 (dk_at dksJ2_indexOf_0 3 rfl rfl)
theorem dJ2_indexOf_4 : decode cJ2_indexOf 4 = .ok (.getfield 48, 3) := dk_180 0 48 (dk_at dksJ2_indexOf_0 4 rfl rfl)
theorem dJ2_indexOf_7 : decode cJ2_indexOf 7 = .ok (.invokevirtual 89, 3) := dk_182 0 89 (dk_at dksJ2_indexOf_0 7 rfl rfl)
theorem dJ2_indexOf_10 : decode cJ2_indexOf 10 = .ok (.ireturn, 1) := dk_172 (dk_at dksJ2_indexOf_0 10 rfl rfl)
abbrev cJ2_indexOfRange : ByteArray := prog_60_method_12_code
def yJ2_indexOfRange : MethodName := ⟨RJ2, "indexOfRange", "(Ljava/lang/Object;II)I"⟩
def dkwJ2_indexOfRange_2 : List UInt8 := [43, 25, 4, 21, 5, 50, 182, 0, 93, 153, 0, 6, 21, 5, 172, 132, 5, 1, 167, 255, 232, 2, 172]
abbrev dktJ2_indexOfRange_2 : List UInt8 := dkwJ2_indexOfRange_2 ++ []
def dkwJ2_indexOfRange_1 : List UInt8 := [199, 0, 6, 21, 5, 172, 132, 5, 1, 167, 255, 236, 167, 0, 33, 28, 54, 5, 21, 5, 29, 162, 0, 24]
abbrev dktJ2_indexOfRange_1 : List UInt8 := dkwJ2_indexOfRange_1 ++ dktJ2_indexOfRange_2
def dkwJ2_indexOfRange_0 : List UInt8 := [42, 180, 0, 9, 58, 4, 43, 199, 0, 32, 28, 54, 5, 21, 5, 29, 162, 0, 20, 25, 4, 21, 5, 50]
abbrev dktJ2_indexOfRange_0 : List UInt8 := dkwJ2_indexOfRange_0 ++ dktJ2_indexOfRange_1
theorem dksJ2_indexOfRange_0 : cJ2_indexOfRange.data.toList.drop 0 = dktJ2_indexOfRange_0 := by decide +kernel
theorem dksJ2_indexOfRange_1 : cJ2_indexOfRange.data.toList.drop 24 = dktJ2_indexOfRange_1 := dk_seg dksJ2_indexOfRange_0 24 rfl rfl
theorem dksJ2_indexOfRange_2 : cJ2_indexOfRange.data.toList.drop 48 = dktJ2_indexOfRange_2 := dk_seg dksJ2_indexOfRange_1 24 rfl rfl
theorem dJ2_indexOfRange_0 : decode cJ2_indexOfRange 0 = .ok (.aload_n 0, 1) := dk_42 (dk_at dksJ2_indexOfRange_0 0 rfl rfl)
theorem dJ2_indexOfRange_1 : decode cJ2_indexOfRange 1 = .ok (.getfield 9, 3) := dk_180 0 9 (dk_at dksJ2_indexOfRange_0 1 rfl rfl)
theorem dJ2_indexOfRange_4 : decode cJ2_indexOfRange 4 = .ok (.astore 4, 2) := dk_58 4 (dk_at dksJ2_indexOfRange_0 4 rfl rfl)
theorem dJ2_indexOfRange_6 : decode cJ2_indexOfRange 6 = .ok (.aload_n 1, 1) := dk_43 (dk_at dksJ2_indexOfRange_0 6 rfl rfl)
theorem dJ2_indexOfRange_7 : decode cJ2_indexOfRange 7 = .ok (.ifnonnull 32, 3) := dk_199 0 32 (dk_at dksJ2_indexOfRange_0 7 rfl rfl)
theorem dJ2_indexOfRange_10 : decode cJ2_indexOfRange 10 = .ok (.iload_n 2, 1) := dk_28 (dk_at dksJ2_indexOfRange_0 10 rfl rfl)
theorem dJ2_indexOfRange_11 : decode cJ2_indexOfRange 11 = .ok (.istore 5, 2) := dk_54 5 (dk_at dksJ2_indexOfRange_0 11 rfl rfl)
theorem dJ2_indexOfRange_13 : decode cJ2_indexOfRange 13 = .ok (.iload 5, 2) := dk_21 5 (dk_at dksJ2_indexOfRange_0 13 rfl rfl)
theorem dJ2_indexOfRange_15 : decode cJ2_indexOfRange 15 = .ok (.iload_n 3, 1) := dk_29 (dk_at dksJ2_indexOfRange_0 15 rfl rfl)
theorem dJ2_indexOfRange_16 : decode cJ2_indexOfRange 16 = .ok (.if_icmp .ge 20, 3) := dk_162 0 20 (dk_at dksJ2_indexOfRange_0 16 rfl rfl)
theorem dJ2_indexOfRange_19 : decode cJ2_indexOfRange 19 = .ok (.aload 4, 2) := dk_25 4 (dk_at dksJ2_indexOfRange_0 19 rfl rfl)
theorem dJ2_indexOfRange_21 : decode cJ2_indexOfRange 21 = .ok (.iload 5, 2) := dk_21 5 (dk_at dksJ2_indexOfRange_0 21 rfl rfl)
theorem dJ2_indexOfRange_23 : decode cJ2_indexOfRange 23 = .ok (.aaload, 1) := dk_50 (dk_at dksJ2_indexOfRange_0 23 rfl rfl)
theorem dJ2_indexOfRange_24 : decode cJ2_indexOfRange 24 = .ok (.ifnonnull 6, 3) := dk_199 0 6 (dk_at dksJ2_indexOfRange_1 0 rfl rfl)
theorem dJ2_indexOfRange_27 : decode cJ2_indexOfRange 27 = .ok (.iload 5, 2) := dk_21 5 (dk_at dksJ2_indexOfRange_1 3 rfl rfl)
theorem dJ2_indexOfRange_29 : decode cJ2_indexOfRange 29 = .ok (.ireturn, 1) := dk_172 (dk_at dksJ2_indexOfRange_1 5 rfl rfl)
theorem dJ2_indexOfRange_30 : decode cJ2_indexOfRange 30 = .ok (.iinc 5 1, 3) := dk_132 5 1 (dk_at dksJ2_indexOfRange_1 6 rfl rfl)
theorem dJ2_indexOfRange_33 : decode cJ2_indexOfRange 33 = .ok (.goto (-20), 3) := dk_167 255 236 (dk_at dksJ2_indexOfRange_1 9 rfl rfl)
theorem dJ2_indexOfRange_36 : decode cJ2_indexOfRange 36 = .ok (.goto 33, 3) := dk_167 0 33 (dk_at dksJ2_indexOfRange_1 12 rfl rfl)
theorem dJ2_indexOfRange_39 : decode cJ2_indexOfRange 39 = .ok (.iload_n 2, 1) := dk_28 (dk_at dksJ2_indexOfRange_1 15 rfl rfl)
theorem dJ2_indexOfRange_40 : decode cJ2_indexOfRange 40 = .ok (.istore 5, 2) := dk_54 5 (dk_at dksJ2_indexOfRange_1 16 rfl rfl)
theorem dJ2_indexOfRange_42 : decode cJ2_indexOfRange 42 = .ok (.iload 5, 2) := dk_21 5 (dk_at dksJ2_indexOfRange_1 18 rfl rfl)
theorem dJ2_indexOfRange_44 : decode cJ2_indexOfRange 44 = .ok (.iload_n 3, 1) := dk_29 (dk_at dksJ2_indexOfRange_1 20 rfl rfl)
theorem dJ2_indexOfRange_45 : decode cJ2_indexOfRange 45 = .ok (.if_icmp .ge 24, 3) := dk_162 0 24 (dk_at dksJ2_indexOfRange_1 21 rfl rfl)
theorem dJ2_indexOfRange_48 : decode cJ2_indexOfRange 48 = .ok (.aload_n 1, 1) := dk_43 (dk_at dksJ2_indexOfRange_2 0 rfl rfl)
theorem dJ2_indexOfRange_49 : decode cJ2_indexOfRange 49 = .ok (.aload 4, 2) := dk_25 4 (dk_at dksJ2_indexOfRange_2 1 rfl rfl)
theorem dJ2_indexOfRange_51 : decode cJ2_indexOfRange 51 = .ok (.iload 5, 2) := dk_21 5 (dk_at dksJ2_indexOfRange_2 3 rfl rfl)
theorem dJ2_indexOfRange_53 : decode cJ2_indexOfRange 53 = .ok (.aaload, 1) := dk_50 (dk_at dksJ2_indexOfRange_2 5 rfl rfl)
theorem dJ2_indexOfRange_54 : decode cJ2_indexOfRange 54 = .ok (.invokevirtual 93, 3) := dk_182 0 93 (dk_at dksJ2_indexOfRange_2 6 rfl rfl)
theorem dJ2_indexOfRange_57 : decode cJ2_indexOfRange 57 = .ok (.ifCond .eq 6, 3) := dk_153 0 6 (dk_at dksJ2_indexOfRange_2 9 rfl rfl)
theorem dJ2_indexOfRange_60 : decode cJ2_indexOfRange 60 = .ok (.iload 5, 2) := dk_21 5 (dk_at dksJ2_indexOfRange_2 12 rfl rfl)
theorem dJ2_indexOfRange_62 : decode cJ2_indexOfRange 62 = .ok (.ireturn, 1) := dk_172 (dk_at dksJ2_indexOfRange_2 14 rfl rfl)
theorem dJ2_indexOfRange_63 : decode cJ2_indexOfRange 63 = .ok (.iinc 5 1, 3) := dk_132 5 1 (dk_at dksJ2_indexOfRange_2 15 rfl rfl)
theorem dJ2_indexOfRange_66 : decode cJ2_indexOfRange 66 = .ok (.goto (-24), 3) := dk_167 255 232 (dk_at dksJ2_indexOfRange_2 18 rfl rfl)
theorem dJ2_indexOfRange_69 : decode cJ2_indexOfRange 69 = .ok (.iconst (-1), 1) := dk_2 (dk_at dksJ2_indexOfRange_2 21 rfl rfl)
theorem dJ2_indexOfRange_70 : decode cJ2_indexOfRange 70 = .ok (.ireturn, 1) := dk_172 (dk_at dksJ2_indexOfRange_2 22 rfl rfl)
abbrev cJ2_remove_2 : ByteArray := prog_60_method_38_code
def yJ2_remove_2 : MethodName := ⟨RJ2, "remove", "(Ljava/lang/Object;)Z"⟩
def dkwJ2_remove_2_3 : List UInt8 := [182, 0, 144, 4, 172]
abbrev dktJ2_remove_2_3 : List UInt8 := dkwJ2_remove_2_3 ++ []
def dkwJ2_remove_2_2 : List UInt8 := [21, 4, 50, 182, 0, 93, 153, 0, 6, 167, 0, 11, 132, 4, 1, 167, 255, 233, 3, 172, 42, 44, 21, 4]
abbrev dktJ2_remove_2_2 : List UInt8 := dkwJ2_remove_2_2 ++ dktJ2_remove_2_3
def dkwJ2_remove_2_1 : List UInt8 := [21, 4, 50, 199, 0, 6, 167, 0, 37, 132, 4, 1, 167, 255, 237, 21, 4, 29, 162, 0, 23, 43, 44]
abbrev dktJ2_remove_2_1 : List UInt8 := dkwJ2_remove_2_1 ++ dktJ2_remove_2_2
def dkwJ2_remove_2_0 : List UInt8 := [42, 180, 0, 9, 77, 42, 180, 0, 48, 62, 3, 54, 4, 43, 199, 0, 25, 21, 4, 29, 162, 0, 45, 44]
abbrev dktJ2_remove_2_0 : List UInt8 := dkwJ2_remove_2_0 ++ dktJ2_remove_2_1
theorem dksJ2_remove_2_0 : cJ2_remove_2.data.toList.drop 0 = dktJ2_remove_2_0 := by decide +kernel
theorem dksJ2_remove_2_1 : cJ2_remove_2.data.toList.drop 24 = dktJ2_remove_2_1 := dk_seg dksJ2_remove_2_0 24 rfl rfl
theorem dksJ2_remove_2_2 : cJ2_remove_2.data.toList.drop 47 = dktJ2_remove_2_2 := dk_seg dksJ2_remove_2_1 23 rfl rfl
theorem dksJ2_remove_2_3 : cJ2_remove_2.data.toList.drop 71 = dktJ2_remove_2_3 := dk_seg dksJ2_remove_2_2 24 rfl rfl
theorem dJ2_remove_2_0 : decode cJ2_remove_2 0 = .ok (.aload_n 0, 1) := dk_42 (dk_at dksJ2_remove_2_0 0 rfl rfl)
theorem dJ2_remove_2_1 : decode cJ2_remove_2 1 = .ok (.getfield 9, 3) := dk_180 0 9 (dk_at dksJ2_remove_2_0 1 rfl rfl)
theorem dJ2_remove_2_4 : decode cJ2_remove_2 4 = .ok (.astore_n 2, 1) := dk_77 (dk_at dksJ2_remove_2_0 4 rfl rfl)
theorem dJ2_remove_2_5 : decode cJ2_remove_2 5 = .ok (.aload_n 0, 1) := dk_42 (dk_at dksJ2_remove_2_0 5 rfl rfl)
theorem dJ2_remove_2_6 : decode cJ2_remove_2 6 = .ok (.getfield 48, 3) := dk_180 0 48 (dk_at dksJ2_remove_2_0 6 rfl rfl)
theorem dJ2_remove_2_9 : decode cJ2_remove_2 9 = .ok (.istore_n 3, 1) := dk_62 (dk_at dksJ2_remove_2_0 9 rfl rfl)
theorem dJ2_remove_2_10 : decode cJ2_remove_2 10 = .ok (.iconst 0, 1) := dk_3 (dk_at dksJ2_remove_2_0 10 rfl rfl)
theorem dJ2_remove_2_11 : decode cJ2_remove_2 11 = .ok (.istore 4, 2) := dk_54 4 (dk_at dksJ2_remove_2_0 11 rfl rfl)
theorem dJ2_remove_2_13 : decode cJ2_remove_2 13 = .ok (.aload_n 1, 1) := dk_43 (dk_at dksJ2_remove_2_0 13 rfl rfl)
theorem dJ2_remove_2_14 : decode cJ2_remove_2 14 = .ok (.ifnonnull 25, 3) := dk_199 0 25 (dk_at dksJ2_remove_2_0 14 rfl rfl)
theorem dJ2_remove_2_17 : decode cJ2_remove_2 17 = .ok (.iload 4, 2) := dk_21 4 (dk_at dksJ2_remove_2_0 17 rfl rfl)
theorem dJ2_remove_2_19 : decode cJ2_remove_2 19 = .ok (.iload_n 3, 1) := dk_29 (dk_at dksJ2_remove_2_0 19 rfl rfl)
theorem dJ2_remove_2_20 : decode cJ2_remove_2 20 = .ok (.if_icmp .ge 45, 3) := dk_162 0 45 (dk_at dksJ2_remove_2_0 20 rfl rfl)
theorem dJ2_remove_2_23 : decode cJ2_remove_2 23 = .ok (.aload_n 2, 1) := dk_44 (dk_at dksJ2_remove_2_0 23 rfl rfl)
theorem dJ2_remove_2_24 : decode cJ2_remove_2 24 = .ok (.iload 4, 2) := dk_21 4 (dk_at dksJ2_remove_2_1 0 rfl rfl)
theorem dJ2_remove_2_26 : decode cJ2_remove_2 26 = .ok (.aaload, 1) := dk_50 (dk_at dksJ2_remove_2_1 2 rfl rfl)
theorem dJ2_remove_2_27 : decode cJ2_remove_2 27 = .ok (.ifnonnull 6, 3) := dk_199 0 6 (dk_at dksJ2_remove_2_1 3 rfl rfl)
theorem dJ2_remove_2_30 : decode cJ2_remove_2 30 = .ok (.goto 37, 3) := dk_167 0 37 (dk_at dksJ2_remove_2_1 6 rfl rfl)
theorem dJ2_remove_2_33 : decode cJ2_remove_2 33 = .ok (.iinc 4 1, 3) := dk_132 4 1 (dk_at dksJ2_remove_2_1 9 rfl rfl)
theorem dJ2_remove_2_36 : decode cJ2_remove_2 36 = .ok (.goto (-19), 3) := dk_167 255 237 (dk_at dksJ2_remove_2_1 12 rfl rfl)
theorem dJ2_remove_2_39 : decode cJ2_remove_2 39 = .ok (.iload 4, 2) := dk_21 4 (dk_at dksJ2_remove_2_1 15 rfl rfl)
theorem dJ2_remove_2_41 : decode cJ2_remove_2 41 = .ok (.iload_n 3, 1) := dk_29 (dk_at dksJ2_remove_2_1 17 rfl rfl)
theorem dJ2_remove_2_42 : decode cJ2_remove_2 42 = .ok (.if_icmp .ge 23, 3) := dk_162 0 23 (dk_at dksJ2_remove_2_1 18 rfl rfl)
theorem dJ2_remove_2_45 : decode cJ2_remove_2 45 = .ok (.aload_n 1, 1) := dk_43 (dk_at dksJ2_remove_2_1 21 rfl rfl)
theorem dJ2_remove_2_46 : decode cJ2_remove_2 46 = .ok (.aload_n 2, 1) := dk_44 (dk_at dksJ2_remove_2_1 22 rfl rfl)
theorem dJ2_remove_2_47 : decode cJ2_remove_2 47 = .ok (.iload 4, 2) := dk_21 4 (dk_at dksJ2_remove_2_2 0 rfl rfl)
theorem dJ2_remove_2_49 : decode cJ2_remove_2 49 = .ok (.aaload, 1) := dk_50 (dk_at dksJ2_remove_2_2 2 rfl rfl)
theorem dJ2_remove_2_50 : decode cJ2_remove_2 50 = .ok (.invokevirtual 93, 3) := dk_182 0 93 (dk_at dksJ2_remove_2_2 3 rfl rfl)
theorem dJ2_remove_2_53 : decode cJ2_remove_2 53 = .ok (.ifCond .eq 6, 3) := dk_153 0 6 (dk_at dksJ2_remove_2_2 6 rfl rfl)
theorem dJ2_remove_2_56 : decode cJ2_remove_2 56 = .ok (.goto 11, 3) := dk_167 0 11 (dk_at dksJ2_remove_2_2 9 rfl rfl)
theorem dJ2_remove_2_59 : decode cJ2_remove_2 59 = .ok (.iinc 4 1, 3) := dk_132 4 1 (dk_at dksJ2_remove_2_2 12 rfl rfl)
theorem dJ2_remove_2_62 : decode cJ2_remove_2 62 = .ok (.goto (-23), 3) := dk_167 255 233 (dk_at dksJ2_remove_2_2 15 rfl rfl)
theorem dJ2_remove_2_65 : decode cJ2_remove_2 65 = .ok (.iconst 0, 1) := dk_3 (dk_at dksJ2_remove_2_2 18 rfl rfl)
theorem dJ2_remove_2_66 : decode cJ2_remove_2 66 = .ok (.ireturn, 1) := dk_172 (dk_at dksJ2_remove_2_2 19 rfl rfl)
theorem dJ2_remove_2_67 : decode cJ2_remove_2 67 = .ok (.aload_n 0, 1) := dk_42 (dk_at dksJ2_remove_2_2 20 rfl rfl)
theorem dJ2_remove_2_68 : decode cJ2_remove_2 68 = .ok (.aload_n 2, 1) := dk_44 (dk_at dksJ2_remove_2_2 21 rfl rfl)
theorem dJ2_remove_2_69 : decode cJ2_remove_2 69 = .ok (.iload 4, 2) := dk_21 4 (dk_at dksJ2_remove_2_2 22 rfl rfl)
theorem dJ2_remove_2_71 : decode cJ2_remove_2 71 = .ok (.invokevirtual 144, 3) := dk_182 0 144 (dk_at dksJ2_remove_2_3 0 rfl rfl)
theorem dJ2_remove_2_74 : decode cJ2_remove_2 74 = .ok (.iconst 1, 1) := dk_4 (dk_at dksJ2_remove_2_3 3 rfl rfl)
theorem dJ2_remove_2_75 : decode cJ2_remove_2 75 = .ok (.ireturn, 1) := dk_172 (dk_at dksJ2_remove_2_3 4 rfl rfl)
theorem q68 : (Jvm.Cond.initialized "java/util/ArrayList") ∈ lw_all := lw_g (lw_at lw_m1 4 rfl) rfl
theorem q121 : (Jvm.Cond.instantiable "java/util/ArrayList" (3 : Nat)) ∈ lw_all := lw_g (lw_at lw_m1 57 rfl) rfl
theorem q123 : (Jvm.Cond.instanceMethod ({ cls := "java/util/ArrayList", name := "<init>", desc := "()V" } : Jvm.MethodName)) ∈ lw_all := lw_g (lw_at lw_m1 59 rfl) rfl
theorem q124 : (Jvm.Cond.code ({ cls := "java/util/ArrayList", name := "<init>", desc := "()V" } : Jvm.MethodName) prog_60_method_2_code (1 : Nat) (Option.none : Option Jvm.ClassFile.FieldType)) ∈ lw_all := lw_g (lw_at lw_m1 60 rfl) rfl
theorem q125 : (Jvm.Cond.methodLink "java/util/ArrayList" (1 : Nat) ({ cls := "java/util/AbstractList", name := "<init>", desc := "()V" } : Jvm.MethodName)) ∈ lw_all := lw_g (lw_at lw_m1 61 rfl) rfl
theorem q132 : (Jvm.Cond.fieldLink "java/util/ArrayList" (39 : Nat) "java/util/ArrayList" "DEFAULTCAPACITY_EMPTY_ELEMENTDATA" "[Ljava/lang/Object;") ∈ lw_all := lw_g (lw_at lw_m1 68 rfl) rfl
theorem q133 : (Jvm.Cond.laysStatic "java/util/ArrayList" "DEFAULTCAPACITY_EMPTY_ELEMENTDATA" "[Ljava/lang/Object;") ∈ lw_tbl := lw_at lw_m1 69 rfl
theorem q134 : (Jvm.Cond.fieldLink "java/util/ArrayList" (9 : Nat) "java/util/ArrayList" "elementData" "[Ljava/lang/Object;") ∈ lw_all := lw_g (lw_at lw_m1 70 rfl) rfl
theorem q137 : (Jvm.Cond.fieldLink "java/util/ArrayList" (48 : Nat) "java/util/ArrayList" "size" "I") ∈ lw_all := lw_g (lw_at lw_m1 73 rfl) rfl
theorem q140 : (Jvm.Cond.sameField "java/util/ArrayList" "java/util/AbstractList" "modCount" "I") ∈ lw_all := lw_g (lw_at lw_m1 76 rfl) rfl
theorem q141 : (Jvm.Cond.fieldLink "java/util/ArrayList" (63 : Nat) "java/util/ArrayList" "modCount" "I") ∈ lw_all := lw_g (lw_at lw_m1 77 rfl) rfl
theorem q142 : (Jvm.Cond.lays "java/util/ArrayList" "java/util/ArrayList" "elementData" "[Ljava/lang/Object;") ∈ lw_all := lw_g (lw_at lw_m1 78 rfl) rfl
theorem q143 : (Jvm.Cond.soleField "java/util/ArrayList" "elementData") ∈ lw_all := lw_g (lw_at lw_m1 79 rfl) rfl
theorem q144 : (Jvm.Cond.lays "java/util/ArrayList" "java/util/ArrayList" "size" "I") ∈ lw_all := lw_g (lw_at lw_m1 80 rfl) rfl
theorem q145 : (Jvm.Cond.soleField "java/util/ArrayList" "size") ∈ lw_all := lw_g (lw_at lw_m1 81 rfl) rfl
theorem q146 : (Jvm.Cond.lays "java/util/ArrayList" "java/util/AbstractList" "modCount" "I") ∈ lw_all := lw_g (lw_at lw_m1 82 rfl) rfl
theorem q148 : (Jvm.Cond.superclass "java/util/ArrayList" "java/util/AbstractList") ∈ lw_all := lw_g (lw_at lw_m1 84 rfl) rfl
theorem q183 : (Jvm.Cond.castable "java/util/ArrayList" "java/util/List") ∈ lw_tbl := lw_at lw_m1 119 rfl
theorem q184 : (Jvm.Cond.selects "java/util/ArrayList" ({ cls := "java/util/List", name := "add", desc := "(Ljava/lang/Object;)Z" } : Jvm.MethodName) ({ cls := "java/util/ArrayList", name := "add", desc := "(Ljava/lang/Object;)Z" } : Jvm.MethodName)) ∈ lw_all := lw_g (lw_at lw_m1 120 rfl) rfl
theorem q185 : (Jvm.Cond.unhidden "java/util/ArrayList" "add" "(Ljava/lang/Object;)Z") ∈ lw_tbl := lw_at lw_m1 121 rfl
theorem q186 : (Jvm.Cond.instanceMethod ({ cls := "java/util/ArrayList", name := "add", desc := "(Ljava/lang/Object;)Z" } : Jvm.MethodName)) ∈ lw_all := lw_g (lw_at lw_m1 122 rfl) rfl
theorem q187 : (Jvm.Cond.publicMethod ({ cls := "java/util/ArrayList", name := "add", desc := "(Ljava/lang/Object;)Z" } : Jvm.MethodName)) ∈ lw_tbl := lw_at lw_m1 123 rfl
theorem q188 : (Jvm.Cond.code ({ cls := "java/util/ArrayList", name := "add", desc := "(Ljava/lang/Object;)Z" } : Jvm.MethodName) prog_60_method_25_code (2 : Nat) (Option.some Jvm.ClassFile.FieldType.boolean)) ∈ lw_all := lw_g (lw_at lw_m1 124 rfl) rfl
theorem q189 : (Jvm.Cond.methodLink "java/util/ArrayList" (131 : Nat) ({ cls := "java/util/ArrayList", name := "add", desc := "(Ljava/lang/Object;[Ljava/lang/Object;I)V" } : Jvm.MethodName)) ∈ lw_all := lw_g (lw_at lw_m1 125 rfl) rfl
theorem q190 : (Jvm.Cond.privateMethod ({ cls := "java/util/ArrayList", name := "add", desc := "(Ljava/lang/Object;[Ljava/lang/Object;I)V" } : Jvm.MethodName)) ∈ lw_tbl := lw_at lw_m1 126 rfl
theorem q191 : (Jvm.Cond.instanceMethod ({ cls := "java/util/ArrayList", name := "add", desc := "(Ljava/lang/Object;[Ljava/lang/Object;I)V" } : Jvm.MethodName)) ∈ lw_all := lw_g (lw_at lw_m1 127 rfl) rfl
theorem q192 : (Jvm.Cond.code ({ cls := "java/util/ArrayList", name := "add", desc := "(Ljava/lang/Object;[Ljava/lang/Object;I)V" } : Jvm.MethodName) prog_60_method_24_code (4 : Nat) (Option.none : Option Jvm.ClassFile.FieldType)) ∈ lw_all := lw_g (lw_at lw_m1 128 rfl) rfl
theorem q193 : (Jvm.Cond.methodLink "java/util/ArrayList" (129 : Nat) ({ cls := "java/util/ArrayList", name := "grow", desc := "()[Ljava/lang/Object;" } : Jvm.MethodName)) ∈ lw_all := lw_g (lw_at lw_m1 129 rfl) rfl
theorem q194 : (Jvm.Cond.privateMethod ({ cls := "java/util/ArrayList", name := "grow", desc := "()[Ljava/lang/Object;" } : Jvm.MethodName)) ∈ lw_tbl := lw_at lw_m1 130 rfl
theorem q195 : (Jvm.Cond.instanceMethod ({ cls := "java/util/ArrayList", name := "grow", desc := "()[Ljava/lang/Object;" } : Jvm.MethodName)) ∈ lw_all := lw_g (lw_at lw_m1 131 rfl) rfl
theorem q196 : (Jvm.Cond.code ({ cls := "java/util/ArrayList", name := "grow", desc := "()[Ljava/lang/Object;" } : Jvm.MethodName) prog_60_method_7_code (1 : Nat) (Option.some (Jvm.ClassFile.FieldType.array (Jvm.ClassFile.FieldType.object "java/lang/Object")))) ∈ lw_all := lw_g (lw_at lw_m1 132 rfl) rfl
theorem q197 : (Jvm.Cond.methodLink "java/util/ArrayList" (69 : Nat) ({ cls := "java/util/ArrayList", name := "grow", desc := "(I)[Ljava/lang/Object;" } : Jvm.MethodName)) ∈ lw_all := lw_g (lw_at lw_m1 133 rfl) rfl
theorem q198 : (Jvm.Cond.privateMethod ({ cls := "java/util/ArrayList", name := "grow", desc := "(I)[Ljava/lang/Object;" } : Jvm.MethodName)) ∈ lw_tbl := lw_at lw_m1 134 rfl
theorem q199 : (Jvm.Cond.instanceMethod ({ cls := "java/util/ArrayList", name := "grow", desc := "(I)[Ljava/lang/Object;" } : Jvm.MethodName)) ∈ lw_all := lw_g (lw_at lw_m1 135 rfl) rfl
theorem q200 : (Jvm.Cond.code ({ cls := "java/util/ArrayList", name := "grow", desc := "(I)[Ljava/lang/Object;" } : Jvm.MethodName) prog_60_method_6_code (4 : Nat) (Option.some (Jvm.ClassFile.FieldType.array (Jvm.ClassFile.FieldType.object "java/lang/Object")))) ∈ lw_all := lw_g (lw_at lw_m1 136 rfl) rfl
theorem q201 : (Jvm.Cond.methodLink "java/util/ArrayList" (73 : Nat) ({ cls := "jdk/internal/util/ArraysSupport", name := "newLength", desc := "(III)I" } : Jvm.MethodName)) ∈ lw_all := lw_g (lw_at lw_m1 137 rfl) rfl
theorem q211 : (Jvm.Cond.methodLink "java/util/ArrayList" (66 : Nat) ({ cls := "java/util/Arrays", name := "copyOf", desc := "([Ljava/lang/Object;I)[Ljava/lang/Object;" } : Jvm.MethodName)) ∈ lw_all := lw_g (lw_at lw_m1 147 rfl) rfl
theorem q251 : (Jvm.Cond.selects "java/util/ArrayList" ({ cls := "java/lang/Object", name := "getClass", desc := "()Ljava/lang/Class;" } : Jvm.MethodName) ({ cls := "java/lang/Object", name := "getClass", desc := "()Ljava/lang/Class;" } : Jvm.MethodName)) ∈ lw_all := lw_g (lw_at lw_m1 187 rfl) rfl
theorem q267 : (Jvm.Cond.methodLink "java/util/ArrayList" (79 : Nat) ({ cls := "java/lang/Math", name := "max", desc := "(II)I" } : Jvm.MethodName)) ∈ lw_all := lw_g (lw_at lw_m1 203 rfl) rfl
theorem q268 : (Jvm.Cond.classLink "java/util/ArrayList" (7 : Nat) "java/lang/Object") ∈ lw_all := lw_g (lw_at lw_m1 204 rfl) rfl
theorem q302 : (Jvm.Cond.selects "java/util/ArrayList" ({ cls := "java/util/List", name := "get", desc := "(I)Ljava/lang/Object;" } : Jvm.MethodName) ({ cls := "java/util/ArrayList", name := "get", desc := "(I)Ljava/lang/Object;" } : Jvm.MethodName)) ∈ lw_all := lw_g (lw_at lw_m1 238 rfl) rfl
theorem q303 : (Jvm.Cond.unhidden "java/util/ArrayList" "get" "(I)Ljava/lang/Object;") ∈ lw_tbl := lw_at lw_m1 239 rfl
theorem q304 : (Jvm.Cond.instanceMethod ({ cls := "java/util/ArrayList", name := "get", desc := "(I)Ljava/lang/Object;" } : Jvm.MethodName)) ∈ lw_all := lw_g (lw_at lw_m2 0 rfl) rfl
theorem q305 : (Jvm.Cond.publicMethod ({ cls := "java/util/ArrayList", name := "get", desc := "(I)Ljava/lang/Object;" } : Jvm.MethodName)) ∈ lw_tbl := lw_at lw_m2 1 rfl
theorem q306 : (Jvm.Cond.code ({ cls := "java/util/ArrayList", name := "get", desc := "(I)Ljava/lang/Object;" } : Jvm.MethodName) prog_60_method_20_code (2 : Nat) (Option.some (Jvm.ClassFile.FieldType.object "java/lang/Object"))) ∈ lw_all := lw_g (lw_at lw_m2 2 rfl) rfl
theorem q307 : (Jvm.Cond.methodLink "java/util/ArrayList" (118 : Nat) ({ cls := "java/util/Objects", name := "checkIndex", desc := "(II)I" } : Jvm.MethodName)) ∈ lw_all := lw_g (lw_at lw_m2 3 rfl) rfl
theorem q313 : (Jvm.Cond.methodLink "java/util/ArrayList" (123 : Nat) ({ cls := "java/util/ArrayList", name := "elementData", desc := "(I)Ljava/lang/Object;" } : Jvm.MethodName)) ∈ lw_all := lw_g (lw_at lw_m2 9 rfl) rfl
theorem q314 : (Jvm.Cond.instanceMethod ({ cls := "java/util/ArrayList", name := "elementData", desc := "(I)Ljava/lang/Object;" } : Jvm.MethodName)) ∈ lw_all := lw_g (lw_at lw_m2 10 rfl) rfl
theorem q315 : (Jvm.Cond.selects "java/util/ArrayList" ({ cls := "java/util/ArrayList", name := "elementData", desc := "(I)Ljava/lang/Object;" } : Jvm.MethodName) ({ cls := "java/util/ArrayList", name := "elementData", desc := "(I)Ljava/lang/Object;" } : Jvm.MethodName)) ∈ lw_all := lw_g (lw_at lw_m2 11 rfl) rfl
theorem q316 : (Jvm.Cond.code ({ cls := "java/util/ArrayList", name := "elementData", desc := "(I)Ljava/lang/Object;" } : Jvm.MethodName) prog_60_method_18_code (2 : Nat) (Option.some (Jvm.ClassFile.FieldType.object "java/lang/Object"))) ∈ lw_all := lw_g (lw_at lw_m2 12 rfl) rfl
theorem q329 : (Jvm.Cond.selects "java/util/ArrayList" ({ cls := "java/util/List", name := "addAll", desc := "(Ljava/util/Collection;)Z" } : Jvm.MethodName) ({ cls := "java/util/ArrayList", name := "addAll", desc := "(Ljava/util/Collection;)Z" } : Jvm.MethodName)) ∈ lw_all := lw_g (lw_at lw_m2 25 rfl) rfl
theorem q330 : (Jvm.Cond.unhidden "java/util/ArrayList" "addAll" "(Ljava/util/Collection;)Z") ∈ lw_tbl := lw_at lw_m2 26 rfl
theorem q331 : (Jvm.Cond.instanceMethod ({ cls := "java/util/ArrayList", name := "addAll", desc := "(Ljava/util/Collection;)Z" } : Jvm.MethodName)) ∈ lw_all := lw_g (lw_at lw_m2 27 rfl) rfl
theorem q332 : (Jvm.Cond.publicMethod ({ cls := "java/util/ArrayList", name := "addAll", desc := "(Ljava/util/Collection;)Z" } : Jvm.MethodName)) ∈ lw_tbl := lw_at lw_m2 28 rfl
theorem q333 : (Jvm.Cond.code ({ cls := "java/util/ArrayList", name := "addAll", desc := "(Ljava/util/Collection;)Z" } : Jvm.MethodName) prog_60_method_41_code (6 : Nat) (Option.some Jvm.ClassFile.FieldType.boolean)) ∈ lw_all := lw_g (lw_at lw_m2 29 rfl) rfl
theorem q334 : (Jvm.Cond.interfaceEntry "java/util/ArrayList" (42 : Nat)) ∈ lw_tbl := lw_at lw_m2 30 rfl
theorem q335 : (Jvm.Cond.methodLink "java/util/ArrayList" (42 : Nat) ({ cls := "java/util/Collection", name := "toArray", desc := "()[Ljava/lang/Object;" } : Jvm.MethodName)) ∈ lw_all := lw_g (lw_at lw_m2 31 rfl) rfl
theorem q338 : (Jvm.Cond.castable "java/util/ArrayList" "java/util/Collection") ∈ lw_tbl := lw_at lw_m2 34 rfl
theorem q339 : (Jvm.Cond.selects "java/util/ArrayList" ({ cls := "java/util/Collection", name := "toArray", desc := "()[Ljava/lang/Object;" } : Jvm.MethodName) ({ cls := "java/util/ArrayList", name := "toArray", desc := "()[Ljava/lang/Object;" } : Jvm.MethodName)) ∈ lw_all := lw_g (lw_at lw_m2 35 rfl) rfl
theorem q340 : (Jvm.Cond.unhidden "java/util/ArrayList" "toArray" "()[Ljava/lang/Object;") ∈ lw_tbl := lw_at lw_m2 36 rfl
theorem q341 : (Jvm.Cond.instanceMethod ({ cls := "java/util/ArrayList", name := "toArray", desc := "()[Ljava/lang/Object;" } : Jvm.MethodName)) ∈ lw_all := lw_g (lw_at lw_m2 37 rfl) rfl
theorem q342 : (Jvm.Cond.publicMethod ({ cls := "java/util/ArrayList", name := "toArray", desc := "()[Ljava/lang/Object;" } : Jvm.MethodName)) ∈ lw_tbl := lw_at lw_m2 38 rfl
theorem q343 : (Jvm.Cond.code ({ cls := "java/util/ArrayList", name := "toArray", desc := "()[Ljava/lang/Object;" } : Jvm.MethodName) prog_60_method_16_code (1 : Nat) (Option.some (Jvm.ClassFile.FieldType.array (Jvm.ClassFile.FieldType.object "java/lang/Object")))) ∈ lw_all := lw_g (lw_at lw_m2 39 rfl) rfl
theorem q344 : (Jvm.Cond.methodLink "java/util/ArrayList" (112 : Nat) ({ cls := "java/lang/System", name := "arraycopy", desc := "(Ljava/lang/Object;ILjava/lang/Object;II)V" } : Jvm.MethodName)) ∈ lw_all := lw_g (lw_at lw_m2 40 rfl) rfl
theorem q408 : (Jvm.Cond.selects "java/util/ArrayList" ({ cls := "java/util/List", name := "size", desc := "()I" } : Jvm.MethodName) ({ cls := "java/util/ArrayList", name := "size", desc := "()I" } : Jvm.MethodName)) ∈ lw_all := lw_g (lw_at lw_m2 104 rfl) rfl
theorem q409 : (Jvm.Cond.unhidden "java/util/ArrayList" "size" "()I") ∈ lw_tbl := lw_at lw_m2 105 rfl
theorem q410 : (Jvm.Cond.instanceMethod ({ cls := "java/util/ArrayList", name := "size", desc := "()I" } : Jvm.MethodName)) ∈ lw_all := lw_g (lw_at lw_m2 106 rfl) rfl
theorem q411 : (Jvm.Cond.publicMethod ({ cls := "java/util/ArrayList", name := "size", desc := "()I" } : Jvm.MethodName)) ∈ lw_tbl := lw_at lw_m2 107 rfl
theorem q412 : (Jvm.Cond.code ({ cls := "java/util/ArrayList", name := "size", desc := "()I" } : Jvm.MethodName) prog_60_method_8_code (1 : Nat) (Option.some Jvm.ClassFile.FieldType.int)) ∈ lw_all := lw_g (lw_at lw_m2 108 rfl) rfl
theorem q644 : (Jvm.Cond.selects "java/util/ArrayList" ({ cls := "java/util/List", name := "clear", desc := "()V" } : Jvm.MethodName) ({ cls := "java/util/ArrayList", name := "clear", desc := "()V" } : Jvm.MethodName)) ∈ lw_all := lw_g (lw_at lw_m3 100 rfl) rfl
theorem q645 : (Jvm.Cond.unhidden "java/util/ArrayList" "clear" "()V") ∈ lw_tbl := lw_at lw_m3 101 rfl
theorem q646 : (Jvm.Cond.instanceMethod ({ cls := "java/util/ArrayList", name := "clear", desc := "()V" } : Jvm.MethodName)) ∈ lw_all := lw_g (lw_at lw_m3 102 rfl) rfl
theorem q647 : (Jvm.Cond.publicMethod ({ cls := "java/util/ArrayList", name := "clear", desc := "()V" } : Jvm.MethodName)) ∈ lw_tbl := lw_at lw_m3 103 rfl
theorem q648 : (Jvm.Cond.code ({ cls := "java/util/ArrayList", name := "clear", desc := "()V" } : Jvm.MethodName) prog_60_method_40_code (4 : Nat) (Option.none : Option Jvm.ClassFile.FieldType)) ∈ lw_all := lw_g (lw_at lw_m3 104 rfl) rfl
theorem q761 : (Jvm.Cond.selects "java/util/ArrayList" ({ cls := "java/util/List", name := "equals", desc := "(Ljava/lang/Object;)Z" } : Jvm.MethodName) ({ cls := "java/util/ArrayList", name := "equals", desc := "(Ljava/lang/Object;)Z" } : Jvm.MethodName)) ∈ lw_all := lw_g (lw_at lw_m3 217 rfl) rfl
theorem q762 : (Jvm.Cond.unhidden "java/util/ArrayList" "equals" "(Ljava/lang/Object;)Z") ∈ lw_tbl := lw_at lw_m3 218 rfl
theorem q763 : (Jvm.Cond.instanceMethod ({ cls := "java/util/ArrayList", name := "equals", desc := "(Ljava/lang/Object;)Z" } : Jvm.MethodName)) ∈ lw_all := lw_g (lw_at lw_m3 219 rfl) rfl
theorem q764 : (Jvm.Cond.publicMethod ({ cls := "java/util/ArrayList", name := "equals", desc := "(Ljava/lang/Object;)Z" } : Jvm.MethodName)) ∈ lw_tbl := lw_at lw_m3 220 rfl
theorem q765 : (Jvm.Cond.code ({ cls := "java/util/ArrayList", name := "equals", desc := "(Ljava/lang/Object;)Z" } : Jvm.MethodName) prog_60_method_32_code (4 : Nat) (Option.some Jvm.ClassFile.FieldType.boolean)) ∈ lw_all := lw_g (lw_at lw_m3 221 rfl) rfl
theorem q766 : (Jvm.Cond.classLink "java/util/ArrayList" (148 : Nat) "java/util/List") ∈ lw_all := lw_g (lw_at lw_m3 222 rfl) rfl
theorem q767 : (Jvm.Cond.methodLink "java/util/ArrayList" (111 : Nat) ({ cls := "java/lang/Object", name := "getClass", desc := "()Ljava/lang/Class;" } : Jvm.MethodName)) ∈ lw_all := lw_g (lw_at lw_m3 223 rfl) rfl
theorem q768 : (Jvm.Cond.classLink "java/util/ArrayList" (10 : Nat) "java/util/ArrayList") ∈ lw_all := lw_g (lw_at lw_m3 224 rfl) rfl
theorem q769 : (Jvm.Cond.methodLink "java/util/ArrayList" (150 : Nat) ({ cls := "java/util/ArrayList", name := "equalsArrayList", desc := "(Ljava/util/ArrayList;)Z" } : Jvm.MethodName)) ∈ lw_all := lw_g (lw_at lw_m3 225 rfl) rfl
theorem q770 : (Jvm.Cond.privateMethod ({ cls := "java/util/ArrayList", name := "equalsArrayList", desc := "(Ljava/util/ArrayList;)Z" } : Jvm.MethodName)) ∈ lw_tbl := lw_at lw_m3 226 rfl
theorem q771 : (Jvm.Cond.instanceMethod ({ cls := "java/util/ArrayList", name := "equalsArrayList", desc := "(Ljava/util/ArrayList;)Z" } : Jvm.MethodName)) ∈ lw_all := lw_g (lw_at lw_m3 227 rfl) rfl
theorem q772 : (Jvm.Cond.code ({ cls := "java/util/ArrayList", name := "equalsArrayList", desc := "(Ljava/util/ArrayList;)Z" } : Jvm.MethodName) prog_60_method_34_code (8 : Nat) (Option.some Jvm.ClassFile.FieldType.boolean)) ∈ lw_all := lw_g (lw_at lw_m3 228 rfl) rfl
theorem q773 : (Jvm.Cond.methodLink "java/util/ArrayList" (177 : Nat) ({ cls := "java/util/Objects", name := "equals", desc := "(Ljava/lang/Object;Ljava/lang/Object;)Z" } : Jvm.MethodName)) ∈ lw_all := lw_g (lw_at lw_m3 229 rfl) rfl
theorem q841 : (Jvm.Cond.methodLink "java/util/ArrayList" (158 : Nat) ({ cls := "java/util/ArrayList", name := "checkForComodification", desc := "(I)V" } : Jvm.MethodName)) ∈ lw_all := lw_g (lw_at lw_m4 57 rfl) rfl
theorem q842 : (Jvm.Cond.privateMethod ({ cls := "java/util/ArrayList", name := "checkForComodification", desc := "(I)V" } : Jvm.MethodName)) ∈ lw_tbl := lw_at lw_m4 58 rfl
theorem q843 : (Jvm.Cond.instanceMethod ({ cls := "java/util/ArrayList", name := "checkForComodification", desc := "(I)V" } : Jvm.MethodName)) ∈ lw_all := lw_g (lw_at lw_m4 59 rfl) rfl
theorem q844 : (Jvm.Cond.code ({ cls := "java/util/ArrayList", name := "checkForComodification", desc := "(I)V" } : Jvm.MethodName) prog_60_method_35_code (2 : Nat) (Option.none : Option Jvm.ClassFile.FieldType)) ∈ lw_all := lw_g (lw_at lw_m4 60 rfl) rfl
theorem q845 : (Jvm.Cond.methodLink "java/util/ArrayList" (154 : Nat) ({ cls := "java/util/ArrayList", name := "equalsRange", desc := "(Ljava/util/List;II)Z" } : Jvm.MethodName)) ∈ lw_all := lw_g (lw_at lw_m4 61 rfl) rfl
theorem q846 : (Jvm.Cond.instanceMethod ({ cls := "java/util/ArrayList", name := "equalsRange", desc := "(Ljava/util/List;II)Z" } : Jvm.MethodName)) ∈ lw_all := lw_g (lw_at lw_m4 62 rfl) rfl
theorem q847 : (Jvm.Cond.selects "java/util/ArrayList" ({ cls := "java/util/ArrayList", name := "equalsRange", desc := "(Ljava/util/List;II)Z" } : Jvm.MethodName) ({ cls := "java/util/ArrayList", name := "equalsRange", desc := "(Ljava/util/List;II)Z" } : Jvm.MethodName)) ∈ lw_all := lw_g (lw_at lw_m4 63 rfl) rfl
theorem q848 : (Jvm.Cond.code ({ cls := "java/util/ArrayList", name := "equalsRange", desc := "(Ljava/util/List;II)Z" } : Jvm.MethodName) prog_60_method_33_code (6 : Nat) (Option.some Jvm.ClassFile.FieldType.boolean)) ∈ lw_all := lw_g (lw_at lw_m4 64 rfl) rfl
theorem q849 : (Jvm.Cond.interfaceEntry "java/util/ArrayList" (164 : Nat)) ∈ lw_tbl := lw_at lw_m4 65 rfl
theorem q850 : (Jvm.Cond.methodLink "java/util/ArrayList" (164 : Nat) ({ cls := "java/util/List", name := "iterator", desc := "()Ljava/util/Iterator;" } : Jvm.MethodName)) ∈ lw_all := lw_g (lw_at lw_m4 66 rfl) rfl
theorem q853 : (Jvm.Cond.selects "java/util/ArrayList" ({ cls := "java/util/List", name := "iterator", desc := "()Ljava/util/Iterator;" } : Jvm.MethodName) ({ cls := "java/util/ArrayList", name := "iterator", desc := "()Ljava/util/Iterator;" } : Jvm.MethodName)) ∈ lw_all := lw_g (lw_at lw_m4 69 rfl) rfl
theorem q854 : (Jvm.Cond.unhidden "java/util/ArrayList" "iterator" "()Ljava/util/Iterator;") ∈ lw_tbl := lw_at lw_m4 70 rfl
theorem q855 : (Jvm.Cond.instanceMethod ({ cls := "java/util/ArrayList", name := "iterator", desc := "()Ljava/util/Iterator;" } : Jvm.MethodName)) ∈ lw_all := lw_g (lw_at lw_m4 71 rfl) rfl
theorem q856 : (Jvm.Cond.publicMethod ({ cls := "java/util/ArrayList", name := "iterator", desc := "()Ljava/util/Iterator;" } : Jvm.MethodName)) ∈ lw_tbl := lw_at lw_m4 72 rfl
theorem q857 : (Jvm.Cond.code ({ cls := "java/util/ArrayList", name := "iterator", desc := "()Ljava/util/Iterator;" } : Jvm.MethodName) prog_60_method_55_code (1 : Nat) (Option.some (Jvm.ClassFile.FieldType.object "java/util/Iterator"))) ∈ lw_all := lw_g (lw_at lw_m4 73 rfl) rfl
theorem q858 : (Jvm.Cond.classLink "java/util/ArrayList" (267 : Nat) "java/util/ArrayList$Itr") ∈ lw_all := lw_g (lw_at lw_m4 74 rfl) rfl
theorem q860 : (Jvm.Cond.methodLink "java/util/ArrayList" (269 : Nat) ({ cls := "java/util/ArrayList$Itr", name := "<init>", desc := "(Ljava/util/ArrayList;)V" } : Jvm.MethodName)) ∈ lw_all := lw_g (lw_at lw_m4 76 rfl) rfl
theorem q877 : (Jvm.Cond.interfaceEntry "java/util/ArrayList" (168 : Nat)) ∈ lw_tbl := lw_at lw_m4 93 rfl
theorem q878 : (Jvm.Cond.methodLink "java/util/ArrayList" (168 : Nat) ({ cls := "java/util/Iterator", name := "hasNext", desc := "()Z" } : Jvm.MethodName)) ∈ lw_all := lw_g (lw_at lw_m4 94 rfl) rfl
theorem q887 : (Jvm.Cond.interfaceEntry "java/util/ArrayList" (174 : Nat)) ∈ lw_tbl := lw_at lw_m4 103 rfl
theorem q888 : (Jvm.Cond.methodLink "java/util/ArrayList" (174 : Nat) ({ cls := "java/util/Iterator", name := "next", desc := "()Ljava/lang/Object;" } : Jvm.MethodName)) ∈ lw_all := lw_g (lw_at lw_m4 104 rfl) rfl
theorem q994 : (Jvm.Cond.selects "java/util/ArrayList" ({ cls := "java/util/List", name := "isEmpty", desc := "()Z" } : Jvm.MethodName) ({ cls := "java/util/ArrayList", name := "isEmpty", desc := "()Z" } : Jvm.MethodName)) ∈ lw_all := lw_g (lw_at lw_m4 210 rfl) rfl
theorem q995 : (Jvm.Cond.unhidden "java/util/ArrayList" "isEmpty" "()Z") ∈ lw_tbl := lw_at lw_m4 211 rfl
theorem q996 : (Jvm.Cond.instanceMethod ({ cls := "java/util/ArrayList", name := "isEmpty", desc := "()Z" } : Jvm.MethodName)) ∈ lw_all := lw_g (lw_at lw_m4 212 rfl) rfl
theorem q997 : (Jvm.Cond.publicMethod ({ cls := "java/util/ArrayList", name := "isEmpty", desc := "()Z" } : Jvm.MethodName)) ∈ lw_tbl := lw_at lw_m4 213 rfl
theorem q998 : (Jvm.Cond.code ({ cls := "java/util/ArrayList", name := "isEmpty", desc := "()Z" } : Jvm.MethodName) prog_60_method_9_code (1 : Nat) (Option.some Jvm.ClassFile.FieldType.boolean)) ∈ lw_all := lw_g (lw_at lw_m4 214 rfl) rfl
theorem q1064 : (Jvm.Cond.selects "java/util/ArrayList" ({ cls := "java/util/List", name := "remove", desc := "(I)Ljava/lang/Object;" } : Jvm.MethodName) ({ cls := "java/util/ArrayList", name := "remove", desc := "(I)Ljava/lang/Object;" } : Jvm.MethodName)) ∈ lw_all := lw_g (lw_at lw_m5 40 rfl) rfl
theorem q1065 : (Jvm.Cond.unhidden "java/util/ArrayList" "remove" "(I)Ljava/lang/Object;") ∈ lw_tbl := lw_at lw_m5 41 rfl
theorem q1066 : (Jvm.Cond.instanceMethod ({ cls := "java/util/ArrayList", name := "remove", desc := "(I)Ljava/lang/Object;" } : Jvm.MethodName)) ∈ lw_all := lw_g (lw_at lw_m5 42 rfl) rfl
theorem q1067 : (Jvm.Cond.publicMethod ({ cls := "java/util/ArrayList", name := "remove", desc := "(I)Ljava/lang/Object;" } : Jvm.MethodName)) ∈ lw_tbl := lw_at lw_m5 43 rfl
theorem q1068 : (Jvm.Cond.code ({ cls := "java/util/ArrayList", name := "remove", desc := "(I)Ljava/lang/Object;" } : Jvm.MethodName) prog_60_method_29_code (4 : Nat) (Option.some (Jvm.ClassFile.FieldType.object "java/lang/Object"))) ∈ lw_all := lw_g (lw_at lw_m5 44 rfl) rfl
theorem q1069 : (Jvm.Cond.methodLink "java/util/ArrayList" (144 : Nat) ({ cls := "java/util/ArrayList", name := "fastRemove", desc := "([Ljava/lang/Object;I)V" } : Jvm.MethodName)) ∈ lw_all := lw_g (lw_at lw_m5 45 rfl) rfl
theorem q1070 : (Jvm.Cond.privateMethod ({ cls := "java/util/ArrayList", name := "fastRemove", desc := "([Ljava/lang/Object;I)V" } : Jvm.MethodName)) ∈ lw_tbl := lw_at lw_m5 46 rfl
theorem q1071 : (Jvm.Cond.instanceMethod ({ cls := "java/util/ArrayList", name := "fastRemove", desc := "([Ljava/lang/Object;I)V" } : Jvm.MethodName)) ∈ lw_all := lw_g (lw_at lw_m5 47 rfl) rfl
theorem q1072 : (Jvm.Cond.code ({ cls := "java/util/ArrayList", name := "fastRemove", desc := "([Ljava/lang/Object;I)V" } : Jvm.MethodName) prog_60_method_39_code (4 : Nat) (Option.none : Option Jvm.ClassFile.FieldType)) ∈ lw_all := lw_g (lw_at lw_m5 48 rfl) rfl
theorem q1245 : (Jvm.Cond.selects "java/util/ArrayList" ({ cls := "java/util/List", name := "add", desc := "(ILjava/lang/Object;)V" } : Jvm.MethodName) ({ cls := "java/util/ArrayList", name := "add", desc := "(ILjava/lang/Object;)V" } : Jvm.MethodName)) ∈ lw_all := lw_g (lw_at lw_m5 221 rfl) rfl
theorem q1246 : (Jvm.Cond.unhidden "java/util/ArrayList" "add" "(ILjava/lang/Object;)V") ∈ lw_tbl := lw_at lw_m5 222 rfl
theorem q1247 : (Jvm.Cond.instanceMethod ({ cls := "java/util/ArrayList", name := "add", desc := "(ILjava/lang/Object;)V" } : Jvm.MethodName)) ∈ lw_all := lw_g (lw_at lw_m5 223 rfl) rfl
theorem q1248 : (Jvm.Cond.publicMethod ({ cls := "java/util/ArrayList", name := "add", desc := "(ILjava/lang/Object;)V" } : Jvm.MethodName)) ∈ lw_tbl := lw_at lw_m5 224 rfl
theorem q1249 : (Jvm.Cond.code ({ cls := "java/util/ArrayList", name := "add", desc := "(ILjava/lang/Object;)V" } : Jvm.MethodName) prog_60_method_26_code (5 : Nat) (Option.none : Option Jvm.ClassFile.FieldType)) ∈ lw_all := lw_g (lw_at lw_m5 225 rfl) rfl
theorem q1250 : (Jvm.Cond.methodLink "java/util/ArrayList" (135 : Nat) ({ cls := "java/util/ArrayList", name := "rangeCheckForAdd", desc := "(I)V" } : Jvm.MethodName)) ∈ lw_all := lw_g (lw_at lw_m5 226 rfl) rfl
theorem q1251 : (Jvm.Cond.privateMethod ({ cls := "java/util/ArrayList", name := "rangeCheckForAdd", desc := "(I)V" } : Jvm.MethodName)) ∈ lw_tbl := lw_at lw_m5 227 rfl
theorem q1252 : (Jvm.Cond.instanceMethod ({ cls := "java/util/ArrayList", name := "rangeCheckForAdd", desc := "(I)V" } : Jvm.MethodName)) ∈ lw_all := lw_g (lw_at lw_m5 228 rfl) rfl
theorem q1253 : (Jvm.Cond.code ({ cls := "java/util/ArrayList", name := "rangeCheckForAdd", desc := "(I)V" } : Jvm.MethodName) prog_60_method_45_code (2 : Nat) (Option.none : Option Jvm.ClassFile.FieldType)) ∈ lw_all := lw_g (lw_at lw_m5 229 rfl) rfl
theorem q1254 : (Jvm.Cond.classLink "java/util/ArrayList" (187 : Nat) "java/lang/IndexOutOfBoundsException") ∈ lw_all := lw_g (lw_at lw_m5 230 rfl) rfl
theorem q1255 : (Jvm.Cond.methodLink "java/util/ArrayList" (198 : Nat) ({ cls := "java/util/ArrayList", name := "outOfBoundsMsg", desc := "(I)Ljava/lang/String;" } : Jvm.MethodName)) ∈ lw_all := lw_g (lw_at lw_m5 231 rfl) rfl
theorem q1256 : (Jvm.Cond.privateMethod ({ cls := "java/util/ArrayList", name := "outOfBoundsMsg", desc := "(I)Ljava/lang/String;" } : Jvm.MethodName)) ∈ lw_tbl := lw_at lw_m5 232 rfl
theorem q1257 : (Jvm.Cond.instanceMethod ({ cls := "java/util/ArrayList", name := "outOfBoundsMsg", desc := "(I)Ljava/lang/String;" } : Jvm.MethodName)) ∈ lw_all := lw_g (lw_at lw_m5 233 rfl) rfl
theorem q1258 : (Jvm.Cond.code ({ cls := "java/util/ArrayList", name := "outOfBoundsMsg", desc := "(I)Ljava/lang/String;" } : Jvm.MethodName) prog_60_method_46_code (2 : Nat) (Option.some (Jvm.ClassFile.FieldType.object "java/lang/String"))) ∈ lw_all := lw_g (lw_at lw_m5 234 rfl) rfl
theorem q1259 : (Jvm.Cond.classLink "java/util/ArrayList" (20 : Nat) "java/lang/StringBuilder") ∈ lw_all := lw_g (lw_at lw_m5 235 rfl) rfl
theorem q1261 : (Jvm.Cond.methodLink "java/util/ArrayList" (22 : Nat) ({ cls := "java/lang/StringBuilder", name := "<init>", desc := "()V" } : Jvm.MethodName)) ∈ lw_all := lw_g (lw_at lw_m5 237 rfl) rfl
theorem q1289 : (Jvm.Cond.stringRef "java/util/ArrayList" (201 : Nat) "Index: ") ∈ lw_tbl := lw_at lw_m6 25 rfl
theorem q1290 : (Jvm.Cond.methodLink "java/util/ArrayList" (25 : Nat) ({ cls := "java/lang/StringBuilder", name := "append", desc := "(Ljava/lang/String;)Ljava/lang/StringBuilder;" } : Jvm.MethodName)) ∈ lw_all := lw_g (lw_at lw_m6 26 rfl) rfl
theorem q1392 : (Jvm.Cond.methodLink "java/util/ArrayList" (29 : Nat) ({ cls := "java/lang/StringBuilder", name := "append", desc := "(I)Ljava/lang/StringBuilder;" } : Jvm.MethodName)) ∈ lw_all := lw_g (lw_at lw_m6 128 rfl) rfl
theorem q1417 : (Jvm.Cond.stringRef "java/util/ArrayList" (203 : Nat) ", Size: ") ∈ lw_tbl := lw_at lw_m6 153 rfl
theorem q1418 : (Jvm.Cond.methodLink "java/util/ArrayList" (32 : Nat) ({ cls := "java/lang/StringBuilder", name := "toString", desc := "()Ljava/lang/String;" } : Jvm.MethodName)) ∈ lw_all := lw_g (lw_at lw_m6 154 rfl) rfl
theorem q1484 : (Jvm.Cond.methodLink "java/util/ArrayList" (193 : Nat) ({ cls := "java/lang/IndexOutOfBoundsException", name := "<init>", desc := "(Ljava/lang/String;)V" } : Jvm.MethodName)) ∈ lw_all := lw_g (lw_at lw_m6 220 rfl) rfl
theorem q1539 : (Jvm.Cond.selects "java/util/ArrayList" ({ cls := "java/util/List", name := "indexOf", desc := "(Ljava/lang/Object;)I" } : Jvm.MethodName) ({ cls := "java/util/ArrayList", name := "indexOf", desc := "(Ljava/lang/Object;)I" } : Jvm.MethodName)) ∈ lw_all := lw_g (lw_at lw_m7 35 rfl) rfl
theorem q1540 : (Jvm.Cond.unhidden "java/util/ArrayList" "indexOf" "(Ljava/lang/Object;)I") ∈ lw_tbl := lw_at lw_m7 36 rfl
theorem q1541 : (Jvm.Cond.instanceMethod ({ cls := "java/util/ArrayList", name := "indexOf", desc := "(Ljava/lang/Object;)I" } : Jvm.MethodName)) ∈ lw_all := lw_g (lw_at lw_m7 37 rfl) rfl
theorem q1542 : (Jvm.Cond.publicMethod ({ cls := "java/util/ArrayList", name := "indexOf", desc := "(Ljava/lang/Object;)I" } : Jvm.MethodName)) ∈ lw_tbl := lw_at lw_m7 38 rfl
theorem q1543 : (Jvm.Cond.code ({ cls := "java/util/ArrayList", name := "indexOf", desc := "(Ljava/lang/Object;)I" } : Jvm.MethodName) prog_60_method_11_code (2 : Nat) (Option.some Jvm.ClassFile.FieldType.int)) ∈ lw_all := lw_g (lw_at lw_m7 39 rfl) rfl
theorem q1544 : (Jvm.Cond.methodLink "java/util/ArrayList" (89 : Nat) ({ cls := "java/util/ArrayList", name := "indexOfRange", desc := "(Ljava/lang/Object;II)I" } : Jvm.MethodName)) ∈ lw_all := lw_g (lw_at lw_m7 40 rfl) rfl
theorem q1545 : (Jvm.Cond.instanceMethod ({ cls := "java/util/ArrayList", name := "indexOfRange", desc := "(Ljava/lang/Object;II)I" } : Jvm.MethodName)) ∈ lw_all := lw_g (lw_at lw_m7 41 rfl) rfl
theorem q1546 : (Jvm.Cond.selects "java/util/ArrayList" ({ cls := "java/util/ArrayList", name := "indexOfRange", desc := "(Ljava/lang/Object;II)I" } : Jvm.MethodName) ({ cls := "java/util/ArrayList", name := "indexOfRange", desc := "(Ljava/lang/Object;II)I" } : Jvm.MethodName)) ∈ lw_all := lw_g (lw_at lw_m7 42 rfl) rfl
theorem q1547 : (Jvm.Cond.code ({ cls := "java/util/ArrayList", name := "indexOfRange", desc := "(Ljava/lang/Object;II)I" } : Jvm.MethodName) prog_60_method_12_code (6 : Nat) (Option.some Jvm.ClassFile.FieldType.int)) ∈ lw_all := lw_g (lw_at lw_m7 43 rfl) rfl
theorem q1548 : (Jvm.Cond.methodLink "java/util/ArrayList" (93 : Nat) ({ cls := "java/lang/Object", name := "equals", desc := "(Ljava/lang/Object;)Z" } : Jvm.MethodName)) ∈ lw_all := lw_g (lw_at lw_m7 44 rfl) rfl
theorem q1930 : (Jvm.Cond.instanceMethod ({ cls := "java/util/ArrayList", name := "remove", desc := "(Ljava/lang/Object;)Z" } : Jvm.MethodName)) ∈ lw_all := lw_g (lw_at lw_m8 186 rfl) rfl
theorem q1931 : (Jvm.Cond.selects "java/util/ArrayList" ({ cls := "java/util/ArrayList", name := "remove", desc := "(Ljava/lang/Object;)Z" } : Jvm.MethodName) ({ cls := "java/util/ArrayList", name := "remove", desc := "(Ljava/lang/Object;)Z" } : Jvm.MethodName)) ∈ lw_all := lw_g (lw_at lw_m8 187 rfl) rfl
theorem q1932 : (Jvm.Cond.code ({ cls := "java/util/ArrayList", name := "remove", desc := "(Ljava/lang/Object;)Z" } : Jvm.MethodName) prog_60_method_38_code (5 : Nat) (Option.some Jvm.ClassFile.FieldType.boolean)) ∈ lw_all := lw_g (lw_at lw_m8 188 rfl) rfl
theorem q2202 : (Jvm.Cond.selects "java/util/ArrayList" ({ cls := "java/util/ArrayList", name := "add", desc := "(Ljava/lang/Object;)Z" } : Jvm.MethodName) ({ cls := "java/util/ArrayList", name := "add", desc := "(Ljava/lang/Object;)Z" } : Jvm.MethodName)) ∈ lw_all := lw_g (lw_at lw_m9 218 rfl) rfl
theorem q2203 : (Jvm.Cond.selects "java/util/ArrayList" ({ cls := "java/util/ArrayList", name := "get", desc := "(I)Ljava/lang/Object;" } : Jvm.MethodName) ({ cls := "java/util/ArrayList", name := "get", desc := "(I)Ljava/lang/Object;" } : Jvm.MethodName)) ∈ lw_all := lw_g (lw_at lw_m9 219 rfl) rfl
theorem q2204 : (Jvm.Cond.selects "java/util/ArrayList" ({ cls := "java/util/ArrayList", name := "addAll", desc := "(Ljava/util/Collection;)Z" } : Jvm.MethodName) ({ cls := "java/util/ArrayList", name := "addAll", desc := "(Ljava/util/Collection;)Z" } : Jvm.MethodName)) ∈ lw_all := lw_g (lw_at lw_m9 220 rfl) rfl
theorem q2205 : (Jvm.Cond.selects "java/util/ArrayList" ({ cls := "java/util/ArrayList", name := "size", desc := "()I" } : Jvm.MethodName) ({ cls := "java/util/ArrayList", name := "size", desc := "()I" } : Jvm.MethodName)) ∈ lw_all := lw_g (lw_at lw_m9 221 rfl) rfl
theorem q2206 : (Jvm.Cond.selects "java/util/ArrayList" ({ cls := "java/util/ArrayList", name := "clear", desc := "()V" } : Jvm.MethodName) ({ cls := "java/util/ArrayList", name := "clear", desc := "()V" } : Jvm.MethodName)) ∈ lw_all := lw_g (lw_at lw_m9 222 rfl) rfl
theorem q2207 : (Jvm.Cond.selects "java/util/ArrayList" ({ cls := "java/util/ArrayList", name := "isEmpty", desc := "()Z" } : Jvm.MethodName) ({ cls := "java/util/ArrayList", name := "isEmpty", desc := "()Z" } : Jvm.MethodName)) ∈ lw_all := lw_g (lw_at lw_m9 223 rfl) rfl
theorem q2208 : (Jvm.Cond.selects "java/util/ArrayList" ({ cls := "java/util/ArrayList", name := "iterator", desc := "()Ljava/util/Iterator;" } : Jvm.MethodName) ({ cls := "java/util/ArrayList", name := "iterator", desc := "()Ljava/util/Iterator;" } : Jvm.MethodName)) ∈ lw_all := lw_g (lw_at lw_m9 224 rfl) rfl
theorem q2209 : (Jvm.Cond.selects "java/util/ArrayList" ({ cls := "java/util/ArrayList", name := "remove", desc := "(I)Ljava/lang/Object;" } : Jvm.MethodName) ({ cls := "java/util/ArrayList", name := "remove", desc := "(I)Ljava/lang/Object;" } : Jvm.MethodName)) ∈ lw_all := lw_g (lw_at lw_m9 225 rfl) rfl
theorem q2210 : (Jvm.Cond.selects "java/util/ArrayList" ({ cls := "java/util/ArrayList", name := "add", desc := "(ILjava/lang/Object;)V" } : Jvm.MethodName) ({ cls := "java/util/ArrayList", name := "add", desc := "(ILjava/lang/Object;)V" } : Jvm.MethodName)) ∈ lw_all := lw_g (lw_at lw_m9 226 rfl) rfl
theorem q2217 : (Jvm.Cond.castable "java/util/ArrayList" "java/lang/Object") ∈ lw_tbl := lw_at lw_m9 233 rfl
theorem in_J2 : ∀ w ∈ wsJ20, w ∈ lw_all := lw_in wsJ20 [146, 142, 144] (by decide +kernel) (by decide +kernel)

/-! jdk/internal/util/ArraysSupport -/
set_option maxRecDepth 100000
def RJ3 : String := "jdk/internal/util/ArraysSupport"
abbrev cJ3_newLength : ByteArray := prog_70_method_27_code
def yJ3_newLength : MethodName := ⟨RJ3, "newLength", "(III)I"⟩
def dkwJ3_newLength_1 : List UInt8 := [184, 0, 201, 172]
abbrev dktJ3_newLength_1 : List UInt8 := dkwJ3_newLength_1 ++ []
def dkwJ3_newLength_0 : List UInt8 := [26, 27, 28, 184, 0, 194, 96, 62, 3, 29, 162, 0, 11, 29, 18, 200, 163, 0, 5, 29, 172, 26, 27]
abbrev dktJ3_newLength_0 : List UInt8 := dkwJ3_newLength_0 ++ dktJ3_newLength_1
theorem dksJ3_newLength_0 : cJ3_newLength.data.toList.drop 0 = dktJ3_newLength_0 := by decide +kernel
theorem dksJ3_newLength_1 : cJ3_newLength.data.toList.drop 23 = dktJ3_newLength_1 := dk_seg dksJ3_newLength_0 23 rfl rfl
theorem dJ3_newLength_0 : decode cJ3_newLength 0 = .ok (.iload_n 0, 1) := dk_26 (dk_at dksJ3_newLength_0 0 rfl rfl)
theorem dJ3_newLength_1 : decode cJ3_newLength 1 = .ok (.iload_n 1, 1) := dk_27 (dk_at dksJ3_newLength_0 1 rfl rfl)
theorem dJ3_newLength_2 : decode cJ3_newLength 2 = .ok (.iload_n 2, 1) := dk_28 (dk_at dksJ3_newLength_0 2 rfl rfl)
theorem dJ3_newLength_3 : decode cJ3_newLength 3 = .ok (.invokestatic 194, 3) := dk_184 0 194 (dk_at dksJ3_newLength_0 3 rfl rfl)
theorem dJ3_newLength_6 : decode cJ3_newLength 6 = .ok (.iadd, 1) := dk_96 (dk_at dksJ3_newLength_0 6 rfl rfl)
theorem dJ3_newLength_7 : decode cJ3_newLength 7 = .ok (.istore_n 3, 1) := dk_62 (dk_at dksJ3_newLength_0 7 rfl rfl)
theorem dJ3_newLength_8 : decode cJ3_newLength 8 = .ok (.iconst 0, 1) := dk_3 (dk_at dksJ3_newLength_0 8 rfl rfl)
theorem dJ3_newLength_9 : decode cJ3_newLength 9 = .ok (.iload_n 3, 1) := dk_29 (dk_at dksJ3_newLength_0 9 rfl rfl)
theorem dJ3_newLength_10 : decode cJ3_newLength 10 = .ok (.if_icmp .ge 11, 3) := dk_162 0 11 (dk_at dksJ3_newLength_0 10 rfl rfl)
theorem dJ3_newLength_13 : decode cJ3_newLength 13 = .ok (.iload_n 3, 1) := dk_29 (dk_at dksJ3_newLength_0 13 rfl rfl)
theorem dJ3_newLength_14 : decode cJ3_newLength 14 = .ok (.ldc 200, 2) := dk_18 200 (dk_at dksJ3_newLength_0 14 rfl rfl)
theorem dJ3_newLength_16 : decode cJ3_newLength 16 = .ok (.if_icmp .gt 5, 3) := dk_163 0 5 (dk_at dksJ3_newLength_0 16 rfl rfl)
theorem dJ3_newLength_19 : decode cJ3_newLength 19 = .ok (.iload_n 3, 1) := dk_29 (dk_at dksJ3_newLength_0 19 rfl rfl)
theorem dJ3_newLength_20 : decode cJ3_newLength 20 = .ok (.ireturn, 1) := dk_172 (dk_at dksJ3_newLength_0 20 rfl rfl)
theorem dJ3_newLength_21 : decode cJ3_newLength 21 = .ok (.iload_n 0, 1) := dk_26 (dk_at dksJ3_newLength_0 21 rfl rfl)
theorem dJ3_newLength_22 : decode cJ3_newLength 22 = .ok (.iload_n 1, 1) := dk_27 (dk_at dksJ3_newLength_0 22 rfl rfl)
theorem dJ3_newLength_23 : decode cJ3_newLength 23 = .ok (.invokestatic 201, 3) := dk_184 0 201 (dk_at dksJ3_newLength_1 0 rfl rfl)
theorem dJ3_newLength_26 : decode cJ3_newLength 26 = .ok (.ireturn, 1) := dk_172 (dk_at dksJ3_newLength_1 3 rfl rfl)
abbrev cJ3_hugeLength : ByteArray := prog_70_method_28_code
def yJ3_hugeLength : MethodName := ⟨RJ3, "hugeLength", "(II)I"⟩
def dkwJ3_hugeLength_2 : List UInt8 := [191, 28, 18, 200, 163, 0, 6, 18, 200, 172, 28, 172]
abbrev dktJ3_hugeLength_2 : List UInt8 := dkwJ3_hugeLength_2 ++ []
def dkwJ3_hugeLength_1 : List UInt8 := [26, 182, 0, 98, 18, 208, 182, 0, 94, 27, 182, 0, 98, 18, 210, 182, 0, 94, 182, 0, 101, 183, 0, 212]
abbrev dktJ3_hugeLength_1 : List UInt8 := dkwJ3_hugeLength_1 ++ dktJ3_hugeLength_2
def dkwJ3_hugeLength_0 : List UInt8 := [26, 27, 96, 61, 28, 156, 0, 44, 187, 0, 204, 89, 187, 0, 89, 89, 183, 0, 91, 18, 206, 182, 0, 94]
abbrev dktJ3_hugeLength_0 : List UInt8 := dkwJ3_hugeLength_0 ++ dktJ3_hugeLength_1
theorem dksJ3_hugeLength_0 : cJ3_hugeLength.data.toList.drop 0 = dktJ3_hugeLength_0 := by decide +kernel
theorem dksJ3_hugeLength_1 : cJ3_hugeLength.data.toList.drop 24 = dktJ3_hugeLength_1 := dk_seg dksJ3_hugeLength_0 24 rfl rfl
theorem dksJ3_hugeLength_2 : cJ3_hugeLength.data.toList.drop 48 = dktJ3_hugeLength_2 := dk_seg dksJ3_hugeLength_1 24 rfl rfl
theorem dJ3_hugeLength_0 : decode cJ3_hugeLength 0 = .ok (.iload_n 0, 1) := dk_26 (dk_at dksJ3_hugeLength_0 0 rfl rfl)
theorem dJ3_hugeLength_1 : decode cJ3_hugeLength 1 = .ok (.iload_n 1, 1) := dk_27 (dk_at dksJ3_hugeLength_0 1 rfl rfl)
theorem dJ3_hugeLength_2 : decode cJ3_hugeLength 2 = .ok (.iadd, 1) := dk_96 (dk_at dksJ3_hugeLength_0 2 rfl rfl)
theorem dJ3_hugeLength_3 : decode cJ3_hugeLength 3 = .ok (.istore_n 2, 1) := dk_61 (dk_at dksJ3_hugeLength_0 3 rfl rfl)
theorem dJ3_hugeLength_4 : decode cJ3_hugeLength 4 = .ok (.iload_n 2, 1) := dk_28 (dk_at dksJ3_hugeLength_0 4 rfl rfl)
theorem dJ3_hugeLength_5 : decode cJ3_hugeLength 5 = .ok (.ifCond .ge 44, 3) := dk_156 0 44 (dk_at dksJ3_hugeLength_0 5 rfl rfl)
theorem dJ3_hugeLength_8 : decode cJ3_hugeLength 8 = .ok (.new 204, 3) := dk_187 0 204 (dk_at dksJ3_hugeLength_0 8 rfl rfl)
theorem dJ3_hugeLength_11 : decode cJ3_hugeLength 11 = .ok (.dup, 1) := dk_89 (dk_at dksJ3_hugeLength_0 11 rfl rfl)
theorem dJ3_hugeLength_12 : decode cJ3_hugeLength 12 = .ok (.new 89, 3) := dk_187 0 89 (dk_at dksJ3_hugeLength_0 12 rfl rfl)
theorem dJ3_hugeLength_15 : decode cJ3_hugeLength 15 = .ok (.dup, 1) := dk_89 (dk_at dksJ3_hugeLength_0 15 rfl rfl)
theorem dJ3_hugeLength_16 : decode cJ3_hugeLength 16 = .ok (.invokespecial 91, 3) := dk_183 0 91 (dk_at dksJ3_hugeLength_0 16 rfl rfl)
theorem dJ3_hugeLength_19 : decode cJ3_hugeLength 19 = .ok (.ldc 206, 2) := dk_18 206 (dk_at dksJ3_hugeLength_0 19 rfl rfl)
theorem dJ3_hugeLength_21 : decode cJ3_hugeLength 21 = .ok (.invokevirtual 94, 3) := dk_182 0 94 (dk_at dksJ3_hugeLength_0 21 rfl rfl)
theorem dJ3_hugeLength_24 : decode cJ3_hugeLength 24 = .ok (.iload_n 0, 1) := dk_26 (dk_at dksJ3_hugeLength_1 0 rfl rfl)
theorem dJ3_hugeLength_25 : decode cJ3_hugeLength 25 = .ok (.invokevirtual 98, 3) := dk_182 0 98 (dk_at dksJ3_hugeLength_1 1 rfl rfl)
theorem dJ3_hugeLength_28 : decode cJ3_hugeLength 28 = .ok (.ldc 208, 2) := dk_18 208 (dk_at dksJ3_hugeLength_1 4 rfl rfl)
theorem dJ3_hugeLength_30 : decode cJ3_hugeLength 30 = .ok (.invokevirtual 94, 3) := dk_182 0 94 (dk_at dksJ3_hugeLength_1 6 rfl rfl)
theorem dJ3_hugeLength_33 : decode cJ3_hugeLength 33 = .ok (.iload_n 1, 1) := dk_27 (dk_at dksJ3_hugeLength_1 9 rfl rfl)
theorem dJ3_hugeLength_34 : decode cJ3_hugeLength 34 = .ok (.invokevirtual 98, 3) := dk_182 0 98 (dk_at dksJ3_hugeLength_1 10 rfl rfl)
theorem dJ3_hugeLength_37 : decode cJ3_hugeLength 37 = .ok (.ldc 210, 2) := dk_18 210 (dk_at dksJ3_hugeLength_1 13 rfl rfl)
theorem dJ3_hugeLength_39 : decode cJ3_hugeLength 39 = .ok (.invokevirtual 94, 3) := dk_182 0 94 (dk_at dksJ3_hugeLength_1 15 rfl rfl)
theorem dJ3_hugeLength_42 : decode cJ3_hugeLength 42 = .ok (.invokevirtual 101, 3) := dk_182 0 101 (dk_at dksJ3_hugeLength_1 18 rfl rfl)
theorem dJ3_hugeLength_45 : decode cJ3_hugeLength 45 = .ok (.invokespecial 212, 3) := dk_183 0 212 (dk_at dksJ3_hugeLength_1 21 rfl rfl)
theorem dJ3_hugeLength_48 : decode cJ3_hugeLength 48 = .ok (.athrow, 1) := dk_191 (dk_at dksJ3_hugeLength_2 0 rfl rfl)
theorem dJ3_hugeLength_49 : decode cJ3_hugeLength 49 = .ok (.iload_n 2, 1) := dk_28 (dk_at dksJ3_hugeLength_2 1 rfl rfl)
theorem dJ3_hugeLength_50 : decode cJ3_hugeLength 50 = .ok (.ldc 200, 2) := dk_18 200 (dk_at dksJ3_hugeLength_2 2 rfl rfl)
theorem dJ3_hugeLength_52 : decode cJ3_hugeLength 52 = .ok (.if_icmp .gt 6, 3) := dk_163 0 6 (dk_at dksJ3_hugeLength_2 4 rfl rfl)
theorem dJ3_hugeLength_55 : decode cJ3_hugeLength 55 = .ok (.ldc 200, 2) := dk_18 200 (dk_at dksJ3_hugeLength_2 7 rfl rfl)
theorem dJ3_hugeLength_57 : decode cJ3_hugeLength 57 = .ok (.ireturn, 1) := dk_172 (dk_at dksJ3_hugeLength_2 9 rfl rfl)
theorem dJ3_hugeLength_58 : decode cJ3_hugeLength 58 = .ok (.iload_n 2, 1) := dk_28 (dk_at dksJ3_hugeLength_2 10 rfl rfl)
theorem dJ3_hugeLength_59 : decode cJ3_hugeLength 59 = .ok (.ireturn, 1) := dk_172 (dk_at dksJ3_hugeLength_2 11 rfl rfl)
theorem q71 : (Jvm.Cond.initialized "jdk/internal/util/ArraysSupport") ∈ lw_all := lw_g (lw_at lw_m1 7 rfl) rfl
theorem q202 : (Jvm.Cond.static ({ cls := "jdk/internal/util/ArraysSupport", name := "newLength", desc := "(III)I" } : Jvm.MethodName)) ∈ lw_all := lw_g (lw_at lw_m1 138 rfl) rfl
theorem q203 : (Jvm.Cond.code ({ cls := "jdk/internal/util/ArraysSupport", name := "newLength", desc := "(III)I" } : Jvm.MethodName) prog_70_method_27_code (4 : Nat) (Option.some Jvm.ClassFile.FieldType.int)) ∈ lw_all := lw_g (lw_at lw_m1 139 rfl) rfl
theorem q204 : (Jvm.Cond.methodLink "jdk/internal/util/ArraysSupport" (194 : Nat) ({ cls := "java/lang/Math", name := "max", desc := "(II)I" } : Jvm.MethodName)) ∈ lw_all := lw_g (lw_at lw_m1 140 rfl) rfl
theorem q207 : (Jvm.Cond.constant "jdk/internal/util/ArraysSupport" (200 : Nat) (2147483639 : Int32)) ∈ lw_all := lw_g (lw_at lw_m1 143 rfl) rfl
theorem q208 : (Jvm.Cond.methodLink "jdk/internal/util/ArraysSupport" (201 : Nat) ({ cls := "jdk/internal/util/ArraysSupport", name := "hugeLength", desc := "(II)I" } : Jvm.MethodName)) ∈ lw_all := lw_g (lw_at lw_m1 144 rfl) rfl
theorem q209 : (Jvm.Cond.static ({ cls := "jdk/internal/util/ArraysSupport", name := "hugeLength", desc := "(II)I" } : Jvm.MethodName)) ∈ lw_all := lw_g (lw_at lw_m1 145 rfl) rfl
theorem q210 : (Jvm.Cond.code ({ cls := "jdk/internal/util/ArraysSupport", name := "hugeLength", desc := "(II)I" } : Jvm.MethodName) prog_70_method_28_code (3 : Nat) (Option.some Jvm.ClassFile.FieldType.int)) ∈ lw_all := lw_g (lw_at lw_m1 146 rfl) rfl

/-! java/lang/Math -/
set_option maxRecDepth 100000
def RJ4 : String := "java/lang/Math"
abbrev cJ4_max : ByteArray := prog_47_method_65_code
def yJ4_max : MethodName := ⟨RJ4, "max", "(II)I"⟩
def dkwJ4_max_0 : List UInt8 := [26, 27, 161, 0, 7, 26, 167, 0, 4, 27, 172]
abbrev dktJ4_max_0 : List UInt8 := dkwJ4_max_0 ++ []
theorem dksJ4_max_0 : cJ4_max.data.toList.drop 0 = dktJ4_max_0 := by decide +kernel
theorem dJ4_max_0 : decode cJ4_max 0 = .ok (.iload_n 0, 1) := dk_26 (dk_at dksJ4_max_0 0 rfl rfl)
theorem dJ4_max_1 : decode cJ4_max 1 = .ok (.iload_n 1, 1) := dk_27 (dk_at dksJ4_max_0 1 rfl rfl)
theorem dJ4_max_2 : decode cJ4_max 2 = .ok (.if_icmp .lt 7, 3) := dk_161 0 7 (dk_at dksJ4_max_0 2 rfl rfl)
theorem dJ4_max_5 : decode cJ4_max 5 = .ok (.iload_n 0, 1) := dk_26 (dk_at dksJ4_max_0 5 rfl rfl)
theorem dJ4_max_6 : decode cJ4_max 6 = .ok (.goto 4, 3) := dk_167 0 4 (dk_at dksJ4_max_0 6 rfl rfl)
theorem dJ4_max_9 : decode cJ4_max 9 = .ok (.iload_n 1, 1) := dk_27 (dk_at dksJ4_max_0 9 rfl rfl)
theorem dJ4_max_10 : decode cJ4_max 10 = .ok (.ireturn, 1) := dk_172 (dk_at dksJ4_max_0 10 rfl rfl)
abbrev cJ4_min : ByteArray := prog_47_method_69_code
def yJ4_min : MethodName := ⟨RJ4, "min", "(II)I"⟩
def dkwJ4_min_0 : List UInt8 := [26, 27, 163, 0, 7, 26, 167, 0, 4, 27, 172]
abbrev dktJ4_min_0 : List UInt8 := dkwJ4_min_0 ++ []
theorem dksJ4_min_0 : cJ4_min.data.toList.drop 0 = dktJ4_min_0 := by decide +kernel
theorem dJ4_min_0 : decode cJ4_min 0 = .ok (.iload_n 0, 1) := dk_26 (dk_at dksJ4_min_0 0 rfl rfl)
theorem dJ4_min_1 : decode cJ4_min 1 = .ok (.iload_n 1, 1) := dk_27 (dk_at dksJ4_min_0 1 rfl rfl)
theorem dJ4_min_2 : decode cJ4_min 2 = .ok (.if_icmp .gt 7, 3) := dk_163 0 7 (dk_at dksJ4_min_0 2 rfl rfl)
theorem dJ4_min_5 : decode cJ4_min 5 = .ok (.iload_n 0, 1) := dk_26 (dk_at dksJ4_min_0 5 rfl rfl)
theorem dJ4_min_6 : decode cJ4_min 6 = .ok (.goto 4, 3) := dk_167 0 4 (dk_at dksJ4_min_0 6 rfl rfl)
theorem dJ4_min_9 : decode cJ4_min 9 = .ok (.iload_n 1, 1) := dk_27 (dk_at dksJ4_min_0 9 rfl rfl)
theorem dJ4_min_10 : decode cJ4_min 10 = .ok (.ireturn, 1) := dk_172 (dk_at dksJ4_min_0 10 rfl rfl)
theorem q72 : (Jvm.Cond.initialized "java/lang/Math") ∈ lw_all := lw_g (lw_at lw_m1 8 rfl) rfl
theorem q205 : (Jvm.Cond.static ({ cls := "java/lang/Math", name := "max", desc := "(II)I" } : Jvm.MethodName)) ∈ lw_all := lw_g (lw_at lw_m1 141 rfl) rfl
theorem q206 : (Jvm.Cond.code ({ cls := "java/lang/Math", name := "max", desc := "(II)I" } : Jvm.MethodName) prog_47_method_65_code (2 : Nat) (Option.some Jvm.ClassFile.FieldType.int)) ∈ lw_all := lw_g (lw_at lw_m1 142 rfl) rfl
theorem q262 : (Jvm.Cond.static ({ cls := "java/lang/Math", name := "min", desc := "(II)I" } : Jvm.MethodName)) ∈ lw_all := lw_g (lw_at lw_m1 198 rfl) rfl
theorem q263 : (Jvm.Cond.code ({ cls := "java/lang/Math", name := "min", desc := "(II)I" } : Jvm.MethodName) prog_47_method_69_code (2 : Nat) (Option.some Jvm.ClassFile.FieldType.int)) ∈ lw_all := lw_g (lw_at lw_m1 199 rfl) rfl

/-! java/util/Arrays -/
set_option maxRecDepth 100000
def RJ5 : String := "java/util/Arrays"
abbrev cJ5_copyOf : ByteArray := prog_62_method_119_code
def yJ5_copyOf : MethodName := ⟨RJ5, "copyOf", "([Ljava/lang/Object;I)[Ljava/lang/Object;"⟩
def dkwJ5_copyOf_0 : List UInt8 := [42, 27, 42, 182, 0, 86, 184, 1, 44, 176]
abbrev dktJ5_copyOf_0 : List UInt8 := dkwJ5_copyOf_0 ++ []
theorem dksJ5_copyOf_0 : cJ5_copyOf.data.toList.drop 0 = dktJ5_copyOf_0 := by decide +kernel
theorem dJ5_copyOf_0 : decode cJ5_copyOf 0 = .ok (.aload_n 0, 1) := dk_42 (dk_at dksJ5_copyOf_0 0 rfl rfl)
theorem dJ5_copyOf_1 : decode cJ5_copyOf 1 = .ok (.iload_n 1, 1) := dk_27 (dk_at dksJ5_copyOf_0 1 rfl rfl)
theorem dJ5_copyOf_2 : decode cJ5_copyOf 2 = .ok (.aload_n 0, 1) := dk_42 (dk_at dksJ5_copyOf_0 2 rfl rfl)
theorem dJ5_copyOf_3 : decode cJ5_copyOf 3 = .ok (.invokevirtual 86, 3) := dk_182 0 86 (dk_at dksJ5_copyOf_0 3 rfl rfl)
theorem dJ5_copyOf_6 : decode cJ5_copyOf 6 = .ok (.invokestatic 300, 3) := dk_184 1 44 (dk_at dksJ5_copyOf_0 6 rfl rfl)
theorem dJ5_copyOf_9 : decode cJ5_copyOf 9 = .ok (.areturn, 1) := dk_176 (dk_at dksJ5_copyOf_0 9 rfl rfl)
abbrev cJ5_copyOf_2 : ByteArray := prog_62_method_120_code
def yJ5_copyOf_2 : MethodName := ⟨RJ5, "copyOf", "([Ljava/lang/Object;ILjava/lang/Class;)[Ljava/lang/Object;"⟩
def dkwJ5_copyOf_2_1 : List UInt8 := [78, 42, 3, 45, 3, 42, 190, 27, 184, 1, 48, 184, 0, 150, 45, 176]
abbrev dktJ5_copyOf_2_1 : List UInt8 := dkwJ5_copyOf_2_1 ++ []
def dkwJ5_copyOf_2_0 : List UInt8 := [44, 18, 110, 166, 0, 10, 27, 189, 0, 2, 167, 0, 14, 44, 182, 0, 90, 27, 184, 0, 95, 192, 0, 110]
abbrev dktJ5_copyOf_2_0 : List UInt8 := dkwJ5_copyOf_2_0 ++ dktJ5_copyOf_2_1
theorem dksJ5_copyOf_2_0 : cJ5_copyOf_2.data.toList.drop 0 = dktJ5_copyOf_2_0 := by decide +kernel
theorem dksJ5_copyOf_2_1 : cJ5_copyOf_2.data.toList.drop 24 = dktJ5_copyOf_2_1 := dk_seg dksJ5_copyOf_2_0 24 rfl rfl
theorem dJ5_copyOf_2_0 : decode cJ5_copyOf_2 0 = .ok (.aload_n 2, 1) := dk_44 (dk_at dksJ5_copyOf_2_0 0 rfl rfl)
theorem dJ5_copyOf_2_1 : decode cJ5_copyOf_2 1 = .ok (.ldc 110, 2) := dk_18 110 (dk_at dksJ5_copyOf_2_0 1 rfl rfl)
theorem dJ5_copyOf_2_3 : decode cJ5_copyOf_2 3 = .ok (.if_acmp .ne 10, 3) := dk_166 0 10 (dk_at dksJ5_copyOf_2_0 3 rfl rfl)
theorem dJ5_copyOf_2_6 : decode cJ5_copyOf_2 6 = .ok (.iload_n 1, 1) := dk_27 (dk_at dksJ5_copyOf_2_0 6 rfl rfl)
theorem dJ5_copyOf_2_7 : decode cJ5_copyOf_2 7 = .ok (.anewarray 2, 3) := dk_189 0 2 (dk_at dksJ5_copyOf_2_0 7 rfl rfl)
theorem dJ5_copyOf_2_10 : decode cJ5_copyOf_2 10 = .ok (.goto 14, 3) := dk_167 0 14 (dk_at dksJ5_copyOf_2_0 10 rfl rfl)
theorem dJ5_copyOf_2_13 : decode cJ5_copyOf_2 13 = .ok (.aload_n 2, 1) := dk_44 (dk_at dksJ5_copyOf_2_0 13 rfl rfl)
theorem dJ5_copyOf_2_14 : decode cJ5_copyOf_2 14 = .ok (.invokevirtual 90, 3) := dk_182 0 90 (dk_at dksJ5_copyOf_2_0 14 rfl rfl)
theorem dJ5_copyOf_2_17 : decode cJ5_copyOf_2 17 = .ok (.iload_n 1, 1) := dk_27 (dk_at dksJ5_copyOf_2_0 17 rfl rfl)
theorem dJ5_copyOf_2_18 : decode cJ5_copyOf_2 18 = .ok (.invokestatic 95, 3) := dk_184 0 95 (dk_at dksJ5_copyOf_2_0 18 rfl rfl)
theorem dJ5_copyOf_2_21 : decode cJ5_copyOf_2 21 = .ok (.checkcast 110, 3) := dk_192 0 110 (dk_at dksJ5_copyOf_2_0 21 rfl rfl)
theorem dJ5_copyOf_2_24 : decode cJ5_copyOf_2 24 = .ok (.astore_n 3, 1) := dk_78 (dk_at dksJ5_copyOf_2_1 0 rfl rfl)
theorem dJ5_copyOf_2_25 : decode cJ5_copyOf_2 25 = .ok (.aload_n 0, 1) := dk_42 (dk_at dksJ5_copyOf_2_1 1 rfl rfl)
theorem dJ5_copyOf_2_26 : decode cJ5_copyOf_2 26 = .ok (.iconst 0, 1) := dk_3 (dk_at dksJ5_copyOf_2_1 2 rfl rfl)
theorem dJ5_copyOf_2_27 : decode cJ5_copyOf_2 27 = .ok (.aload_n 3, 1) := dk_45 (dk_at dksJ5_copyOf_2_1 3 rfl rfl)
theorem dJ5_copyOf_2_28 : decode cJ5_copyOf_2 28 = .ok (.iconst 0, 1) := dk_3 (dk_at dksJ5_copyOf_2_1 4 rfl rfl)
theorem dJ5_copyOf_2_29 : decode cJ5_copyOf_2 29 = .ok (.aload_n 0, 1) := dk_42 (dk_at dksJ5_copyOf_2_1 5 rfl rfl)
theorem dJ5_copyOf_2_30 : decode cJ5_copyOf_2 30 = .ok (.arraylength, 1) := dk_190 (dk_at dksJ5_copyOf_2_1 6 rfl rfl)
theorem dJ5_copyOf_2_31 : decode cJ5_copyOf_2 31 = .ok (.iload_n 1, 1) := dk_27 (dk_at dksJ5_copyOf_2_1 7 rfl rfl)
theorem dJ5_copyOf_2_32 : decode cJ5_copyOf_2 32 = .ok (.invokestatic 304, 3) := dk_184 1 48 (dk_at dksJ5_copyOf_2_1 8 rfl rfl)
theorem dJ5_copyOf_2_35 : decode cJ5_copyOf_2 35 = .ok (.invokestatic 150, 3) := dk_184 0 150 (dk_at dksJ5_copyOf_2_1 11 rfl rfl)
theorem dJ5_copyOf_2_38 : decode cJ5_copyOf_2 38 = .ok (.aload_n 3, 1) := dk_45 (dk_at dksJ5_copyOf_2_1 14 rfl rfl)
theorem dJ5_copyOf_2_39 : decode cJ5_copyOf_2 39 = .ok (.areturn, 1) := dk_176 (dk_at dksJ5_copyOf_2_1 15 rfl rfl)
abbrev cJ5_fill : ByteArray := prog_62_method_103_code
def yJ5_fill : MethodName := ⟨RJ5, "fill", "([II)V"⟩
def dkwJ5_fill_0 : List UInt8 := [3, 61, 42, 190, 62, 28, 29, 162, 0, 13, 42, 28, 27, 79, 132, 2, 1, 167, 255, 244, 177]
abbrev dktJ5_fill_0 : List UInt8 := dkwJ5_fill_0 ++ []
theorem dksJ5_fill_0 : cJ5_fill.data.toList.drop 0 = dktJ5_fill_0 := by decide +kernel
theorem dJ5_fill_0 : decode cJ5_fill 0 = .ok (.iconst 0, 1) := dk_3 (dk_at dksJ5_fill_0 0 rfl rfl)
theorem dJ5_fill_1 : decode cJ5_fill 1 = .ok (.istore_n 2, 1) := dk_61 (dk_at dksJ5_fill_0 1 rfl rfl)
theorem dJ5_fill_2 : decode cJ5_fill 2 = .ok (.aload_n 0, 1) := dk_42 (dk_at dksJ5_fill_0 2 rfl rfl)
theorem dJ5_fill_3 : decode cJ5_fill 3 = .ok (.arraylength, 1) := dk_190 (dk_at dksJ5_fill_0 3 rfl rfl)
theorem dJ5_fill_4 : decode cJ5_fill 4 = .ok (.istore_n 3, 1) := dk_62 (dk_at dksJ5_fill_0 4 rfl rfl)
theorem dJ5_fill_5 : decode cJ5_fill 5 = .ok (.iload_n 2, 1) := dk_28 (dk_at dksJ5_fill_0 5 rfl rfl)
theorem dJ5_fill_6 : decode cJ5_fill 6 = .ok (.iload_n 3, 1) := dk_29 (dk_at dksJ5_fill_0 6 rfl rfl)
theorem dJ5_fill_7 : decode cJ5_fill 7 = .ok (.if_icmp .ge 13, 3) := dk_162 0 13 (dk_at dksJ5_fill_0 7 rfl rfl)
theorem dJ5_fill_10 : decode cJ5_fill 10 = .ok (.aload_n 0, 1) := dk_42 (dk_at dksJ5_fill_0 10 rfl rfl)
theorem dJ5_fill_11 : decode cJ5_fill 11 = .ok (.iload_n 2, 1) := dk_28 (dk_at dksJ5_fill_0 11 rfl rfl)
theorem dJ5_fill_12 : decode cJ5_fill 12 = .ok (.iload_n 1, 1) := dk_27 (dk_at dksJ5_fill_0 12 rfl rfl)
theorem dJ5_fill_13 : decode cJ5_fill 13 = .ok (.iastore, 1) := dk_79 (dk_at dksJ5_fill_0 13 rfl rfl)
theorem dJ5_fill_14 : decode cJ5_fill 14 = .ok (.iinc 2 1, 3) := dk_132 2 1 (dk_at dksJ5_fill_0 14 rfl rfl)
theorem dJ5_fill_17 : decode cJ5_fill 17 = .ok (.goto (-12), 3) := dk_167 255 244 (dk_at dksJ5_fill_0 17 rfl rfl)
theorem dJ5_fill_20 : decode cJ5_fill 20 = .ok (.return_, 1) := dk_177 (dk_at dksJ5_fill_0 20 rfl rfl)
abbrev cJ5_copyOf_3 : ByteArray := prog_62_method_121_code
def yJ5_copyOf_3 : MethodName := ⟨RJ5, "copyOf", "([BI)[B"⟩
def dkwJ5_copyOf_3_1 : List UInt8 := [27, 184, 1, 48, 184, 0, 150, 44, 176]
abbrev dktJ5_copyOf_3_1 : List UInt8 := dkwJ5_copyOf_3_1 ++ []
def dkwJ5_copyOf_3_0 : List UInt8 := [27, 42, 190, 160, 0, 11, 42, 182, 1, 54, 192, 1, 55, 176, 27, 188, 8, 77, 42, 3, 44, 3, 42, 190]
abbrev dktJ5_copyOf_3_0 : List UInt8 := dkwJ5_copyOf_3_0 ++ dktJ5_copyOf_3_1
theorem dksJ5_copyOf_3_0 : cJ5_copyOf_3.data.toList.drop 0 = dktJ5_copyOf_3_0 := by decide +kernel
theorem dksJ5_copyOf_3_1 : cJ5_copyOf_3.data.toList.drop 24 = dktJ5_copyOf_3_1 := dk_seg dksJ5_copyOf_3_0 24 rfl rfl
theorem dJ5_copyOf_3_0 : decode cJ5_copyOf_3 0 = .ok (.iload_n 1, 1) := dk_27 (dk_at dksJ5_copyOf_3_0 0 rfl rfl)
theorem dJ5_copyOf_3_1 : decode cJ5_copyOf_3 1 = .ok (.aload_n 0, 1) := dk_42 (dk_at dksJ5_copyOf_3_0 1 rfl rfl)
theorem dJ5_copyOf_3_2 : decode cJ5_copyOf_3 2 = .ok (.arraylength, 1) := dk_190 (dk_at dksJ5_copyOf_3_0 2 rfl rfl)
theorem dJ5_copyOf_3_3 : decode cJ5_copyOf_3 3 = .ok (.if_icmp .ne 11, 3) := dk_160 0 11 (dk_at dksJ5_copyOf_3_0 3 rfl rfl)
theorem dJ5_copyOf_3_6 : decode cJ5_copyOf_3 6 = .ok (.aload_n 0, 1) := dk_42 (dk_at dksJ5_copyOf_3_0 6 rfl rfl)
theorem dJ5_copyOf_3_7 : decode cJ5_copyOf_3 7 = .ok (.invokevirtual 310, 3) := dk_182 1 54 (dk_at dksJ5_copyOf_3_0 7 rfl rfl)
theorem dJ5_copyOf_3_10 : decode cJ5_copyOf_3 10 = .ok (.checkcast 311, 3) := dk_192 1 55 (dk_at dksJ5_copyOf_3_0 10 rfl rfl)
theorem dJ5_copyOf_3_13 : decode cJ5_copyOf_3 13 = .ok (.areturn, 1) := dk_176 (dk_at dksJ5_copyOf_3_0 13 rfl rfl)
theorem dJ5_copyOf_3_14 : decode cJ5_copyOf_3 14 = .ok (.iload_n 1, 1) := dk_27 (dk_at dksJ5_copyOf_3_0 14 rfl rfl)
theorem dJ5_copyOf_3_15 : decode cJ5_copyOf_3 15 = .ok (.newarray .byte, 2) := dk_188_8 (dk_at dksJ5_copyOf_3_0 15 rfl rfl)
theorem dJ5_copyOf_3_17 : decode cJ5_copyOf_3 17 = .ok (.astore_n 2, 1) := dk_77 (dk_at dksJ5_copyOf_3_0 17 rfl rfl)
theorem dJ5_copyOf_3_18 : decode cJ5_copyOf_3 18 = .ok (.aload_n 0, 1) := dk_42 (dk_at dksJ5_copyOf_3_0 18 rfl rfl)
theorem dJ5_copyOf_3_19 : decode cJ5_copyOf_3 19 = .ok (.iconst 0, 1) := dk_3 (dk_at dksJ5_copyOf_3_0 19 rfl rfl)
theorem dJ5_copyOf_3_20 : decode cJ5_copyOf_3 20 = .ok (.aload_n 2, 1) := dk_44 (dk_at dksJ5_copyOf_3_0 20 rfl rfl)
theorem dJ5_copyOf_3_21 : decode cJ5_copyOf_3 21 = .ok (.iconst 0, 1) := dk_3 (dk_at dksJ5_copyOf_3_0 21 rfl rfl)
theorem dJ5_copyOf_3_22 : decode cJ5_copyOf_3 22 = .ok (.aload_n 0, 1) := dk_42 (dk_at dksJ5_copyOf_3_0 22 rfl rfl)
theorem dJ5_copyOf_3_23 : decode cJ5_copyOf_3 23 = .ok (.arraylength, 1) := dk_190 (dk_at dksJ5_copyOf_3_0 23 rfl rfl)
theorem dJ5_copyOf_3_24 : decode cJ5_copyOf_3 24 = .ok (.iload_n 1, 1) := dk_27 (dk_at dksJ5_copyOf_3_1 0 rfl rfl)
theorem dJ5_copyOf_3_25 : decode cJ5_copyOf_3 25 = .ok (.invokestatic 304, 3) := dk_184 1 48 (dk_at dksJ5_copyOf_3_1 1 rfl rfl)
theorem dJ5_copyOf_3_28 : decode cJ5_copyOf_3 28 = .ok (.invokestatic 150, 3) := dk_184 0 150 (dk_at dksJ5_copyOf_3_1 4 rfl rfl)
theorem dJ5_copyOf_3_31 : decode cJ5_copyOf_3 31 = .ok (.aload_n 2, 1) := dk_44 (dk_at dksJ5_copyOf_3_1 7 rfl rfl)
theorem dJ5_copyOf_3_32 : decode cJ5_copyOf_3 32 = .ok (.areturn, 1) := dk_176 (dk_at dksJ5_copyOf_3_1 8 rfl rfl)
abbrev cJ5_copyOfRange : ByteArray := prog_62_method_132_code
def yJ5_copyOfRange : MethodName := ⟨RJ5, "copyOfRange", "([BII)[B"⟩
def dkwJ5_copyOfRange_1 : List UInt8 := [176]
abbrev dktJ5_copyOfRange_1 : List UInt8 := dkwJ5_copyOfRange_1 ++ []
def dkwJ5_copyOfRange_0 : List UInt8 := [27, 154, 0, 9, 28, 42, 190, 159, 0, 10, 42, 27, 28, 184, 1, 83, 176, 42, 182, 1, 54, 192, 1, 55]
abbrev dktJ5_copyOfRange_0 : List UInt8 := dkwJ5_copyOfRange_0 ++ dktJ5_copyOfRange_1
theorem dksJ5_copyOfRange_0 : cJ5_copyOfRange.data.toList.drop 0 = dktJ5_copyOfRange_0 := by decide +kernel
theorem dksJ5_copyOfRange_1 : cJ5_copyOfRange.data.toList.drop 24 = dktJ5_copyOfRange_1 := dk_seg dksJ5_copyOfRange_0 24 rfl rfl
theorem dJ5_copyOfRange_0 : decode cJ5_copyOfRange 0 = .ok (.iload_n 1, 1) := dk_27 (dk_at dksJ5_copyOfRange_0 0 rfl rfl)
theorem dJ5_copyOfRange_1 : decode cJ5_copyOfRange 1 = .ok (.ifCond .ne 9, 3) := dk_154 0 9 (dk_at dksJ5_copyOfRange_0 1 rfl rfl)
theorem dJ5_copyOfRange_4 : decode cJ5_copyOfRange 4 = .ok (.iload_n 2, 1) := dk_28 (dk_at dksJ5_copyOfRange_0 4 rfl rfl)
theorem dJ5_copyOfRange_5 : decode cJ5_copyOfRange 5 = .ok (.aload_n 0, 1) := dk_42 (dk_at dksJ5_copyOfRange_0 5 rfl rfl)
theorem dJ5_copyOfRange_6 : decode cJ5_copyOfRange 6 = .ok (.arraylength, 1) := dk_190 (dk_at dksJ5_copyOfRange_0 6 rfl rfl)
theorem dJ5_copyOfRange_7 : decode cJ5_copyOfRange 7 = .ok (.if_icmp .eq 10, 3) := dk_159 0 10 (dk_at dksJ5_copyOfRange_0 7 rfl rfl)
theorem dJ5_copyOfRange_10 : decode cJ5_copyOfRange 10 = .ok (.aload_n 0, 1) := dk_42 (dk_at dksJ5_copyOfRange_0 10 rfl rfl)
theorem dJ5_copyOfRange_11 : decode cJ5_copyOfRange 11 = .ok (.iload_n 1, 1) := dk_27 (dk_at dksJ5_copyOfRange_0 11 rfl rfl)
theorem dJ5_copyOfRange_12 : decode cJ5_copyOfRange 12 = .ok (.iload_n 2, 1) := dk_28 (dk_at dksJ5_copyOfRange_0 12 rfl rfl)
theorem dJ5_copyOfRange_13 : decode cJ5_copyOfRange 13 = .ok (.invokestatic 339, 3) := dk_184 1 83 (dk_at dksJ5_copyOfRange_0 13 rfl rfl)
theorem dJ5_copyOfRange_16 : decode cJ5_copyOfRange 16 = .ok (.areturn, 1) := dk_176 (dk_at dksJ5_copyOfRange_0 16 rfl rfl)
theorem dJ5_copyOfRange_17 : decode cJ5_copyOfRange 17 = .ok (.aload_n 0, 1) := dk_42 (dk_at dksJ5_copyOfRange_0 17 rfl rfl)
theorem dJ5_copyOfRange_18 : decode cJ5_copyOfRange 18 = .ok (.invokevirtual 310, 3) := dk_182 1 54 (dk_at dksJ5_copyOfRange_0 18 rfl rfl)
theorem dJ5_copyOfRange_21 : decode cJ5_copyOfRange 21 = .ok (.checkcast 311, 3) := dk_192 1 55 (dk_at dksJ5_copyOfRange_0 21 rfl rfl)
theorem dJ5_copyOfRange_24 : decode cJ5_copyOfRange 24 = .ok (.areturn, 1) := dk_176 (dk_at dksJ5_copyOfRange_1 0 rfl rfl)
abbrev cJ5_copyOfRangeByte : ByteArray := prog_62_method_133_code
def yJ5_copyOfRangeByte : MethodName := ⟨RJ5, "copyOfRangeByte", "([BII)[B"⟩
def dkwJ5_copyOfRangeByte_1 : List UInt8 := [184, 1, 48, 184, 0, 150, 25, 4, 176]
abbrev dktJ5_copyOfRangeByte_1 : List UInt8 := dkwJ5_copyOfRangeByte_1 ++ []
def dkwJ5_copyOfRangeByte_0 : List UInt8 := [27, 28, 184, 1, 87, 28, 27, 100, 62, 29, 188, 8, 58, 4, 42, 27, 25, 4, 3, 42, 190, 27, 100, 29]
abbrev dktJ5_copyOfRangeByte_0 : List UInt8 := dkwJ5_copyOfRangeByte_0 ++ dktJ5_copyOfRangeByte_1
theorem dksJ5_copyOfRangeByte_0 : cJ5_copyOfRangeByte.data.toList.drop 0 = dktJ5_copyOfRangeByte_0 := by decide +kernel
theorem dksJ5_copyOfRangeByte_1 : cJ5_copyOfRangeByte.data.toList.drop 24 = dktJ5_copyOfRangeByte_1 := dk_seg dksJ5_copyOfRangeByte_0 24 rfl rfl
theorem dJ5_copyOfRangeByte_0 : decode cJ5_copyOfRangeByte 0 = .ok (.iload_n 1, 1) := dk_27 (dk_at dksJ5_copyOfRangeByte_0 0 rfl rfl)
theorem dJ5_copyOfRangeByte_1 : decode cJ5_copyOfRangeByte 1 = .ok (.iload_n 2, 1) := dk_28 (dk_at dksJ5_copyOfRangeByte_0 1 rfl rfl)
theorem dJ5_copyOfRangeByte_2 : decode cJ5_copyOfRangeByte 2 = .ok (.invokestatic 343, 3) := dk_184 1 87 (dk_at dksJ5_copyOfRangeByte_0 2 rfl rfl)
theorem dJ5_copyOfRangeByte_5 : decode cJ5_copyOfRangeByte 5 = .ok (.iload_n 2, 1) := dk_28 (dk_at dksJ5_copyOfRangeByte_0 5 rfl rfl)
theorem dJ5_copyOfRangeByte_6 : decode cJ5_copyOfRangeByte 6 = .ok (.iload_n 1, 1) := dk_27 (dk_at dksJ5_copyOfRangeByte_0 6 rfl rfl)
theorem dJ5_copyOfRangeByte_7 : decode cJ5_copyOfRangeByte 7 = .ok (.isub, 1) := dk_100 (dk_at dksJ5_copyOfRangeByte_0 7 rfl rfl)
theorem dJ5_copyOfRangeByte_8 : decode cJ5_copyOfRangeByte 8 = .ok (.istore_n 3, 1) := dk_62 (dk_at dksJ5_copyOfRangeByte_0 8 rfl rfl)
theorem dJ5_copyOfRangeByte_9 : decode cJ5_copyOfRangeByte 9 = .ok (.iload_n 3, 1) := dk_29 (dk_at dksJ5_copyOfRangeByte_0 9 rfl rfl)
theorem dJ5_copyOfRangeByte_10 : decode cJ5_copyOfRangeByte 10 = .ok (.newarray .byte, 2) := dk_188_8 (dk_at dksJ5_copyOfRangeByte_0 10 rfl rfl)
theorem dJ5_copyOfRangeByte_12 : decode cJ5_copyOfRangeByte 12 = .ok (.astore 4, 2) := dk_58 4 (dk_at dksJ5_copyOfRangeByte_0 12 rfl rfl)
theorem dJ5_copyOfRangeByte_14 : decode cJ5_copyOfRangeByte 14 = .ok (.aload_n 0, 1) := dk_42 (dk_at dksJ5_copyOfRangeByte_0 14 rfl rfl)
theorem dJ5_copyOfRangeByte_15 : decode cJ5_copyOfRangeByte 15 = .ok (.iload_n 1, 1) := dk_27 (dk_at dksJ5_copyOfRangeByte_0 15 rfl rfl)
theorem dJ5_copyOfRangeByte_16 : decode cJ5_copyOfRangeByte 16 = .ok (.aload 4, 2) := dk_25 4 (dk_at dksJ5_copyOfRangeByte_0 16 rfl rfl)
theorem dJ5_copyOfRangeByte_18 : decode cJ5_copyOfRangeByte 18 = .ok (.iconst 0, 1) := dk_3 (dk_at dksJ5_copyOfRangeByte_0 18 rfl rfl)
theorem dJ5_copyOfRangeByte_19 : decode cJ5_copyOfRangeByte 19 = .ok (.aload_n 0, 1) := dk_42 (dk_at dksJ5_copyOfRangeByte_0 19 rfl rfl)
theorem dJ5_copyOfRangeByte_20 : decode cJ5_copyOfRangeByte 20 = .ok (.arraylength, 1) := dk_190 (dk_at dksJ5_copyOfRangeByte_0 20 rfl rfl)
theorem dJ5_copyOfRangeByte_21 : decode cJ5_copyOfRangeByte 21 = .ok (.iload_n 1, 1) := dk_27 (dk_at dksJ5_copyOfRangeByte_0 21 rfl rfl)
theorem dJ5_copyOfRangeByte_22 : decode cJ5_copyOfRangeByte 22 = .ok (.isub, 1) := dk_100 (dk_at dksJ5_copyOfRangeByte_0 22 rfl rfl)
theorem dJ5_copyOfRangeByte_23 : decode cJ5_copyOfRangeByte 23 = .ok (.iload_n 3, 1) := dk_29 (dk_at dksJ5_copyOfRangeByte_0 23 rfl rfl)
theorem dJ5_copyOfRangeByte_24 : decode cJ5_copyOfRangeByte 24 = .ok (.invokestatic 304, 3) := dk_184 1 48 (dk_at dksJ5_copyOfRangeByte_1 0 rfl rfl)
theorem dJ5_copyOfRangeByte_27 : decode cJ5_copyOfRangeByte 27 = .ok (.invokestatic 150, 3) := dk_184 0 150 (dk_at dksJ5_copyOfRangeByte_1 3 rfl rfl)
theorem dJ5_copyOfRangeByte_30 : decode cJ5_copyOfRangeByte 30 = .ok (.aload 4, 2) := dk_25 4 (dk_at dksJ5_copyOfRangeByte_1 6 rfl rfl)
theorem dJ5_copyOfRangeByte_32 : decode cJ5_copyOfRangeByte 32 = .ok (.areturn, 1) := dk_176 (dk_at dksJ5_copyOfRangeByte_1 8 rfl rfl)
abbrev cJ5_checkLength : ByteArray := prog_62_method_131_code
def yJ5_checkLength : MethodName := ⟨RJ5, "checkLength", "(II)V"⟩
def dkwJ5_checkLength_1 : List UInt8 := [182, 0, 50, 27, 182, 0, 54, 182, 0, 61, 183, 0, 65, 191, 177]
abbrev dktJ5_checkLength_1 : List UInt8 := dkwJ5_checkLength_1 ++ []
def dkwJ5_checkLength_0 : List UInt8 := [27, 26, 162, 0, 35, 187, 0, 43, 89, 187, 0, 45, 89, 183, 0, 47, 26, 182, 0, 54, 19, 1, 81]
abbrev dktJ5_checkLength_0 : List UInt8 := dkwJ5_checkLength_0 ++ dktJ5_checkLength_1
theorem dksJ5_checkLength_0 : cJ5_checkLength.data.toList.drop 0 = dktJ5_checkLength_0 := by decide +kernel
theorem dksJ5_checkLength_1 : cJ5_checkLength.data.toList.drop 23 = dktJ5_checkLength_1 := dk_seg dksJ5_checkLength_0 23 rfl rfl
theorem dJ5_checkLength_0 : decode cJ5_checkLength 0 = .ok (.iload_n 1, 1) := dk_27 (dk_at dksJ5_checkLength_0 0 rfl rfl)
theorem dJ5_checkLength_1 : decode cJ5_checkLength 1 = .ok (.iload_n 0, 1) := dk_26 (dk_at dksJ5_checkLength_0 1 rfl rfl)
theorem dJ5_checkLength_2 : decode cJ5_checkLength 2 = .ok (.if_icmp .ge 35, 3) := dk_162 0 35 (dk_at dksJ5_checkLength_0 2 rfl rfl)
theorem dJ5_checkLength_5 : decode cJ5_checkLength 5 = .ok (.new 43, 3) := dk_187 0 43 (dk_at dksJ5_checkLength_0 5 rfl rfl)
theorem dJ5_checkLength_8 : decode cJ5_checkLength 8 = .ok (.dup, 1) := dk_89 (dk_at dksJ5_checkLength_0 8 rfl rfl)
theorem dJ5_checkLength_9 : decode cJ5_checkLength 9 = .ok (.new 45, 3) := dk_187 0 45 (dk_at dksJ5_checkLength_0 9 rfl rfl)
theorem dJ5_checkLength_12 : decode cJ5_checkLength 12 = .ok (.dup, 1) := dk_89 (dk_at dksJ5_checkLength_0 12 rfl rfl)
theorem dJ5_checkLength_13 : decode cJ5_checkLength 13 = .ok (.invokespecial 47, 3) := dk_183 0 47 (dk_at dksJ5_checkLength_0 13 rfl rfl)
theorem dJ5_checkLength_16 : decode cJ5_checkLength 16 = .ok (.iload_n 0, 1) := dk_26 (dk_at dksJ5_checkLength_0 16 rfl rfl)
theorem dJ5_checkLength_17 : decode cJ5_checkLength 17 = .ok (.invokevirtual 54, 3) := dk_182 0 54 (dk_at dksJ5_checkLength_0 17 rfl rfl)
theorem dJ5_checkLength_20 : decode cJ5_checkLength 20 = .ok (.ldc_w 337, 3) := dk_19 1 81 (dk_at dksJ5_checkLength_0 20 rfl rfl)
theorem dJ5_checkLength_23 : decode cJ5_checkLength 23 = .ok (.invokevirtual 50, 3) := dk_182 0 50 (dk_at dksJ5_checkLength_1 0 rfl rfl)
theorem dJ5_checkLength_26 : decode cJ5_checkLength 26 = .ok (.iload_n 1, 1) := dk_27 (dk_at dksJ5_checkLength_1 3 rfl rfl)
theorem dJ5_checkLength_27 : decode cJ5_checkLength 27 = .ok (.invokevirtual 54, 3) := dk_182 0 54 (dk_at dksJ5_checkLength_1 4 rfl rfl)
theorem dJ5_checkLength_30 : decode cJ5_checkLength 30 = .ok (.invokevirtual 61, 3) := dk_182 0 61 (dk_at dksJ5_checkLength_1 7 rfl rfl)
theorem dJ5_checkLength_33 : decode cJ5_checkLength 33 = .ok (.invokespecial 65, 3) := dk_183 0 65 (dk_at dksJ5_checkLength_1 10 rfl rfl)
theorem dJ5_checkLength_36 : decode cJ5_checkLength 36 = .ok (.athrow, 1) := dk_191 (dk_at dksJ5_checkLength_1 13 rfl rfl)
theorem dJ5_checkLength_37 : decode cJ5_checkLength 37 = .ok (.return_, 1) := dk_177 (dk_at dksJ5_checkLength_1 14 rfl rfl)
theorem q73 : (Jvm.Cond.initialized "java/util/Arrays") ∈ lw_all := lw_g (lw_at lw_m1 9 rfl) rfl
theorem q212 : (Jvm.Cond.static ({ cls := "java/util/Arrays", name := "copyOf", desc := "([Ljava/lang/Object;I)[Ljava/lang/Object;" } : Jvm.MethodName)) ∈ lw_all := lw_g (lw_at lw_m1 148 rfl) rfl
theorem q213 : (Jvm.Cond.code ({ cls := "java/util/Arrays", name := "copyOf", desc := "([Ljava/lang/Object;I)[Ljava/lang/Object;" } : Jvm.MethodName) prog_62_method_119_code (2 : Nat) (Option.some (Jvm.ClassFile.FieldType.array (Jvm.ClassFile.FieldType.object "java/lang/Object")))) ∈ lw_all := lw_g (lw_at lw_m1 149 rfl) rfl
theorem q214 : (Jvm.Cond.methodLink "java/util/Arrays" (86 : Nat) ({ cls := "java/lang/Object", name := "getClass", desc := "()Ljava/lang/Class;" } : Jvm.MethodName)) ∈ lw_all := lw_g (lw_at lw_m1 150 rfl) rfl
theorem q255 : (Jvm.Cond.methodLink "java/util/Arrays" (300 : Nat) ({ cls := "java/util/Arrays", name := "copyOf", desc := "([Ljava/lang/Object;ILjava/lang/Class;)[Ljava/lang/Object;" } : Jvm.MethodName)) ∈ lw_all := lw_g (lw_at lw_m1 191 rfl) rfl
theorem q256 : (Jvm.Cond.static ({ cls := "java/util/Arrays", name := "copyOf", desc := "([Ljava/lang/Object;ILjava/lang/Class;)[Ljava/lang/Object;" } : Jvm.MethodName)) ∈ lw_all := lw_g (lw_at lw_m1 192 rfl) rfl
theorem q257 : (Jvm.Cond.code ({ cls := "java/util/Arrays", name := "copyOf", desc := "([Ljava/lang/Object;ILjava/lang/Class;)[Ljava/lang/Object;" } : Jvm.MethodName) prog_62_method_120_code (4 : Nat) (Option.some (Jvm.ClassFile.FieldType.array (Jvm.ClassFile.FieldType.object "java/lang/Object")))) ∈ lw_all := lw_g (lw_at lw_m1 193 rfl) rfl
theorem q258 : (Jvm.Cond.classLink "java/util/Arrays" (110 : Nat) "[Ljava/lang/Object;") ∈ lw_all := lw_g (lw_at lw_m1 194 rfl) rfl
theorem q260 : (Jvm.Cond.classLink "java/util/Arrays" (2 : Nat) "java/lang/Object") ∈ lw_all := lw_g (lw_at lw_m1 196 rfl) rfl
theorem q261 : (Jvm.Cond.methodLink "java/util/Arrays" (304 : Nat) ({ cls := "java/lang/Math", name := "min", desc := "(II)I" } : Jvm.MethodName)) ∈ lw_all := lw_g (lw_at lw_m1 197 rfl) rfl
theorem q264 : (Jvm.Cond.methodLink "java/util/Arrays" (150 : Nat) ({ cls := "java/lang/System", name := "arraycopy", desc := "(Ljava/lang/Object;ILjava/lang/Object;II)V" } : Jvm.MethodName)) ∈ lw_all := lw_g (lw_at lw_m1 200 rfl) rfl
theorem q270 : (Jvm.Cond.static ({ cls := "java/util/Arrays", name := "fill", desc := "([II)V" } : Jvm.MethodName)) ∈ lw_all := lw_g (lw_at lw_m1 206 rfl) rfl
theorem q271 : (Jvm.Cond.code ({ cls := "java/util/Arrays", name := "fill", desc := "([II)V" } : Jvm.MethodName) prog_62_method_103_code (4 : Nat) (Option.none : Option Jvm.ClassFile.FieldType)) ∈ lw_all := lw_g (lw_at lw_m1 207 rfl) rfl
theorem q1312 : (Jvm.Cond.static ({ cls := "java/util/Arrays", name := "copyOf", desc := "([BI)[B" } : Jvm.MethodName)) ∈ lw_all := lw_g (lw_at lw_m6 48 rfl) rfl
theorem q1313 : (Jvm.Cond.code ({ cls := "java/util/Arrays", name := "copyOf", desc := "([BI)[B" } : Jvm.MethodName) prog_62_method_121_code (3 : Nat) (Option.some (Jvm.ClassFile.FieldType.array Jvm.ClassFile.FieldType.byte))) ∈ lw_all := lw_g (lw_at lw_m6 49 rfl) rfl
theorem q1314 : (Jvm.Cond.methodLink "java/util/Arrays" (310 : Nat) ({ cls := "[B", name := "clone", desc := "()Ljava/lang/Object;" } : Jvm.MethodName)) ∈ lw_all := lw_g (lw_at lw_m6 50 rfl) rfl
theorem q1318 : (Jvm.Cond.classLink "java/util/Arrays" (311 : Nat) "[B") ∈ lw_all := lw_g (lw_at lw_m6 54 rfl) rfl
theorem q1445 : (Jvm.Cond.static ({ cls := "java/util/Arrays", name := "copyOfRange", desc := "([BII)[B" } : Jvm.MethodName)) ∈ lw_all := lw_g (lw_at lw_m6 181 rfl) rfl
theorem q1446 : (Jvm.Cond.code ({ cls := "java/util/Arrays", name := "copyOfRange", desc := "([BII)[B" } : Jvm.MethodName) prog_62_method_132_code (3 : Nat) (Option.some (Jvm.ClassFile.FieldType.array Jvm.ClassFile.FieldType.byte))) ∈ lw_all := lw_g (lw_at lw_m6 182 rfl) rfl
theorem q1447 : (Jvm.Cond.methodLink "java/util/Arrays" (339 : Nat) ({ cls := "java/util/Arrays", name := "copyOfRangeByte", desc := "([BII)[B" } : Jvm.MethodName)) ∈ lw_all := lw_g (lw_at lw_m6 183 rfl) rfl
theorem q1448 : (Jvm.Cond.static ({ cls := "java/util/Arrays", name := "copyOfRangeByte", desc := "([BII)[B" } : Jvm.MethodName)) ∈ lw_all := lw_g (lw_at lw_m6 184 rfl) rfl
theorem q1449 : (Jvm.Cond.code ({ cls := "java/util/Arrays", name := "copyOfRangeByte", desc := "([BII)[B" } : Jvm.MethodName) prog_62_method_133_code (5 : Nat) (Option.some (Jvm.ClassFile.FieldType.array Jvm.ClassFile.FieldType.byte))) ∈ lw_all := lw_g (lw_at lw_m6 185 rfl) rfl
theorem q1450 : (Jvm.Cond.methodLink "java/util/Arrays" (343 : Nat) ({ cls := "java/util/Arrays", name := "checkLength", desc := "(II)V" } : Jvm.MethodName)) ∈ lw_all := lw_g (lw_at lw_m6 186 rfl) rfl
theorem q1451 : (Jvm.Cond.static ({ cls := "java/util/Arrays", name := "checkLength", desc := "(II)V" } : Jvm.MethodName)) ∈ lw_all := lw_g (lw_at lw_m6 187 rfl) rfl
theorem q1452 : (Jvm.Cond.code ({ cls := "java/util/Arrays", name := "checkLength", desc := "(II)V" } : Jvm.MethodName) prog_62_method_131_code (2 : Nat) (Option.none : Option Jvm.ClassFile.FieldType)) ∈ lw_all := lw_g (lw_at lw_m6 188 rfl) rfl
theorem q1453 : (Jvm.Cond.classLink "java/util/Arrays" (43 : Nat) "java/lang/IllegalArgumentException") ∈ lw_all := lw_g (lw_at lw_m6 189 rfl) rfl
theorem q1454 : (Jvm.Cond.classLink "java/util/Arrays" (45 : Nat) "java/lang/StringBuilder") ∈ lw_all := lw_g (lw_at lw_m6 190 rfl) rfl
theorem q1455 : (Jvm.Cond.methodLink "java/util/Arrays" (47 : Nat) ({ cls := "java/lang/StringBuilder", name := "<init>", desc := "()V" } : Jvm.MethodName)) ∈ lw_all := lw_g (lw_at lw_m6 191 rfl) rfl
theorem q1456 : (Jvm.Cond.methodLink "java/util/Arrays" (54 : Nat) ({ cls := "java/lang/StringBuilder", name := "append", desc := "(I)Ljava/lang/StringBuilder;" } : Jvm.MethodName)) ∈ lw_all := lw_g (lw_at lw_m6 192 rfl) rfl
theorem q1457 : (Jvm.Cond.stringRef "java/util/Arrays" (337 : Nat) " > ") ∈ lw_tbl := lw_at lw_m6 193 rfl
theorem q1458 : (Jvm.Cond.methodLink "java/util/Arrays" (50 : Nat) ({ cls := "java/lang/StringBuilder", name := "append", desc := "(Ljava/lang/String;)Ljava/lang/StringBuilder;" } : Jvm.MethodName)) ∈ lw_all := lw_g (lw_at lw_m6 194 rfl) rfl
theorem q1459 : (Jvm.Cond.methodLink "java/util/Arrays" (61 : Nat) ({ cls := "java/lang/StringBuilder", name := "toString", desc := "()Ljava/lang/String;" } : Jvm.MethodName)) ∈ lw_all := lw_g (lw_at lw_m6 195 rfl) rfl
theorem q1460 : (Jvm.Cond.methodLink "java/util/Arrays" (65 : Nat) ({ cls := "java/lang/IllegalArgumentException", name := "<init>", desc := "(Ljava/lang/String;)V" } : Jvm.MethodName)) ∈ lw_all := lw_g (lw_at lw_m6 196 rfl) rfl

/-! java/util/Objects -/
set_option maxRecDepth 100000
def RJ6 : String := "java/util/Objects"
abbrev cJ6_checkIndex : ByteArray := prog_67_method_17_code
def yJ6_checkIndex : MethodName := ⟨RJ6, "checkIndex", "(II)I"⟩
def dkwJ6_checkIndex_0 : List UInt8 := [26, 27, 1, 184, 0, 105, 172]
abbrev dktJ6_checkIndex_0 : List UInt8 := dkwJ6_checkIndex_0 ++ []
theorem dksJ6_checkIndex_0 : cJ6_checkIndex.data.toList.drop 0 = dktJ6_checkIndex_0 := by decide +kernel
theorem dJ6_checkIndex_0 : decode cJ6_checkIndex 0 = .ok (.iload_n 0, 1) := dk_26 (dk_at dksJ6_checkIndex_0 0 rfl rfl)
theorem dJ6_checkIndex_1 : decode cJ6_checkIndex 1 = .ok (.iload_n 1, 1) := dk_27 (dk_at dksJ6_checkIndex_0 1 rfl rfl)
theorem dJ6_checkIndex_2 : decode cJ6_checkIndex 2 = .ok (.aconst_null, 1) := dk_1 (dk_at dksJ6_checkIndex_0 2 rfl rfl)
theorem dJ6_checkIndex_3 : decode cJ6_checkIndex 3 = .ok (.invokestatic 105, 3) := dk_184 0 105 (dk_at dksJ6_checkIndex_0 3 rfl rfl)
theorem dJ6_checkIndex_6 : decode cJ6_checkIndex 6 = .ok (.ireturn, 1) := dk_172 (dk_at dksJ6_checkIndex_0 6 rfl rfl)
abbrev cJ6_equals : ByteArray := prog_67_method_2_code
def yJ6_equals : MethodName := ⟨RJ6, "equals", "(Ljava/lang/Object;Ljava/lang/Object;)Z"⟩
def dkwJ6_equals_0 : List UInt8 := [42, 43, 165, 0, 15, 42, 198, 0, 15, 42, 43, 182, 0, 14, 153, 0, 7, 4, 167, 0, 4, 3, 172]
abbrev dktJ6_equals_0 : List UInt8 := dkwJ6_equals_0 ++ []
theorem dksJ6_equals_0 : cJ6_equals.data.toList.drop 0 = dktJ6_equals_0 := by decide +kernel
theorem dJ6_equals_0 : decode cJ6_equals 0 = .ok (.aload_n 0, 1) := dk_42 (dk_at dksJ6_equals_0 0 rfl rfl)
theorem dJ6_equals_1 : decode cJ6_equals 1 = .ok (.aload_n 1, 1) := dk_43 (dk_at dksJ6_equals_0 1 rfl rfl)
theorem dJ6_equals_2 : decode cJ6_equals 2 = .ok (.if_acmp .eq 15, 3) := dk_165 0 15 (dk_at dksJ6_equals_0 2 rfl rfl)
theorem dJ6_equals_5 : decode cJ6_equals 5 = .ok (.aload_n 0, 1) := dk_42 (dk_at dksJ6_equals_0 5 rfl rfl)
theorem dJ6_equals_6 : decode cJ6_equals 6 = .ok (.ifnull 15, 3) := dk_198 0 15 (dk_at dksJ6_equals_0 6 rfl rfl)
theorem dJ6_equals_9 : decode cJ6_equals 9 = .ok (.aload_n 0, 1) := dk_42 (dk_at dksJ6_equals_0 9 rfl rfl)
theorem dJ6_equals_10 : decode cJ6_equals 10 = .ok (.aload_n 1, 1) := dk_43 (dk_at dksJ6_equals_0 10 rfl rfl)
theorem dJ6_equals_11 : decode cJ6_equals 11 = .ok (.invokevirtual 14, 3) := dk_182 0 14 (dk_at dksJ6_equals_0 11 rfl rfl)
theorem dJ6_equals_14 : decode cJ6_equals 14 = .ok (.ifCond .eq 7, 3) := dk_153 0 7 (dk_at dksJ6_equals_0 14 rfl rfl)
theorem dJ6_equals_17 : decode cJ6_equals 17 = .ok (.iconst 1, 1) := dk_4 (dk_at dksJ6_equals_0 17 rfl rfl)
theorem dJ6_equals_18 : decode cJ6_equals 18 = .ok (.goto 4, 3) := dk_167 0 4 (dk_at dksJ6_equals_0 18 rfl rfl)
theorem dJ6_equals_21 : decode cJ6_equals 21 = .ok (.iconst 0, 1) := dk_3 (dk_at dksJ6_equals_0 21 rfl rfl)
theorem dJ6_equals_22 : decode cJ6_equals 22 = .ok (.ireturn, 1) := dk_172 (dk_at dksJ6_equals_0 22 rfl rfl)
theorem q75 : (Jvm.Cond.initialized "java/util/Objects") ∈ lw_all := lw_g (lw_at lw_m1 11 rfl) rfl
theorem q308 : (Jvm.Cond.static ({ cls := "java/util/Objects", name := "checkIndex", desc := "(II)I" } : Jvm.MethodName)) ∈ lw_all := lw_g (lw_at lw_m2 4 rfl) rfl
theorem q309 : (Jvm.Cond.code ({ cls := "java/util/Objects", name := "checkIndex", desc := "(II)I" } : Jvm.MethodName) prog_67_method_17_code (2 : Nat) (Option.some Jvm.ClassFile.FieldType.int)) ∈ lw_all := lw_g (lw_at lw_m2 5 rfl) rfl
theorem q310 : (Jvm.Cond.methodLink "java/util/Objects" (105 : Nat) ({ cls := "jdk/internal/util/Preconditions", name := "checkIndex", desc := "(IILjava/util/function/BiFunction;)I" } : Jvm.MethodName)) ∈ lw_all := lw_g (lw_at lw_m2 6 rfl) rfl
theorem q774 : (Jvm.Cond.static ({ cls := "java/util/Objects", name := "equals", desc := "(Ljava/lang/Object;Ljava/lang/Object;)Z" } : Jvm.MethodName)) ∈ lw_all := lw_g (lw_at lw_m3 230 rfl) rfl
theorem q775 : (Jvm.Cond.code ({ cls := "java/util/Objects", name := "equals", desc := "(Ljava/lang/Object;Ljava/lang/Object;)Z" } : Jvm.MethodName) prog_67_method_2_code (2 : Nat) (Option.some Jvm.ClassFile.FieldType.boolean)) ∈ lw_all := lw_g (lw_at lw_m3 231 rfl) rfl
theorem q777 : (Jvm.Cond.methodLink "java/util/Objects" (14 : Nat) ({ cls := "java/lang/Object", name := "equals", desc := "(Ljava/lang/Object;)Z" } : Jvm.MethodName)) ∈ lw_all := lw_g (lw_at lw_m3 233 rfl) rfl

/-! jdk/internal/util/Preconditions -/
set_option maxRecDepth 100000
def RJ7 : String := "jdk/internal/util/Preconditions"
abbrev cJ7_checkIndex : ByteArray := prog_71_method_11_code
def yJ7_checkIndex : MethodName := ⟨RJ7, "checkIndex", "(IILjava/util/function/BiFunction;)I"⟩
def dkwJ7_checkIndex_0 : List UInt8 := [26, 155, 0, 8, 26, 27, 161, 0, 10, 44, 26, 27, 184, 0, 95, 191, 26, 172]
abbrev dktJ7_checkIndex_0 : List UInt8 := dkwJ7_checkIndex_0 ++ []
theorem dksJ7_checkIndex_0 : cJ7_checkIndex.data.toList.drop 0 = dktJ7_checkIndex_0 := by decide +kernel
theorem dJ7_checkIndex_0 : decode cJ7_checkIndex 0 = .ok (.iload_n 0, 1) := dk_26 (dk_at dksJ7_checkIndex_0 0 rfl rfl)
theorem dJ7_checkIndex_1 : decode cJ7_checkIndex 1 = .ok (.ifCond .lt 8, 3) := dk_155 0 8 (dk_at dksJ7_checkIndex_0 1 rfl rfl)
theorem dJ7_checkIndex_4 : decode cJ7_checkIndex 4 = .ok (.iload_n 0, 1) := dk_26 (dk_at dksJ7_checkIndex_0 4 rfl rfl)
theorem dJ7_checkIndex_5 : decode cJ7_checkIndex 5 = .ok (.iload_n 1, 1) := dk_27 (dk_at dksJ7_checkIndex_0 5 rfl rfl)
theorem dJ7_checkIndex_6 : decode cJ7_checkIndex 6 = .ok (.if_icmp .lt 10, 3) := dk_161 0 10 (dk_at dksJ7_checkIndex_0 6 rfl rfl)
theorem dJ7_checkIndex_9 : decode cJ7_checkIndex 9 = .ok (.aload_n 2, 1) := dk_44 (dk_at dksJ7_checkIndex_0 9 rfl rfl)
theorem dJ7_checkIndex_10 : decode cJ7_checkIndex 10 = .ok (.iload_n 0, 1) := dk_26 (dk_at dksJ7_checkIndex_0 10 rfl rfl)
theorem dJ7_checkIndex_11 : decode cJ7_checkIndex 11 = .ok (.iload_n 1, 1) := dk_27 (dk_at dksJ7_checkIndex_0 11 rfl rfl)
theorem dJ7_checkIndex_12 : decode cJ7_checkIndex 12 = .ok (.invokestatic 95, 3) := dk_184 0 95 (dk_at dksJ7_checkIndex_0 12 rfl rfl)
theorem dJ7_checkIndex_15 : decode cJ7_checkIndex 15 = .ok (.athrow, 1) := dk_191 (dk_at dksJ7_checkIndex_0 15 rfl rfl)
theorem dJ7_checkIndex_16 : decode cJ7_checkIndex 16 = .ok (.iload_n 0, 1) := dk_26 (dk_at dksJ7_checkIndex_0 16 rfl rfl)
theorem dJ7_checkIndex_17 : decode cJ7_checkIndex 17 = .ok (.ireturn, 1) := dk_172 (dk_at dksJ7_checkIndex_0 17 rfl rfl)
abbrev cJ7_checkFromToIndex : ByteArray := prog_71_method_12_code
def yJ7_checkFromToIndex : MethodName := ⟨RJ7, "checkFromToIndex", "(IIILjava/util/function/BiFunction;)I"⟩
def dkwJ7_checkFromToIndex_0 : List UInt8 := [26, 155, 0, 13, 26, 27, 163, 0, 8, 27, 28, 164, 0, 11, 45, 26, 27, 28, 184, 0, 99, 191, 26, 172]
abbrev dktJ7_checkFromToIndex_0 : List UInt8 := dkwJ7_checkFromToIndex_0 ++ []
theorem dksJ7_checkFromToIndex_0 : cJ7_checkFromToIndex.data.toList.drop 0 = dktJ7_checkFromToIndex_0 := by decide +kernel
theorem dJ7_checkFromToIndex_0 : decode cJ7_checkFromToIndex 0 = .ok (.iload_n 0, 1) := dk_26 (dk_at dksJ7_checkFromToIndex_0 0 rfl rfl)
theorem dJ7_checkFromToIndex_1 : decode cJ7_checkFromToIndex 1 = .ok (.ifCond .lt 13, 3) := dk_155 0 13 (dk_at dksJ7_checkFromToIndex_0 1 rfl rfl)
theorem dJ7_checkFromToIndex_4 : decode cJ7_checkFromToIndex 4 = .ok (.iload_n 0, 1) := dk_26 (dk_at dksJ7_checkFromToIndex_0 4 rfl rfl)
theorem dJ7_checkFromToIndex_5 : decode cJ7_checkFromToIndex 5 = .ok (.iload_n 1, 1) := dk_27 (dk_at dksJ7_checkFromToIndex_0 5 rfl rfl)
theorem dJ7_checkFromToIndex_6 : decode cJ7_checkFromToIndex 6 = .ok (.if_icmp .gt 8, 3) := dk_163 0 8 (dk_at dksJ7_checkFromToIndex_0 6 rfl rfl)
theorem dJ7_checkFromToIndex_9 : decode cJ7_checkFromToIndex 9 = .ok (.iload_n 1, 1) := dk_27 (dk_at dksJ7_checkFromToIndex_0 9 rfl rfl)
theorem dJ7_checkFromToIndex_10 : decode cJ7_checkFromToIndex 10 = .ok (.iload_n 2, 1) := dk_28 (dk_at dksJ7_checkFromToIndex_0 10 rfl rfl)
theorem dJ7_checkFromToIndex_11 : decode cJ7_checkFromToIndex 11 = .ok (.if_icmp .le 11, 3) := dk_164 0 11 (dk_at dksJ7_checkFromToIndex_0 11 rfl rfl)
theorem dJ7_checkFromToIndex_14 : decode cJ7_checkFromToIndex 14 = .ok (.aload_n 3, 1) := dk_45 (dk_at dksJ7_checkFromToIndex_0 14 rfl rfl)
theorem dJ7_checkFromToIndex_15 : decode cJ7_checkFromToIndex 15 = .ok (.iload_n 0, 1) := dk_26 (dk_at dksJ7_checkFromToIndex_0 15 rfl rfl)
theorem dJ7_checkFromToIndex_16 : decode cJ7_checkFromToIndex 16 = .ok (.iload_n 1, 1) := dk_27 (dk_at dksJ7_checkFromToIndex_0 16 rfl rfl)
theorem dJ7_checkFromToIndex_17 : decode cJ7_checkFromToIndex 17 = .ok (.iload_n 2, 1) := dk_28 (dk_at dksJ7_checkFromToIndex_0 17 rfl rfl)
theorem dJ7_checkFromToIndex_18 : decode cJ7_checkFromToIndex 18 = .ok (.invokestatic 99, 3) := dk_184 0 99 (dk_at dksJ7_checkFromToIndex_0 18 rfl rfl)
theorem dJ7_checkFromToIndex_21 : decode cJ7_checkFromToIndex 21 = .ok (.athrow, 1) := dk_191 (dk_at dksJ7_checkFromToIndex_0 21 rfl rfl)
theorem dJ7_checkFromToIndex_22 : decode cJ7_checkFromToIndex 22 = .ok (.iload_n 0, 1) := dk_26 (dk_at dksJ7_checkFromToIndex_0 22 rfl rfl)
theorem dJ7_checkFromToIndex_23 : decode cJ7_checkFromToIndex 23 = .ok (.ireturn, 1) := dk_172 (dk_at dksJ7_checkFromToIndex_0 23 rfl rfl)
abbrev cJ7_checkFromIndexSize : ByteArray := prog_71_method_13_code
def yJ7_checkFromIndexSize : MethodName := ⟨RJ7, "checkFromIndexSize", "(IIILjava/util/function/BiFunction;)I"⟩
def dkwJ7_checkFromIndexSize_1 : List UInt8 := [172]
abbrev dktJ7_checkFromIndexSize_1 : List UInt8 := dkwJ7_checkFromIndexSize_1 ++ []
def dkwJ7_checkFromIndexSize_0 : List UInt8 := [28, 26, 128, 27, 128, 155, 0, 10, 27, 28, 26, 100, 164, 0, 11, 45, 26, 27, 28, 184, 0, 103, 191, 26]
abbrev dktJ7_checkFromIndexSize_0 : List UInt8 := dkwJ7_checkFromIndexSize_0 ++ dktJ7_checkFromIndexSize_1
theorem dksJ7_checkFromIndexSize_0 : cJ7_checkFromIndexSize.data.toList.drop 0 = dktJ7_checkFromIndexSize_0 := by decide +kernel
theorem dksJ7_checkFromIndexSize_1 : cJ7_checkFromIndexSize.data.toList.drop 24 = dktJ7_checkFromIndexSize_1 := dk_seg dksJ7_checkFromIndexSize_0 24 rfl rfl
theorem dJ7_checkFromIndexSize_0 : decode cJ7_checkFromIndexSize 0 = .ok (.iload_n 2, 1) := dk_28 (dk_at dksJ7_checkFromIndexSize_0 0 rfl rfl)
theorem dJ7_checkFromIndexSize_1 : decode cJ7_checkFromIndexSize 1 = .ok (.iload_n 0, 1) := dk_26 (dk_at dksJ7_checkFromIndexSize_0 1 rfl rfl)
theorem dJ7_checkFromIndexSize_2 : decode cJ7_checkFromIndexSize 2 = .ok (.ior, 1) := dk_128 (dk_at dksJ7_checkFromIndexSize_0 2 rfl rfl)
theorem dJ7_checkFromIndexSize_3 : decode cJ7_checkFromIndexSize 3 = .ok (.iload_n 1, 1) := dk_27 (dk_at dksJ7_checkFromIndexSize_0 3 rfl rfl)
theorem dJ7_checkFromIndexSize_4 : decode cJ7_checkFromIndexSize 4 = .ok (.ior, 1) := dk_128 (dk_at dksJ7_checkFromIndexSize_0 4 rfl rfl)
theorem dJ7_checkFromIndexSize_5 : decode cJ7_checkFromIndexSize 5 = .ok (.ifCond .lt 10, 3) := dk_155 0 10 (dk_at dksJ7_checkFromIndexSize_0 5 rfl rfl)
theorem dJ7_checkFromIndexSize_8 : decode cJ7_checkFromIndexSize 8 = .ok (.iload_n 1, 1) := dk_27 (dk_at dksJ7_checkFromIndexSize_0 8 rfl rfl)
theorem dJ7_checkFromIndexSize_9 : decode cJ7_checkFromIndexSize 9 = .ok (.iload_n 2, 1) := dk_28 (dk_at dksJ7_checkFromIndexSize_0 9 rfl rfl)
theorem dJ7_checkFromIndexSize_10 : decode cJ7_checkFromIndexSize 10 = .ok (.iload_n 0, 1) := dk_26 (dk_at dksJ7_checkFromIndexSize_0 10 rfl rfl)
theorem dJ7_checkFromIndexSize_11 : decode cJ7_checkFromIndexSize 11 = .ok (.isub, 1) := dk_100 (dk_at dksJ7_checkFromIndexSize_0 11 rfl rfl)
theorem dJ7_checkFromIndexSize_12 : decode cJ7_checkFromIndexSize 12 = .ok (.if_icmp .le 11, 3) := dk_164 0 11 (dk_at dksJ7_checkFromIndexSize_0 12 rfl rfl)
theorem dJ7_checkFromIndexSize_15 : decode cJ7_checkFromIndexSize 15 = .ok (.aload_n 3, 1) := dk_45 (dk_at dksJ7_checkFromIndexSize_0 15 rfl rfl)
theorem dJ7_checkFromIndexSize_16 : decode cJ7_checkFromIndexSize 16 = .ok (.iload_n 0, 1) := dk_26 (dk_at dksJ7_checkFromIndexSize_0 16 rfl rfl)
theorem dJ7_checkFromIndexSize_17 : decode cJ7_checkFromIndexSize 17 = .ok (.iload_n 1, 1) := dk_27 (dk_at dksJ7_checkFromIndexSize_0 17 rfl rfl)
theorem dJ7_checkFromIndexSize_18 : decode cJ7_checkFromIndexSize 18 = .ok (.iload_n 2, 1) := dk_28 (dk_at dksJ7_checkFromIndexSize_0 18 rfl rfl)
theorem dJ7_checkFromIndexSize_19 : decode cJ7_checkFromIndexSize 19 = .ok (.invokestatic 103, 3) := dk_184 0 103 (dk_at dksJ7_checkFromIndexSize_0 19 rfl rfl)
theorem dJ7_checkFromIndexSize_22 : decode cJ7_checkFromIndexSize 22 = .ok (.athrow, 1) := dk_191 (dk_at dksJ7_checkFromIndexSize_0 22 rfl rfl)
theorem dJ7_checkFromIndexSize_23 : decode cJ7_checkFromIndexSize 23 = .ok (.iload_n 0, 1) := dk_26 (dk_at dksJ7_checkFromIndexSize_0 23 rfl rfl)
theorem dJ7_checkFromIndexSize_24 : decode cJ7_checkFromIndexSize 24 = .ok (.ireturn, 1) := dk_172 (dk_at dksJ7_checkFromIndexSize_1 0 rfl rfl)
theorem q76 : (Jvm.Cond.initialized "jdk/internal/util/Preconditions") ∈ lw_all := lw_g (lw_at lw_m1 12 rfl) rfl
theorem q311 : (Jvm.Cond.static ({ cls := "jdk/internal/util/Preconditions", name := "checkIndex", desc := "(IILjava/util/function/BiFunction;)I" } : Jvm.MethodName)) ∈ lw_all := lw_g (lw_at lw_m2 7 rfl) rfl
theorem q312 : (Jvm.Cond.code ({ cls := "jdk/internal/util/Preconditions", name := "checkIndex", desc := "(IILjava/util/function/BiFunction;)I" } : Jvm.MethodName) prog_71_method_11_code (3 : Nat) (Option.some Jvm.ClassFile.FieldType.int)) ∈ lw_all := lw_g (lw_at lw_m2 8 rfl) rfl
theorem q1337 : (Jvm.Cond.laysStatic "jdk/internal/util/Preconditions" "SIOOBE_FORMATTER" "Ljava/util/function/BiFunction;") ∈ lw_tbl := lw_at lw_m6 73 rfl
theorem q1339 : (Jvm.Cond.static ({ cls := "jdk/internal/util/Preconditions", name := "checkFromToIndex", desc := "(IIILjava/util/function/BiFunction;)I" } : Jvm.MethodName)) ∈ lw_all := lw_g (lw_at lw_m6 75 rfl) rfl
theorem q1340 : (Jvm.Cond.code ({ cls := "jdk/internal/util/Preconditions", name := "checkFromToIndex", desc := "(IIILjava/util/function/BiFunction;)I" } : Jvm.MethodName) prog_71_method_12_code (4 : Nat) (Option.some Jvm.ClassFile.FieldType.int)) ∈ lw_all := lw_g (lw_at lw_m6 76 rfl) rfl
theorem q1384 : (Jvm.Cond.static ({ cls := "jdk/internal/util/Preconditions", name := "checkFromIndexSize", desc := "(IIILjava/util/function/BiFunction;)I" } : Jvm.MethodName)) ∈ lw_all := lw_g (lw_at lw_m6 120 rfl) rfl
theorem q1385 : (Jvm.Cond.code ({ cls := "jdk/internal/util/Preconditions", name := "checkFromIndexSize", desc := "(IIILjava/util/function/BiFunction;)I" } : Jvm.MethodName) prog_71_method_13_code (4 : Nat) (Option.some Jvm.ClassFile.FieldType.int)) ∈ lw_all := lw_g (lw_at lw_m6 121 rfl) rfl

/-! java/util/ArrayList$Itr -/
set_option maxRecDepth 100000
def RJ18 : String := "java/util/ArrayList$Itr"
def TJ18 : u_T := fun k => match k with
  | 0 => ("java/util/ArrayList$Itr", "cursor", "I", false)
  | 1 => ("java/util/ArrayList$Itr", "lastRet", "I", false)
  | 2 => ("java/util/ArrayList$Itr", "expectedModCount", "I", false)
  | _ => ("java/util/ArrayList$Itr", "this$0", "Ljava/util/ArrayList;", true)
def tyJ18 : Nat → FieldType := fun k => match k with
  | 0 => .int
  | 1 => .int
  | 2 => .int
  | _ => .object "java/util/ArrayList"
abbrev wsJ180 : List Cond := u_ws RJ18 TJ18 4
theorem nmJ18 : ∀ a, a < 4 → ∀ b, b < 4 → a ≠ b → (TJ18 a).2.1 ≠ (TJ18 b).2.1 := by decide +kernel
theorem tyJ18_ok : ∀ k, k < 4 → parseFieldDescriptor (TJ18 k).2.2.1 = some (tyJ18 k) := by decide +kernel
abbrev cJ18_init : ByteArray := prog_61_method_1_code
def yJ18_init : MethodName := ⟨RJ18, "<init>", "(Ljava/util/ArrayList;)V"⟩
def dkwJ18_init_1 : List UInt8 := [181, 0, 22, 177]
abbrev dktJ18_init_1 : List UInt8 := dkwJ18_init_1 ++ []
def dkwJ18_init_0 : List UInt8 := [42, 43, 181, 0, 1, 42, 183, 0, 7, 42, 2, 181, 0, 13, 42, 42, 180, 0, 1, 180, 0, 17]
abbrev dktJ18_init_0 : List UInt8 := dkwJ18_init_0 ++ dktJ18_init_1
theorem dksJ18_init_0 : cJ18_init.data.toList.drop 0 = dktJ18_init_0 := by decide +kernel
theorem dksJ18_init_1 : cJ18_init.data.toList.drop 22 = dktJ18_init_1 := dk_seg dksJ18_init_0 22 rfl rfl
theorem dJ18_init_0 : decode cJ18_init 0 = .ok (.aload_n 0, 1) := dk_42 (dk_at dksJ18_init_0 0 rfl rfl)
theorem dJ18_init_1 : decode cJ18_init 1 = .ok (.aload_n 1, 1) := dk_43 (dk_at dksJ18_init_0 1 rfl rfl)
theorem dJ18_init_2 : decode cJ18_init 2 = .ok (.putfield 1, 3) := dk_181 0 1 (dk_at dksJ18_init_0 2 rfl rfl)
theorem dJ18_init_5 : decode cJ18_init 5 = .ok (.aload_n 0, 1) := dk_42 (dk_at dksJ18_init_0 5 rfl rfl)
theorem dJ18_init_6 : decode cJ18_init 6 = .ok (.invokespecial 7, 3) := dk_183 0 7 (dk_at dksJ18_init_0 6 rfl rfl)
theorem dJ18_init_9 : decode cJ18_init 9 = .ok (.aload_n 0, 1) := dk_42 (dk_at dksJ18_init_0 9 rfl rfl)
theorem dJ18_init_10 : decode cJ18_init 10 = .ok (.iconst (-1), 1) := dk_2 (dk_at dksJ18_init_0 10 rfl rfl)
theorem dJ18_init_11 : decode cJ18_init 11 = .ok (.putfield 13, 3) := dk_181 0 13 (dk_at dksJ18_init_0 11 rfl rfl)
theorem dJ18_init_14 : decode cJ18_init 14 = .ok (.aload_n 0, 1) := dk_42 (dk_at dksJ18_init_0 14 rfl rfl)
theorem dJ18_init_15 : decode cJ18_init 15 = .ok (.aload_n 0, 1) := dk_42 (dk_at dksJ18_init_0 15 rfl rfl)
theorem dJ18_init_16 : decode cJ18_init 16 = .ok (.getfield 1, 3) := dk_180 0 1 (dk_at dksJ18_init_0 16 rfl rfl)
theorem dJ18_init_19 : decode cJ18_init 19 = .ok (.getfield 17, 3) := dk_180 0 17 (dk_at dksJ18_init_0 19 rfl rfl)
theorem dJ18_init_22 : decode cJ18_init 22 = .ok (.putfield 22, 3) := dk_181 0 22 (dk_at dksJ18_init_1 0 rfl rfl)
theorem dJ18_init_25 : decode cJ18_init 25 = .ok (.return_, 1) := dk_177 (dk_at dksJ18_init_1 3 rfl rfl)
abbrev cJ18_hasNext : ByteArray := prog_61_method_2_code
def yJ18_hasNext : MethodName := ⟨RJ18, "hasNext", "()Z"⟩
def dkwJ18_hasNext_0 : List UInt8 := [42, 180, 0, 25, 42, 180, 0, 1, 180, 0, 28, 159, 0, 7, 4, 167, 0, 4, 3, 172]
abbrev dktJ18_hasNext_0 : List UInt8 := dkwJ18_hasNext_0 ++ []
theorem dksJ18_hasNext_0 : cJ18_hasNext.data.toList.drop 0 = dktJ18_hasNext_0 := by decide +kernel
theorem dJ18_hasNext_0 : decode cJ18_hasNext 0 = .ok (.aload_n 0, 1) := dk_42 (dk_at dksJ18_hasNext_0 0 rfl rfl)
theorem dJ18_hasNext_1 : decode cJ18_hasNext 1 = .ok (.getfield 25, 3) := dk_180 0 25 (dk_at dksJ18_hasNext_0 1 rfl rfl)
theorem dJ18_hasNext_4 : decode cJ18_hasNext 4 = .ok (.aload_n 0, 1) := dk_42 (dk_at dksJ18_hasNext_0 4 rfl rfl)
theorem dJ18_hasNext_5 : decode cJ18_hasNext 5 = .ok (.getfield 1, 3) := dk_180 0 1 (dk_at dksJ18_hasNext_0 5 rfl rfl)
theorem dJ18_hasNext_8 : decode cJ18_hasNext 8 = .ok (.getfield 28, 3) := dk_180 0 28 (dk_at dksJ18_hasNext_0 8 rfl rfl)
theorem dJ18_hasNext_11 : decode cJ18_hasNext 11 = .ok (.if_icmp .eq 7, 3) := dk_159 0 7 (dk_at dksJ18_hasNext_0 11 rfl rfl)
theorem dJ18_hasNext_14 : decode cJ18_hasNext 14 = .ok (.iconst 1, 1) := dk_4 (dk_at dksJ18_hasNext_0 14 rfl rfl)
theorem dJ18_hasNext_15 : decode cJ18_hasNext 15 = .ok (.goto 4, 3) := dk_167 0 4 (dk_at dksJ18_hasNext_0 15 rfl rfl)
theorem dJ18_hasNext_18 : decode cJ18_hasNext 18 = .ok (.iconst 0, 1) := dk_3 (dk_at dksJ18_hasNext_0 18 rfl rfl)
theorem dJ18_hasNext_19 : decode cJ18_hasNext 19 = .ok (.ireturn, 1) := dk_172 (dk_at dksJ18_hasNext_0 19 rfl rfl)
abbrev cJ18_next : ByteArray := prog_61_method_3_code
def yJ18_next : MethodName := ⟨RJ18, "next", "()Ljava/lang/Object;"⟩
def dkwJ18_next_2 : List UInt8 := [183, 0, 43, 191, 42, 27, 4, 96, 181, 0, 25, 44, 42, 27, 90, 181, 0, 13, 50, 176]
abbrev dktJ18_next_2 : List UInt8 := dkwJ18_next_2 ++ []
def dkwJ18_next_1 : List UInt8 := [183, 0, 36, 191, 42, 180, 0, 1, 180, 0, 37, 77, 27, 44, 190, 161, 0, 11, 187, 0, 41, 89]
abbrev dktJ18_next_1 : List UInt8 := dkwJ18_next_1 ++ dktJ18_next_2
def dkwJ18_next_0 : List UInt8 := [42, 182, 0, 31, 42, 180, 0, 25, 60, 27, 42, 180, 0, 1, 180, 0, 28, 161, 0, 11, 187, 0, 34, 89]
abbrev dktJ18_next_0 : List UInt8 := dkwJ18_next_0 ++ dktJ18_next_1
theorem dksJ18_next_0 : cJ18_next.data.toList.drop 0 = dktJ18_next_0 := by decide +kernel
theorem dksJ18_next_1 : cJ18_next.data.toList.drop 24 = dktJ18_next_1 := dk_seg dksJ18_next_0 24 rfl rfl
theorem dksJ18_next_2 : cJ18_next.data.toList.drop 46 = dktJ18_next_2 := dk_seg dksJ18_next_1 22 rfl rfl
theorem dJ18_next_0 : decode cJ18_next 0 = .ok (.aload_n 0, 1) := dk_42 (dk_at dksJ18_next_0 0 rfl rfl)
theorem dJ18_next_1 : decode cJ18_next 1 = .ok (.invokevirtual 31, 3) := dk_182 0 31 (dk_at dksJ18_next_0 1 rfl rfl)
theorem dJ18_next_4 : decode cJ18_next 4 = .ok (.aload_n 0, 1) := dk_42 (dk_at dksJ18_next_0 4 rfl rfl)
theorem dJ18_next_5 : decode cJ18_next 5 = .ok (.getfield 25, 3) := dk_180 0 25 (dk_at dksJ18_next_0 5 rfl rfl)
theorem dJ18_next_8 : decode cJ18_next 8 = .ok (.istore_n 1, 1) := dk_60 (dk_at dksJ18_next_0 8 rfl rfl)
theorem dJ18_next_9 : decode cJ18_next 9 = .ok (.iload_n 1, 1) := dk_27 (dk_at dksJ18_next_0 9 rfl rfl)
theorem dJ18_next_10 : decode cJ18_next 10 = .ok (.aload_n 0, 1) := dk_42 (dk_at dksJ18_next_0 10 rfl rfl)
theorem dJ18_next_11 : decode cJ18_next 11 = .ok (.getfield 1, 3) := dk_180 0 1 (dk_at dksJ18_next_0 11 rfl rfl)
theorem dJ18_next_14 : decode cJ18_next 14 = .ok (.getfield 28, 3) := dk_180 0 28 (dk_at dksJ18_next_0 14 rfl rfl)
theorem dJ18_next_17 : decode cJ18_next 17 = .ok (.if_icmp .lt 11, 3) := dk_161 0 11 (dk_at dksJ18_next_0 17 rfl rfl)
theorem dJ18_next_20 : decode cJ18_next 20 = .ok (.new 34, 3) := dk_187 0 34 (dk_at dksJ18_next_0 20 rfl rfl)
theorem dJ18_next_23 : decode cJ18_next 23 = .ok (.dup, 1) := dk_89 (dk_at dksJ18_next_0 23 rfl rfl)
theorem dJ18_next_24 : decode cJ18_next 24 = .ok (.invokespecial 36, 3) := dk_183 0 36 (dk_at dksJ18_next_1 0 rfl rfl)
theorem dJ18_next_27 : decode cJ18_next 27 = .ok (.athrow, 1) := dk_191 (dk_at dksJ18_next_1 3 rfl rfl)
theorem dJ18_next_28 : decode cJ18_next 28 = .ok (.aload_n 0, 1) := dk_42 (dk_at dksJ18_next_1 4 rfl rfl)
theorem dJ18_next_29 : decode cJ18_next 29 = .ok (.getfield 1, 3) := dk_180 0 1 (dk_at dksJ18_next_1 5 rfl rfl)
theorem dJ18_next_32 : decode cJ18_next 32 = .ok (.getfield 37, 3) := dk_180 0 37 (dk_at dksJ18_next_1 8 rfl rfl)
theorem dJ18_next_35 : decode cJ18_next 35 = .ok (.astore_n 2, 1) := dk_77 (dk_at dksJ18_next_1 11 rfl rfl)
theorem dJ18_next_36 : decode cJ18_next 36 = .ok (.iload_n 1, 1) := dk_27 (dk_at dksJ18_next_1 12 rfl rfl)
theorem dJ18_next_37 : decode cJ18_next 37 = .ok (.aload_n 2, 1) := dk_44 (dk_at dksJ18_next_1 13 rfl rfl)
theorem dJ18_next_38 : decode cJ18_next 38 = .ok (.arraylength, 1) := dk_190 (dk_at dksJ18_next_1 14 rfl rfl)
theorem dJ18_next_39 : decode cJ18_next 39 = .ok (.if_icmp .lt 11, 3) := dk_161 0 11 (dk_at dksJ18_next_1 15 rfl rfl)
theorem dJ18_next_42 : decode cJ18_next 42 = .ok (.new 41, 3) := dk_187 0 41 (dk_at dksJ18_next_1 18 rfl rfl)
theorem dJ18_next_45 : decode cJ18_next 45 = .ok (.dup, 1) := dk_89 (dk_at dksJ18_next_1 21 rfl rfl)
theorem dJ18_next_46 : decode cJ18_next 46 = .ok (.invokespecial 43, 3) := dk_183 0 43 (dk_at dksJ18_next_2 0 rfl rfl)
theorem dJ18_next_49 : decode cJ18_next 49 = .ok (.athrow, 1) := dk_191 (dk_at dksJ18_next_2 3 rfl rfl)
theorem dJ18_next_50 : decode cJ18_next 50 = .ok (.aload_n 0, 1) := dk_42 (dk_at dksJ18_next_2 4 rfl rfl)
theorem dJ18_next_51 : decode cJ18_next 51 = .ok (.iload_n 1, 1) := dk_27 (dk_at dksJ18_next_2 5 rfl rfl)
theorem dJ18_next_52 : decode cJ18_next 52 = .ok (.iconst 1, 1) := dk_4 (dk_at dksJ18_next_2 6 rfl rfl)
theorem dJ18_next_53 : decode cJ18_next 53 = .ok (.iadd, 1) := dk_96 (dk_at dksJ18_next_2 7 rfl rfl)
theorem dJ18_next_54 : decode cJ18_next 54 = .ok (.putfield 25, 3) := dk_181 0 25 (dk_at dksJ18_next_2 8 rfl rfl)
theorem dJ18_next_57 : decode cJ18_next 57 = .ok (.aload_n 2, 1) := dk_44 (dk_at dksJ18_next_2 11 rfl rfl)
theorem dJ18_next_58 : decode cJ18_next 58 = .ok (.aload_n 0, 1) := dk_42 (dk_at dksJ18_next_2 12 rfl rfl)
theorem dJ18_next_59 : decode cJ18_next 59 = .ok (.iload_n 1, 1) := dk_27 (dk_at dksJ18_next_2 13 rfl rfl)
theorem dJ18_next_60 : decode cJ18_next 60 = .ok (.dup_x1, 1) := dk_90 (dk_at dksJ18_next_2 14 rfl rfl)
theorem dJ18_next_61 : decode cJ18_next 61 = .ok (.putfield 13, 3) := dk_181 0 13 (dk_at dksJ18_next_2 15 rfl rfl)
theorem dJ18_next_64 : decode cJ18_next 64 = .ok (.aaload, 1) := dk_50 (dk_at dksJ18_next_2 18 rfl rfl)
theorem dJ18_next_65 : decode cJ18_next 65 = .ok (.areturn, 1) := dk_176 (dk_at dksJ18_next_2 19 rfl rfl)
abbrev cJ18_checkForComodification : ByteArray := prog_61_method_6_code
def yJ18_checkForComodification : MethodName := ⟨RJ18, "checkForComodification", "()V"⟩
def dkwJ18_checkForComodification_0 : List UInt8 := [42, 180, 0, 1, 180, 0, 17, 42, 180, 0, 22, 159, 0, 11, 187, 0, 41, 89, 183, 0, 43, 191, 177]
abbrev dktJ18_checkForComodification_0 : List UInt8 := dkwJ18_checkForComodification_0 ++ []
theorem dksJ18_checkForComodification_0 : cJ18_checkForComodification.data.toList.drop 0 = dktJ18_checkForComodification_0 := by decide +kernel
theorem dJ18_checkForComodification_0 : decode cJ18_checkForComodification 0 = .ok (.aload_n 0, 1) := dk_42 (dk_at dksJ18_checkForComodification_0 0 rfl rfl)
theorem dJ18_checkForComodification_1 : decode cJ18_checkForComodification 1 = .ok (.getfield 1, 3) := dk_180 0 1 (dk_at dksJ18_checkForComodification_0 1 rfl rfl)
theorem dJ18_checkForComodification_4 : decode cJ18_checkForComodification 4 = .ok (.getfield 17, 3) := dk_180 0 17 (dk_at dksJ18_checkForComodification_0 4 rfl rfl)
theorem dJ18_checkForComodification_7 : decode cJ18_checkForComodification 7 = .ok (.aload_n 0, 1) := dk_42 (dk_at dksJ18_checkForComodification_0 7 rfl rfl)
theorem dJ18_checkForComodification_8 : decode cJ18_checkForComodification 8 = .ok (.getfield 22, 3) := dk_180 0 22 (dk_at dksJ18_checkForComodification_0 8 rfl rfl)
theorem dJ18_checkForComodification_11 : decode cJ18_checkForComodification 11 = .ok (.if_icmp .eq 11, 3) := dk_159 0 11 (dk_at dksJ18_checkForComodification_0 11 rfl rfl)
theorem dJ18_checkForComodification_14 : decode cJ18_checkForComodification 14 = .ok (.new 41, 3) := dk_187 0 41 (dk_at dksJ18_checkForComodification_0 14 rfl rfl)
theorem dJ18_checkForComodification_17 : decode cJ18_checkForComodification 17 = .ok (.dup, 1) := dk_89 (dk_at dksJ18_checkForComodification_0 17 rfl rfl)
theorem dJ18_checkForComodification_18 : decode cJ18_checkForComodification 18 = .ok (.invokespecial 43, 3) := dk_183 0 43 (dk_at dksJ18_checkForComodification_0 18 rfl rfl)
theorem dJ18_checkForComodification_21 : decode cJ18_checkForComodification 21 = .ok (.athrow, 1) := dk_191 (dk_at dksJ18_checkForComodification_0 21 rfl rfl)
theorem dJ18_checkForComodification_22 : decode cJ18_checkForComodification 22 = .ok (.return_, 1) := dk_177 (dk_at dksJ18_checkForComodification_0 22 rfl rfl)
theorem q96 : (Jvm.Cond.initialized "java/util/ArrayList$Itr") ∈ lw_all := lw_g (lw_at lw_m1 32 rfl) rfl
theorem q135 : (Jvm.Cond.fieldLink "java/util/ArrayList$Itr" (37 : Nat) "java/util/ArrayList" "elementData" "[Ljava/lang/Object;") ∈ lw_all := lw_g (lw_at lw_m1 71 rfl) rfl
theorem q136 : (Jvm.Cond.fieldLinkNest "java/util/ArrayList$Itr" (28 : Nat) "java/util/ArrayList" "size" "I" "java/util/ArrayList") ∈ lw_tbl := lw_at lw_m1 72 rfl
theorem q139 : (Jvm.Cond.fieldLink "java/util/ArrayList$Itr" (17 : Nat) "java/util/ArrayList" "modCount" "I") ∈ lw_all := lw_g (lw_at lw_m1 75 rfl) rfl
theorem q252 : (Jvm.Cond.selects "java/util/ArrayList$Itr" ({ cls := "java/lang/Object", name := "getClass", desc := "()Ljava/lang/Class;" } : Jvm.MethodName) ({ cls := "java/lang/Object", name := "getClass", desc := "()Ljava/lang/Class;" } : Jvm.MethodName)) ∈ lw_all := lw_g (lw_at lw_m1 188 rfl) rfl
theorem q859 : (Jvm.Cond.instantiable "java/util/ArrayList$Itr" (4 : Nat)) ∈ lw_all := lw_g (lw_at lw_m4 75 rfl) rfl
theorem q861 : (Jvm.Cond.instanceMethod ({ cls := "java/util/ArrayList$Itr", name := "<init>", desc := "(Ljava/util/ArrayList;)V" } : Jvm.MethodName)) ∈ lw_all := lw_g (lw_at lw_m4 77 rfl) rfl
theorem q862 : (Jvm.Cond.code ({ cls := "java/util/ArrayList$Itr", name := "<init>", desc := "(Ljava/util/ArrayList;)V" } : Jvm.MethodName) prog_61_method_1_code (2 : Nat) (Option.none : Option Jvm.ClassFile.FieldType)) ∈ lw_all := lw_g (lw_at lw_m4 78 rfl) rfl
theorem q863 : (Jvm.Cond.methodLink "java/util/ArrayList$Itr" (7 : Nat) ({ cls := "java/lang/Object", name := "<init>", desc := "()V" } : Jvm.MethodName)) ∈ lw_all := lw_g (lw_at lw_m4 79 rfl) rfl
theorem q864 : (Jvm.Cond.fieldLink "java/util/ArrayList$Itr" (25 : Nat) "java/util/ArrayList$Itr" "cursor" "I") ∈ lw_all := lw_g (lw_at lw_m4 80 rfl) rfl
theorem q865 : (Jvm.Cond.fieldLink "java/util/ArrayList$Itr" (13 : Nat) "java/util/ArrayList$Itr" "lastRet" "I") ∈ lw_all := lw_g (lw_at lw_m4 81 rfl) rfl
theorem q866 : (Jvm.Cond.fieldLink "java/util/ArrayList$Itr" (22 : Nat) "java/util/ArrayList$Itr" "expectedModCount" "I") ∈ lw_all := lw_g (lw_at lw_m4 82 rfl) rfl
theorem q867 : (Jvm.Cond.fieldLink "java/util/ArrayList$Itr" (1 : Nat) "java/util/ArrayList$Itr" "this$0" "Ljava/util/ArrayList;") ∈ lw_all := lw_g (lw_at lw_m4 83 rfl) rfl
theorem q868 : (Jvm.Cond.lays "java/util/ArrayList$Itr" "java/util/ArrayList$Itr" "cursor" "I") ∈ lw_all := lw_g (lw_at lw_m4 84 rfl) rfl
theorem q869 : (Jvm.Cond.soleField "java/util/ArrayList$Itr" "cursor") ∈ lw_all := lw_g (lw_at lw_m4 85 rfl) rfl
theorem q870 : (Jvm.Cond.lays "java/util/ArrayList$Itr" "java/util/ArrayList$Itr" "lastRet" "I") ∈ lw_all := lw_g (lw_at lw_m4 86 rfl) rfl
theorem q871 : (Jvm.Cond.soleField "java/util/ArrayList$Itr" "lastRet") ∈ lw_all := lw_g (lw_at lw_m4 87 rfl) rfl
theorem q872 : (Jvm.Cond.lays "java/util/ArrayList$Itr" "java/util/ArrayList$Itr" "expectedModCount" "I") ∈ lw_all := lw_g (lw_at lw_m4 88 rfl) rfl
theorem q873 : (Jvm.Cond.soleField "java/util/ArrayList$Itr" "expectedModCount") ∈ lw_all := lw_g (lw_at lw_m4 89 rfl) rfl
theorem q874 : (Jvm.Cond.laysFinal "java/util/ArrayList$Itr" "java/util/ArrayList$Itr" "this$0" "Ljava/util/ArrayList;") ∈ lw_all := lw_g (lw_at lw_m4 90 rfl) rfl
theorem q875 : (Jvm.Cond.soleField "java/util/ArrayList$Itr" "this$0") ∈ lw_all := lw_g (lw_at lw_m4 91 rfl) rfl
theorem q876 : (Jvm.Cond.superclass "java/util/ArrayList$Itr" "java/lang/Object") ∈ lw_all := lw_g (lw_at lw_m4 92 rfl) rfl
theorem q881 : (Jvm.Cond.castable "java/util/ArrayList$Itr" "java/util/Iterator") ∈ lw_tbl := lw_at lw_m4 97 rfl
theorem q882 : (Jvm.Cond.selects "java/util/ArrayList$Itr" ({ cls := "java/util/Iterator", name := "hasNext", desc := "()Z" } : Jvm.MethodName) ({ cls := "java/util/ArrayList$Itr", name := "hasNext", desc := "()Z" } : Jvm.MethodName)) ∈ lw_all := lw_g (lw_at lw_m4 98 rfl) rfl
theorem q883 : (Jvm.Cond.unhidden "java/util/ArrayList$Itr" "hasNext" "()Z") ∈ lw_tbl := lw_at lw_m4 99 rfl
theorem q884 : (Jvm.Cond.instanceMethod ({ cls := "java/util/ArrayList$Itr", name := "hasNext", desc := "()Z" } : Jvm.MethodName)) ∈ lw_all := lw_g (lw_at lw_m4 100 rfl) rfl
theorem q885 : (Jvm.Cond.publicMethod ({ cls := "java/util/ArrayList$Itr", name := "hasNext", desc := "()Z" } : Jvm.MethodName)) ∈ lw_tbl := lw_at lw_m4 101 rfl
theorem q886 : (Jvm.Cond.code ({ cls := "java/util/ArrayList$Itr", name := "hasNext", desc := "()Z" } : Jvm.MethodName) prog_61_method_2_code (1 : Nat) (Option.some Jvm.ClassFile.FieldType.boolean)) ∈ lw_all := lw_g (lw_at lw_m4 102 rfl) rfl
theorem q891 : (Jvm.Cond.selects "java/util/ArrayList$Itr" ({ cls := "java/util/Iterator", name := "next", desc := "()Ljava/lang/Object;" } : Jvm.MethodName) ({ cls := "java/util/ArrayList$Itr", name := "next", desc := "()Ljava/lang/Object;" } : Jvm.MethodName)) ∈ lw_all := lw_g (lw_at lw_m4 107 rfl) rfl
theorem q892 : (Jvm.Cond.unhidden "java/util/ArrayList$Itr" "next" "()Ljava/lang/Object;") ∈ lw_tbl := lw_at lw_m4 108 rfl
theorem q893 : (Jvm.Cond.instanceMethod ({ cls := "java/util/ArrayList$Itr", name := "next", desc := "()Ljava/lang/Object;" } : Jvm.MethodName)) ∈ lw_all := lw_g (lw_at lw_m4 109 rfl) rfl
theorem q894 : (Jvm.Cond.publicMethod ({ cls := "java/util/ArrayList$Itr", name := "next", desc := "()Ljava/lang/Object;" } : Jvm.MethodName)) ∈ lw_tbl := lw_at lw_m4 110 rfl
theorem q895 : (Jvm.Cond.code ({ cls := "java/util/ArrayList$Itr", name := "next", desc := "()Ljava/lang/Object;" } : Jvm.MethodName) prog_61_method_3_code (3 : Nat) (Option.some (Jvm.ClassFile.FieldType.object "java/lang/Object"))) ∈ lw_all := lw_g (lw_at lw_m4 111 rfl) rfl
theorem q896 : (Jvm.Cond.methodLink "java/util/ArrayList$Itr" (31 : Nat) ({ cls := "java/util/ArrayList$Itr", name := "checkForComodification", desc := "()V" } : Jvm.MethodName)) ∈ lw_all := lw_g (lw_at lw_m4 112 rfl) rfl
theorem q897 : (Jvm.Cond.instanceMethod ({ cls := "java/util/ArrayList$Itr", name := "checkForComodification", desc := "()V" } : Jvm.MethodName)) ∈ lw_all := lw_g (lw_at lw_m4 113 rfl) rfl
theorem q898 : (Jvm.Cond.selects "java/util/ArrayList$Itr" ({ cls := "java/util/ArrayList$Itr", name := "checkForComodification", desc := "()V" } : Jvm.MethodName) ({ cls := "java/util/ArrayList$Itr", name := "checkForComodification", desc := "()V" } : Jvm.MethodName)) ∈ lw_all := lw_g (lw_at lw_m4 114 rfl) rfl
theorem q899 : (Jvm.Cond.code ({ cls := "java/util/ArrayList$Itr", name := "checkForComodification", desc := "()V" } : Jvm.MethodName) prog_61_method_6_code (1 : Nat) (Option.none : Option Jvm.ClassFile.FieldType)) ∈ lw_all := lw_g (lw_at lw_m4 115 rfl) rfl
theorem q900 : (Jvm.Cond.classLink "java/util/ArrayList$Itr" (34 : Nat) "java/util/NoSuchElementException") ∈ lw_all := lw_g (lw_at lw_m4 116 rfl) rfl
theorem q909 : (Jvm.Cond.methodLink "java/util/ArrayList$Itr" (36 : Nat) ({ cls := "java/util/NoSuchElementException", name := "<init>", desc := "()V" } : Jvm.MethodName)) ∈ lw_all := lw_g (lw_at lw_m4 125 rfl) rfl
theorem q2233 : (Jvm.Cond.castable "java/util/ArrayList$Itr" "java/lang/Object") ∈ lw_tbl := lw_at lw_m10 9 rfl
theorem in_J18 : ∀ w ∈ wsJ180, w ∈ lw_all := lw_in wsJ180 [868, 870, 872, 874] (by decide +kernel) (by decide +kernel)

/-! java/lang/Number -/
set_option maxRecDepth 100000
def RJ23 : String := "java/lang/Number"
abbrev cJ23_init : ByteArray := prog_48_method_1_code
def yJ23_init : MethodName := ⟨RJ23, "<init>", "()V"⟩
theorem dJ23_init_0 : decode cJ23_init 0 = .ok (.aload_n 0, 1) := by decide +kernel
theorem dJ23_init_1 : decode cJ23_init 1 = .ok (.invokespecial 1, 3) := by decide +kernel
theorem dJ23_init_4 : decode cJ23_init 4 = .ok (.return_, 1) := by decide +kernel
theorem q106 : (Jvm.Cond.initialized "java/lang/Number") ∈ lw_all := lw_g (lw_at lw_m1 42 rfl) rfl
theorem q2034 : (Jvm.Cond.instanceMethod ({ cls := "java/lang/Number", name := "<init>", desc := "()V" } : Jvm.MethodName)) ∈ lw_all := lw_g (lw_at lw_m9 50 rfl) rfl
theorem q2035 : (Jvm.Cond.code ({ cls := "java/lang/Number", name := "<init>", desc := "()V" } : Jvm.MethodName) prog_48_method_1_code (1 : Nat) (Option.none : Option Jvm.ClassFile.FieldType)) ∈ lw_all := lw_g (lw_at lw_m9 51 rfl) rfl
theorem q2036 : (Jvm.Cond.methodLink "java/lang/Number" (1 : Nat) ({ cls := "java/lang/Object", name := "<init>", desc := "()V" } : Jvm.MethodName)) ∈ lw_all := lw_g (lw_at lw_m9 52 rfl) rfl

/-! java/lang/Integer -/
set_option maxRecDepth 100000
def RJ24 : String := "java/lang/Integer"
def TJ24 : u_T := fun k => match k with
  | _ => ("java/lang/Integer", "value", "I", true)
def tyJ24 : Nat → FieldType := fun k => match k with
  | _ => .int
abbrev wsJ240 : List Cond := u_ws RJ24 TJ24 1
theorem nmJ24 : ∀ a, a < 1 → ∀ b, b < 1 → a ≠ b → (TJ24 a).2.1 ≠ (TJ24 b).2.1 := by decide +kernel
theorem tyJ24_ok : ∀ k, k < 1 → parseFieldDescriptor (TJ24 k).2.2.1 = some (tyJ24 k) := by decide +kernel
abbrev cJ24_equals : ByteArray := prog_44_method_34_code
def yJ24_equals : MethodName := ⟨RJ24, "equals", "(Ljava/lang/Object;)Z"⟩
def dkwJ24_equals_1 : List UInt8 := [167, 0, 4, 3, 172, 3, 172]
abbrev dktJ24_equals_1 : List UInt8 := dkwJ24_equals_1 ++ []
def dkwJ24_equals_0 : List UInt8 := [43, 193, 0, 1, 153, 0, 23, 42, 180, 0, 205, 43, 192, 0, 1, 182, 0, 211, 160, 0, 7, 4]
abbrev dktJ24_equals_0 : List UInt8 := dkwJ24_equals_0 ++ dktJ24_equals_1
theorem dksJ24_equals_0 : cJ24_equals.data.toList.drop 0 = dktJ24_equals_0 := by decide +kernel
theorem dksJ24_equals_1 : cJ24_equals.data.toList.drop 22 = dktJ24_equals_1 := dk_seg dksJ24_equals_0 22 rfl rfl
theorem dJ24_equals_0 : decode cJ24_equals 0 = .ok (.aload_n 1, 1) := dk_43 (dk_at dksJ24_equals_0 0 rfl rfl)
theorem dJ24_equals_1 : decode cJ24_equals 1 = .ok (.instanceof 1, 3) := dk_193 0 1 (dk_at dksJ24_equals_0 1 rfl rfl)
theorem dJ24_equals_4 : decode cJ24_equals 4 = .ok (.ifCond .eq 23, 3) := dk_153 0 23 (dk_at dksJ24_equals_0 4 rfl rfl)
theorem dJ24_equals_7 : decode cJ24_equals 7 = .ok (.aload_n 0, 1) := dk_42 (dk_at dksJ24_equals_0 7 rfl rfl)
theorem dJ24_equals_8 : decode cJ24_equals 8 = .ok (.getfield 205, 3) := dk_180 0 205 (dk_at dksJ24_equals_0 8 rfl rfl)
theorem dJ24_equals_11 : decode cJ24_equals 11 = .ok (.aload_n 1, 1) := dk_43 (dk_at dksJ24_equals_0 11 rfl rfl)
theorem dJ24_equals_12 : decode cJ24_equals 12 = .ok (.checkcast 1, 3) := dk_192 0 1 (dk_at dksJ24_equals_0 12 rfl rfl)
theorem dJ24_equals_15 : decode cJ24_equals 15 = .ok (.invokevirtual 211, 3) := dk_182 0 211 (dk_at dksJ24_equals_0 15 rfl rfl)
theorem dJ24_equals_18 : decode cJ24_equals 18 = .ok (.if_icmp .ne 7, 3) := dk_160 0 7 (dk_at dksJ24_equals_0 18 rfl rfl)
theorem dJ24_equals_21 : decode cJ24_equals 21 = .ok (.iconst 1, 1) := dk_4 (dk_at dksJ24_equals_0 21 rfl rfl)
theorem dJ24_equals_22 : decode cJ24_equals 22 = .ok (.goto 4, 3) := dk_167 0 4 (dk_at dksJ24_equals_1 0 rfl rfl)
theorem dJ24_equals_25 : decode cJ24_equals 25 = .ok (.iconst 0, 1) := dk_3 (dk_at dksJ24_equals_1 3 rfl rfl)
theorem dJ24_equals_26 : decode cJ24_equals 26 = .ok (.ireturn, 1) := dk_172 (dk_at dksJ24_equals_1 4 rfl rfl)
theorem dJ24_equals_27 : decode cJ24_equals 27 = .ok (.iconst 0, 1) := dk_3 (dk_at dksJ24_equals_1 5 rfl rfl)
theorem dJ24_equals_28 : decode cJ24_equals 28 = .ok (.ireturn, 1) := dk_172 (dk_at dksJ24_equals_1 6 rfl rfl)
abbrev cJ24_intValue : ByteArray := prog_44_method_27_code
def yJ24_intValue : MethodName := ⟨RJ24, "intValue", "()I"⟩
theorem dJ24_intValue_0 : decode cJ24_intValue 0 = .ok (.aload_n 0, 1) := by decide +kernel
theorem dJ24_intValue_1 : decode cJ24_intValue 1 = .ok (.getfield 205, 3) := by decide +kernel
theorem dJ24_intValue_4 : decode cJ24_intValue 4 = .ok (.ireturn, 1) := by decide +kernel
abbrev cJ24_stringSize : ByteArray := prog_44_method_13_code
def yJ24_stringSize : MethodName := ⟨RJ24, "stringSize", "(I)I"⟩
def dkwJ24_stringSize_1 : List UInt8 := [164, 0, 7, 29, 27, 96, 172, 16, 10, 28, 104, 61, 132, 3, 1, 167, 255, 233, 16, 10, 27, 96, 172]
abbrev dktJ24_stringSize_1 : List UInt8 := dkwJ24_stringSize_1 ++ []
def dkwJ24_stringSize_0 : List UInt8 := [4, 60, 26, 155, 0, 8, 3, 60, 26, 116, 59, 16, 246, 61, 4, 62, 29, 16, 10, 162, 0, 23, 26, 28]
abbrev dktJ24_stringSize_0 : List UInt8 := dkwJ24_stringSize_0 ++ dktJ24_stringSize_1
theorem dksJ24_stringSize_0 : cJ24_stringSize.data.toList.drop 0 = dktJ24_stringSize_0 := by decide +kernel
theorem dksJ24_stringSize_1 : cJ24_stringSize.data.toList.drop 24 = dktJ24_stringSize_1 := dk_seg dksJ24_stringSize_0 24 rfl rfl
theorem dJ24_stringSize_0 : decode cJ24_stringSize 0 = .ok (.iconst 1, 1) := dk_4 (dk_at dksJ24_stringSize_0 0 rfl rfl)
theorem dJ24_stringSize_1 : decode cJ24_stringSize 1 = .ok (.istore_n 1, 1) := dk_60 (dk_at dksJ24_stringSize_0 1 rfl rfl)
theorem dJ24_stringSize_2 : decode cJ24_stringSize 2 = .ok (.iload_n 0, 1) := dk_26 (dk_at dksJ24_stringSize_0 2 rfl rfl)
theorem dJ24_stringSize_3 : decode cJ24_stringSize 3 = .ok (.ifCond .lt 8, 3) := dk_155 0 8 (dk_at dksJ24_stringSize_0 3 rfl rfl)
theorem dJ24_stringSize_6 : decode cJ24_stringSize 6 = .ok (.iconst 0, 1) := dk_3 (dk_at dksJ24_stringSize_0 6 rfl rfl)
theorem dJ24_stringSize_7 : decode cJ24_stringSize 7 = .ok (.istore_n 1, 1) := dk_60 (dk_at dksJ24_stringSize_0 7 rfl rfl)
theorem dJ24_stringSize_8 : decode cJ24_stringSize 8 = .ok (.iload_n 0, 1) := dk_26 (dk_at dksJ24_stringSize_0 8 rfl rfl)
theorem dJ24_stringSize_9 : decode cJ24_stringSize 9 = .ok (.ineg, 1) := dk_116 (dk_at dksJ24_stringSize_0 9 rfl rfl)
theorem dJ24_stringSize_10 : decode cJ24_stringSize 10 = .ok (.istore_n 0, 1) := dk_59 (dk_at dksJ24_stringSize_0 10 rfl rfl)
theorem dJ24_stringSize_11 : decode cJ24_stringSize 11 = .ok (.bipush (-10), 2) := dk_16 246 (dk_at dksJ24_stringSize_0 11 rfl rfl)
theorem dJ24_stringSize_13 : decode cJ24_stringSize 13 = .ok (.istore_n 2, 1) := dk_61 (dk_at dksJ24_stringSize_0 13 rfl rfl)
theorem dJ24_stringSize_14 : decode cJ24_stringSize 14 = .ok (.iconst 1, 1) := dk_4 (dk_at dksJ24_stringSize_0 14 rfl rfl)
theorem dJ24_stringSize_15 : decode cJ24_stringSize 15 = .ok (.istore_n 3, 1) := dk_62 (dk_at dksJ24_stringSize_0 15 rfl rfl)
theorem dJ24_stringSize_16 : decode cJ24_stringSize 16 = .ok (.iload_n 3, 1) := dk_29 (dk_at dksJ24_stringSize_0 16 rfl rfl)
theorem dJ24_stringSize_17 : decode cJ24_stringSize 17 = .ok (.bipush 10, 2) := dk_16 10 (dk_at dksJ24_stringSize_0 17 rfl rfl)
theorem dJ24_stringSize_19 : decode cJ24_stringSize 19 = .ok (.if_icmp .ge 23, 3) := dk_162 0 23 (dk_at dksJ24_stringSize_0 19 rfl rfl)
theorem dJ24_stringSize_22 : decode cJ24_stringSize 22 = .ok (.iload_n 0, 1) := dk_26 (dk_at dksJ24_stringSize_0 22 rfl rfl)
theorem dJ24_stringSize_23 : decode cJ24_stringSize 23 = .ok (.iload_n 2, 1) := dk_28 (dk_at dksJ24_stringSize_0 23 rfl rfl)
theorem dJ24_stringSize_24 : decode cJ24_stringSize 24 = .ok (.if_icmp .le 7, 3) := dk_164 0 7 (dk_at dksJ24_stringSize_1 0 rfl rfl)
theorem dJ24_stringSize_27 : decode cJ24_stringSize 27 = .ok (.iload_n 3, 1) := dk_29 (dk_at dksJ24_stringSize_1 3 rfl rfl)
theorem dJ24_stringSize_28 : decode cJ24_stringSize 28 = .ok (.iload_n 1, 1) := dk_27 (dk_at dksJ24_stringSize_1 4 rfl rfl)
theorem dJ24_stringSize_29 : decode cJ24_stringSize 29 = .ok (.iadd, 1) := dk_96 (dk_at dksJ24_stringSize_1 5 rfl rfl)
theorem dJ24_stringSize_30 : decode cJ24_stringSize 30 = .ok (.ireturn, 1) := dk_172 (dk_at dksJ24_stringSize_1 6 rfl rfl)
theorem dJ24_stringSize_31 : decode cJ24_stringSize 31 = .ok (.bipush 10, 2) := dk_16 10 (dk_at dksJ24_stringSize_1 7 rfl rfl)
theorem dJ24_stringSize_33 : decode cJ24_stringSize 33 = .ok (.iload_n 2, 1) := dk_28 (dk_at dksJ24_stringSize_1 9 rfl rfl)
theorem dJ24_stringSize_34 : decode cJ24_stringSize 34 = .ok (.imul, 1) := dk_104 (dk_at dksJ24_stringSize_1 10 rfl rfl)
theorem dJ24_stringSize_35 : decode cJ24_stringSize 35 = .ok (.istore_n 2, 1) := dk_61 (dk_at dksJ24_stringSize_1 11 rfl rfl)
theorem dJ24_stringSize_36 : decode cJ24_stringSize 36 = .ok (.iinc 3 1, 3) := dk_132 3 1 (dk_at dksJ24_stringSize_1 12 rfl rfl)
theorem dJ24_stringSize_39 : decode cJ24_stringSize 39 = .ok (.goto (-23), 3) := dk_167 255 233 (dk_at dksJ24_stringSize_1 15 rfl rfl)
theorem dJ24_stringSize_42 : decode cJ24_stringSize 42 = .ok (.bipush 10, 2) := dk_16 10 (dk_at dksJ24_stringSize_1 18 rfl rfl)
theorem dJ24_stringSize_44 : decode cJ24_stringSize 44 = .ok (.iload_n 1, 1) := dk_27 (dk_at dksJ24_stringSize_1 20 rfl rfl)
theorem dJ24_stringSize_45 : decode cJ24_stringSize 45 = .ok (.iadd, 1) := dk_96 (dk_at dksJ24_stringSize_1 21 rfl rfl)
theorem dJ24_stringSize_46 : decode cJ24_stringSize 46 = .ok (.ireturn, 1) := dk_172 (dk_at dksJ24_stringSize_1 22 rfl rfl)
abbrev cJ24_getChars : ByteArray := prog_44_method_12_code
def yJ24_getChars : MethodName := ⟨RJ24, "getChars", "(II[B)I"⟩
def dkwJ24_getChars_5 : List UInt8 := [16, 45, 84, 21, 5, 172]
abbrev dktJ24_getChars_5 : List UInt8 := dkwJ24_getChars_5 ++ []
def dkwJ24_getChars_4 : List UInt8 := [132, 5, 255, 21, 5, 178, 0, 87, 26, 116, 51, 84, 21, 6, 153, 0, 12, 44, 132, 5, 255, 21, 5]
abbrev dktJ24_getChars_4 : List UInt8 := dkwJ24_getChars_4 ++ dktJ24_getChars_5
def dkwJ24_getChars_3 : List UInt8 := [167, 255, 209, 44, 132, 5, 255, 21, 5, 178, 0, 83, 26, 116, 51, 84, 26, 16, 247, 162, 0, 16, 44]
abbrev dktJ24_getChars_3 : List UInt8 := dkwJ24_getChars_3 ++ dktJ24_getChars_4
def dkwJ24_getChars_2 : List UInt8 := [21, 5, 178, 0, 83, 21, 4, 51, 84, 44, 132, 5, 255, 21, 5, 178, 0, 87, 21, 4, 51, 84]
abbrev dktJ24_getChars_2 : List UInt8 := dkwJ24_getChars_2 ++ dktJ24_getChars_3
def dkwJ24_getChars_1 : List UInt8 := [16, 156, 163, 0, 47, 26, 16, 100, 108, 62, 29, 16, 100, 104, 26, 100, 54, 4, 29, 59, 44, 132, 5, 255]
abbrev dktJ24_getChars_1 : List UInt8 := dkwJ24_getChars_1 ++ dktJ24_getChars_2
def dkwJ24_getChars_0 : List UInt8 := [27, 54, 5, 26, 156, 0, 7, 4, 167, 0, 4, 3, 54, 6, 21, 6, 154, 0, 6, 26, 116, 59, 26]
abbrev dktJ24_getChars_0 : List UInt8 := dkwJ24_getChars_0 ++ dktJ24_getChars_1
theorem dksJ24_getChars_0 : cJ24_getChars.data.toList.drop 0 = dktJ24_getChars_0 := by decide +kernel
theorem dksJ24_getChars_1 : cJ24_getChars.data.toList.drop 23 = dktJ24_getChars_1 := dk_seg dksJ24_getChars_0 23 rfl rfl
theorem dksJ24_getChars_2 : cJ24_getChars.data.toList.drop 47 = dktJ24_getChars_2 := dk_seg dksJ24_getChars_1 24 rfl rfl
theorem dksJ24_getChars_3 : cJ24_getChars.data.toList.drop 69 = dktJ24_getChars_3 := dk_seg dksJ24_getChars_2 22 rfl rfl
theorem dksJ24_getChars_4 : cJ24_getChars.data.toList.drop 92 = dktJ24_getChars_4 := dk_seg dksJ24_getChars_3 23 rfl rfl
theorem dksJ24_getChars_5 : cJ24_getChars.data.toList.drop 115 = dktJ24_getChars_5 := dk_seg dksJ24_getChars_4 23 rfl rfl
theorem dJ24_getChars_0 : decode cJ24_getChars 0 = .ok (.iload_n 1, 1) := dk_27 (dk_at dksJ24_getChars_0 0 rfl rfl)
theorem dJ24_getChars_1 : decode cJ24_getChars 1 = .ok (.istore 5, 2) := dk_54 5 (dk_at dksJ24_getChars_0 1 rfl rfl)
theorem dJ24_getChars_3 : decode cJ24_getChars 3 = .ok (.iload_n 0, 1) := dk_26 (dk_at dksJ24_getChars_0 3 rfl rfl)
theorem dJ24_getChars_4 : decode cJ24_getChars 4 = .ok (.ifCond .ge 7, 3) := dk_156 0 7 (dk_at dksJ24_getChars_0 4 rfl rfl)
theorem dJ24_getChars_7 : decode cJ24_getChars 7 = .ok (.iconst 1, 1) := dk_4 (dk_at dksJ24_getChars_0 7 rfl rfl)
theorem dJ24_getChars_8 : decode cJ24_getChars 8 = .ok (.goto 4, 3) := dk_167 0 4 (dk_at dksJ24_getChars_0 8 rfl rfl)
theorem dJ24_getChars_11 : decode cJ24_getChars 11 = .ok (.iconst 0, 1) := dk_3 (dk_at dksJ24_getChars_0 11 rfl rfl)
theorem dJ24_getChars_12 : decode cJ24_getChars 12 = .ok (.istore 6, 2) := dk_54 6 (dk_at dksJ24_getChars_0 12 rfl rfl)
theorem dJ24_getChars_14 : decode cJ24_getChars 14 = .ok (.iload 6, 2) := dk_21 6 (dk_at dksJ24_getChars_0 14 rfl rfl)
theorem dJ24_getChars_16 : decode cJ24_getChars 16 = .ok (.ifCond .ne 6, 3) := dk_154 0 6 (dk_at dksJ24_getChars_0 16 rfl rfl)
theorem dJ24_getChars_19 : decode cJ24_getChars 19 = .ok (.iload_n 0, 1) := dk_26 (dk_at dksJ24_getChars_0 19 rfl rfl)
theorem dJ24_getChars_20 : decode cJ24_getChars 20 = .ok (.ineg, 1) := dk_116 (dk_at dksJ24_getChars_0 20 rfl rfl)
theorem dJ24_getChars_21 : decode cJ24_getChars 21 = .ok (.istore_n 0, 1) := dk_59 (dk_at dksJ24_getChars_0 21 rfl rfl)
theorem dJ24_getChars_22 : decode cJ24_getChars 22 = .ok (.iload_n 0, 1) := dk_26 (dk_at dksJ24_getChars_0 22 rfl rfl)
theorem dJ24_getChars_23 : decode cJ24_getChars 23 = .ok (.bipush (-100), 2) := dk_16 156 (dk_at dksJ24_getChars_1 0 rfl rfl)
theorem dJ24_getChars_25 : decode cJ24_getChars 25 = .ok (.if_icmp .gt 47, 3) := dk_163 0 47 (dk_at dksJ24_getChars_1 2 rfl rfl)
theorem dJ24_getChars_28 : decode cJ24_getChars 28 = .ok (.iload_n 0, 1) := dk_26 (dk_at dksJ24_getChars_1 5 rfl rfl)
theorem dJ24_getChars_29 : decode cJ24_getChars 29 = .ok (.bipush 100, 2) := dk_16 100 (dk_at dksJ24_getChars_1 6 rfl rfl)
theorem dJ24_getChars_31 : decode cJ24_getChars 31 = .ok (.idiv, 1) := dk_108 (dk_at dksJ24_getChars_1 8 rfl rfl)
theorem dJ24_getChars_32 : decode cJ24_getChars 32 = .ok (.istore_n 3, 1) := dk_62 (dk_at dksJ24_getChars_1 9 rfl rfl)
theorem dJ24_getChars_33 : decode cJ24_getChars 33 = .ok (.iload_n 3, 1) := dk_29 (dk_at dksJ24_getChars_1 10 rfl rfl)
theorem dJ24_getChars_34 : decode cJ24_getChars 34 = .ok (.bipush 100, 2) := dk_16 100 (dk_at dksJ24_getChars_1 11 rfl rfl)
theorem dJ24_getChars_36 : decode cJ24_getChars 36 = .ok (.imul, 1) := dk_104 (dk_at dksJ24_getChars_1 13 rfl rfl)
theorem dJ24_getChars_37 : decode cJ24_getChars 37 = .ok (.iload_n 0, 1) := dk_26 (dk_at dksJ24_getChars_1 14 rfl rfl)
theorem dJ24_getChars_38 : decode cJ24_getChars 38 = .ok (.isub, 1) := dk_100 (dk_at dksJ24_getChars_1 15 rfl rfl)
theorem dJ24_getChars_39 : decode cJ24_getChars 39 = .ok (.istore 4, 2) := dk_54 4 (dk_at dksJ24_getChars_1 16 rfl rfl)
theorem dJ24_getChars_41 : decode cJ24_getChars 41 = .ok (.iload_n 3, 1) := dk_29 (dk_at dksJ24_getChars_1 18 rfl rfl)
theorem dJ24_getChars_42 : decode cJ24_getChars 42 = .ok (.istore_n 0, 1) := dk_59 (dk_at dksJ24_getChars_1 19 rfl rfl)
theorem dJ24_getChars_43 : decode cJ24_getChars 43 = .ok (.aload_n 2, 1) := dk_44 (dk_at dksJ24_getChars_1 20 rfl rfl)
theorem dJ24_getChars_44 : decode cJ24_getChars 44 = .ok (.iinc 5 (-1), 3) := dk_132 5 255 (dk_at dksJ24_getChars_1 21 rfl rfl)
theorem dJ24_getChars_47 : decode cJ24_getChars 47 = .ok (.iload 5, 2) := dk_21 5 (dk_at dksJ24_getChars_2 0 rfl rfl)
theorem dJ24_getChars_49 : decode cJ24_getChars 49 = .ok (.getstatic 83, 3) := dk_178 0 83 (dk_at dksJ24_getChars_2 2 rfl rfl)
theorem dJ24_getChars_52 : decode cJ24_getChars 52 = .ok (.iload 4, 2) := dk_21 4 (dk_at dksJ24_getChars_2 5 rfl rfl)
theorem dJ24_getChars_54 : decode cJ24_getChars 54 = .ok (.baload, 1) := dk_51 (dk_at dksJ24_getChars_2 7 rfl rfl)
theorem dJ24_getChars_55 : decode cJ24_getChars 55 = .ok (.bastore, 1) := dk_84 (dk_at dksJ24_getChars_2 8 rfl rfl)
theorem dJ24_getChars_56 : decode cJ24_getChars 56 = .ok (.aload_n 2, 1) := dk_44 (dk_at dksJ24_getChars_2 9 rfl rfl)
theorem dJ24_getChars_57 : decode cJ24_getChars 57 = .ok (.iinc 5 (-1), 3) := dk_132 5 255 (dk_at dksJ24_getChars_2 10 rfl rfl)
theorem dJ24_getChars_60 : decode cJ24_getChars 60 = .ok (.iload 5, 2) := dk_21 5 (dk_at dksJ24_getChars_2 13 rfl rfl)
theorem dJ24_getChars_62 : decode cJ24_getChars 62 = .ok (.getstatic 87, 3) := dk_178 0 87 (dk_at dksJ24_getChars_2 15 rfl rfl)
theorem dJ24_getChars_65 : decode cJ24_getChars 65 = .ok (.iload 4, 2) := dk_21 4 (dk_at dksJ24_getChars_2 18 rfl rfl)
theorem dJ24_getChars_67 : decode cJ24_getChars 67 = .ok (.baload, 1) := dk_51 (dk_at dksJ24_getChars_2 20 rfl rfl)
theorem dJ24_getChars_68 : decode cJ24_getChars 68 = .ok (.bastore, 1) := dk_84 (dk_at dksJ24_getChars_2 21 rfl rfl)
theorem dJ24_getChars_69 : decode cJ24_getChars 69 = .ok (.goto (-47), 3) := dk_167 255 209 (dk_at dksJ24_getChars_3 0 rfl rfl)
theorem dJ24_getChars_72 : decode cJ24_getChars 72 = .ok (.aload_n 2, 1) := dk_44 (dk_at dksJ24_getChars_3 3 rfl rfl)
theorem dJ24_getChars_73 : decode cJ24_getChars 73 = .ok (.iinc 5 (-1), 3) := dk_132 5 255 (dk_at dksJ24_getChars_3 4 rfl rfl)
theorem dJ24_getChars_76 : decode cJ24_getChars 76 = .ok (.iload 5, 2) := dk_21 5 (dk_at dksJ24_getChars_3 7 rfl rfl)
theorem dJ24_getChars_78 : decode cJ24_getChars 78 = .ok (.getstatic 83, 3) := dk_178 0 83 (dk_at dksJ24_getChars_3 9 rfl rfl)
theorem dJ24_getChars_81 : decode cJ24_getChars 81 = .ok (.iload_n 0, 1) := dk_26 (dk_at dksJ24_getChars_3 12 rfl rfl)
theorem dJ24_getChars_82 : decode cJ24_getChars 82 = .ok (.ineg, 1) := dk_116 (dk_at dksJ24_getChars_3 13 rfl rfl)
theorem dJ24_getChars_83 : decode cJ24_getChars 83 = .ok (.baload, 1) := dk_51 (dk_at dksJ24_getChars_3 14 rfl rfl)
theorem dJ24_getChars_84 : decode cJ24_getChars 84 = .ok (.bastore, 1) := dk_84 (dk_at dksJ24_getChars_3 15 rfl rfl)
theorem dJ24_getChars_85 : decode cJ24_getChars 85 = .ok (.iload_n 0, 1) := dk_26 (dk_at dksJ24_getChars_3 16 rfl rfl)
theorem dJ24_getChars_86 : decode cJ24_getChars 86 = .ok (.bipush (-9), 2) := dk_16 247 (dk_at dksJ24_getChars_3 17 rfl rfl)
theorem dJ24_getChars_88 : decode cJ24_getChars 88 = .ok (.if_icmp .ge 16, 3) := dk_162 0 16 (dk_at dksJ24_getChars_3 19 rfl rfl)
theorem dJ24_getChars_91 : decode cJ24_getChars 91 = .ok (.aload_n 2, 1) := dk_44 (dk_at dksJ24_getChars_3 22 rfl rfl)
theorem dJ24_getChars_92 : decode cJ24_getChars 92 = .ok (.iinc 5 (-1), 3) := dk_132 5 255 (dk_at dksJ24_getChars_4 0 rfl rfl)
theorem dJ24_getChars_95 : decode cJ24_getChars 95 = .ok (.iload 5, 2) := dk_21 5 (dk_at dksJ24_getChars_4 3 rfl rfl)
theorem dJ24_getChars_97 : decode cJ24_getChars 97 = .ok (.getstatic 87, 3) := dk_178 0 87 (dk_at dksJ24_getChars_4 5 rfl rfl)
theorem dJ24_getChars_100 : decode cJ24_getChars 100 = .ok (.iload_n 0, 1) := dk_26 (dk_at dksJ24_getChars_4 8 rfl rfl)
theorem dJ24_getChars_101 : decode cJ24_getChars 101 = .ok (.ineg, 1) := dk_116 (dk_at dksJ24_getChars_4 9 rfl rfl)
theorem dJ24_getChars_102 : decode cJ24_getChars 102 = .ok (.baload, 1) := dk_51 (dk_at dksJ24_getChars_4 10 rfl rfl)
theorem dJ24_getChars_103 : decode cJ24_getChars 103 = .ok (.bastore, 1) := dk_84 (dk_at dksJ24_getChars_4 11 rfl rfl)
theorem dJ24_getChars_104 : decode cJ24_getChars 104 = .ok (.iload 6, 2) := dk_21 6 (dk_at dksJ24_getChars_4 12 rfl rfl)
theorem dJ24_getChars_106 : decode cJ24_getChars 106 = .ok (.ifCond .eq 12, 3) := dk_153 0 12 (dk_at dksJ24_getChars_4 14 rfl rfl)
theorem dJ24_getChars_109 : decode cJ24_getChars 109 = .ok (.aload_n 2, 1) := dk_44 (dk_at dksJ24_getChars_4 17 rfl rfl)
theorem dJ24_getChars_110 : decode cJ24_getChars 110 = .ok (.iinc 5 (-1), 3) := dk_132 5 255 (dk_at dksJ24_getChars_4 18 rfl rfl)
theorem dJ24_getChars_113 : decode cJ24_getChars 113 = .ok (.iload 5, 2) := dk_21 5 (dk_at dksJ24_getChars_4 21 rfl rfl)
theorem dJ24_getChars_115 : decode cJ24_getChars 115 = .ok (.bipush 45, 2) := dk_16 45 (dk_at dksJ24_getChars_5 0 rfl rfl)
theorem dJ24_getChars_117 : decode cJ24_getChars 117 = .ok (.bastore, 1) := dk_84 (dk_at dksJ24_getChars_5 2 rfl rfl)
theorem dJ24_getChars_118 : decode cJ24_getChars 118 = .ok (.iload 5, 2) := dk_21 5 (dk_at dksJ24_getChars_5 3 rfl rfl)
theorem dJ24_getChars_120 : decode cJ24_getChars 120 = .ok (.ireturn, 1) := dk_172 (dk_at dksJ24_getChars_5 5 rfl rfl)
abbrev cJ24_valueOf : ByteArray := prog_44_method_22_code
def yJ24_valueOf : MethodName := ⟨RJ24, "valueOf", "(I)Ljava/lang/Integer;"⟩
def dkwJ24_valueOf_1 : List UInt8 := [187, 0, 1, 89, 26, 183, 0, 199, 176]
abbrev dktJ24_valueOf_1 : List UInt8 := dkwJ24_valueOf_1 ++ []
def dkwJ24_valueOf_0 : List UInt8 := [26, 16, 128, 161, 0, 20, 26, 178, 0, 191, 163, 0, 13, 178, 0, 195, 26, 17, 0, 128, 96, 50, 176]
abbrev dktJ24_valueOf_0 : List UInt8 := dkwJ24_valueOf_0 ++ dktJ24_valueOf_1
theorem dksJ24_valueOf_0 : cJ24_valueOf.data.toList.drop 0 = dktJ24_valueOf_0 := by decide +kernel
theorem dksJ24_valueOf_1 : cJ24_valueOf.data.toList.drop 23 = dktJ24_valueOf_1 := dk_seg dksJ24_valueOf_0 23 rfl rfl
theorem dJ24_valueOf_0 : decode cJ24_valueOf 0 = .ok (.iload_n 0, 1) := dk_26 (dk_at dksJ24_valueOf_0 0 rfl rfl)
theorem dJ24_valueOf_1 : decode cJ24_valueOf 1 = .ok (.bipush (-128), 2) := dk_16 128 (dk_at dksJ24_valueOf_0 1 rfl rfl)
theorem dJ24_valueOf_3 : decode cJ24_valueOf 3 = .ok (.if_icmp .lt 20, 3) := dk_161 0 20 (dk_at dksJ24_valueOf_0 3 rfl rfl)
theorem dJ24_valueOf_6 : decode cJ24_valueOf 6 = .ok (.iload_n 0, 1) := dk_26 (dk_at dksJ24_valueOf_0 6 rfl rfl)
theorem dJ24_valueOf_7 : decode cJ24_valueOf 7 = .ok (.getstatic 191, 3) := dk_178 0 191 (dk_at dksJ24_valueOf_0 7 rfl rfl)
theorem dJ24_valueOf_10 : decode cJ24_valueOf 10 = .ok (.if_icmp .gt 13, 3) := dk_163 0 13 (dk_at dksJ24_valueOf_0 10 rfl rfl)
theorem dJ24_valueOf_13 : decode cJ24_valueOf 13 = .ok (.getstatic 195, 3) := dk_178 0 195 (dk_at dksJ24_valueOf_0 13 rfl rfl)
theorem dJ24_valueOf_16 : decode cJ24_valueOf 16 = .ok (.iload_n 0, 1) := dk_26 (dk_at dksJ24_valueOf_0 16 rfl rfl)
theorem dJ24_valueOf_17 : decode cJ24_valueOf 17 = .ok (.sipush 128, 3) := dk_17 0 128 (dk_at dksJ24_valueOf_0 17 rfl rfl)
theorem dJ24_valueOf_20 : decode cJ24_valueOf 20 = .ok (.iadd, 1) := dk_96 (dk_at dksJ24_valueOf_0 20 rfl rfl)
theorem dJ24_valueOf_21 : decode cJ24_valueOf 21 = .ok (.aaload, 1) := dk_50 (dk_at dksJ24_valueOf_0 21 rfl rfl)
theorem dJ24_valueOf_22 : decode cJ24_valueOf 22 = .ok (.areturn, 1) := dk_176 (dk_at dksJ24_valueOf_0 22 rfl rfl)
theorem dJ24_valueOf_23 : decode cJ24_valueOf 23 = .ok (.new 1, 3) := dk_187 0 1 (dk_at dksJ24_valueOf_1 0 rfl rfl)
theorem dJ24_valueOf_26 : decode cJ24_valueOf 26 = .ok (.dup, 1) := dk_89 (dk_at dksJ24_valueOf_1 3 rfl rfl)
theorem dJ24_valueOf_27 : decode cJ24_valueOf 27 = .ok (.iload_n 0, 1) := dk_26 (dk_at dksJ24_valueOf_1 4 rfl rfl)
theorem dJ24_valueOf_28 : decode cJ24_valueOf 28 = .ok (.invokespecial 199, 3) := dk_183 0 199 (dk_at dksJ24_valueOf_1 5 rfl rfl)
theorem dJ24_valueOf_31 : decode cJ24_valueOf 31 = .ok (.areturn, 1) := dk_176 (dk_at dksJ24_valueOf_1 8 rfl rfl)
abbrev cJ24_init : ByteArray := prog_44_method_23_code
def yJ24_init : MethodName := ⟨RJ24, "<init>", "(I)V"⟩
def dkwJ24_init_0 : List UInt8 := [42, 183, 0, 202, 42, 27, 181, 0, 205, 177]
abbrev dktJ24_init_0 : List UInt8 := dkwJ24_init_0 ++ []
theorem dksJ24_init_0 : cJ24_init.data.toList.drop 0 = dktJ24_init_0 := by decide +kernel
theorem dJ24_init_0 : decode cJ24_init 0 = .ok (.aload_n 0, 1) := dk_42 (dk_at dksJ24_init_0 0 rfl rfl)
theorem dJ24_init_1 : decode cJ24_init 1 = .ok (.invokespecial 202, 3) := dk_183 0 202 (dk_at dksJ24_init_0 1 rfl rfl)
theorem dJ24_init_4 : decode cJ24_init 4 = .ok (.aload_n 0, 1) := dk_42 (dk_at dksJ24_init_0 4 rfl rfl)
theorem dJ24_init_5 : decode cJ24_init 5 = .ok (.iload_n 1, 1) := dk_27 (dk_at dksJ24_init_0 5 rfl rfl)
theorem dJ24_init_6 : decode cJ24_init 6 = .ok (.putfield 205, 3) := dk_181 0 205 (dk_at dksJ24_init_0 6 rfl rfl)
theorem dJ24_init_9 : decode cJ24_init 9 = .ok (.return_, 1) := dk_177 (dk_at dksJ24_init_0 9 rfl rfl)
theorem q107 : (Jvm.Cond.initialized "java/lang/Integer") ∈ lw_all := lw_g (lw_at lw_m1 43 rfl) rfl
theorem q248 : (Jvm.Cond.selects "java/lang/Integer" ({ cls := "java/lang/Object", name := "getClass", desc := "()Ljava/lang/Class;" } : Jvm.MethodName) ({ cls := "java/lang/Object", name := "getClass", desc := "()Ljava/lang/Class;" } : Jvm.MethodName)) ∈ lw_all := lw_g (lw_at lw_m1 184 rfl) rfl
theorem q822 : (Jvm.Cond.selects "java/lang/Integer" ({ cls := "java/lang/Object", name := "equals", desc := "(Ljava/lang/Object;)Z" } : Jvm.MethodName) ({ cls := "java/lang/Integer", name := "equals", desc := "(Ljava/lang/Object;)Z" } : Jvm.MethodName)) ∈ lw_all := lw_g (lw_at lw_m4 38 rfl) rfl
theorem q823 : (Jvm.Cond.instanceMethod ({ cls := "java/lang/Integer", name := "equals", desc := "(Ljava/lang/Object;)Z" } : Jvm.MethodName)) ∈ lw_all := lw_g (lw_at lw_m4 39 rfl) rfl
theorem q824 : (Jvm.Cond.code ({ cls := "java/lang/Integer", name := "equals", desc := "(Ljava/lang/Object;)Z" } : Jvm.MethodName) prog_44_method_34_code (2 : Nat) (Option.some Jvm.ClassFile.FieldType.boolean)) ∈ lw_all := lw_g (lw_at lw_m4 40 rfl) rfl
theorem q825 : (Jvm.Cond.classLink "java/lang/Integer" (1 : Nat) "java/lang/Integer") ∈ lw_all := lw_g (lw_at lw_m4 41 rfl) rfl
theorem q826 : (Jvm.Cond.methodLink "java/lang/Integer" (211 : Nat) ({ cls := "java/lang/Integer", name := "intValue", desc := "()I" } : Jvm.MethodName)) ∈ lw_all := lw_g (lw_at lw_m4 42 rfl) rfl
theorem q827 : (Jvm.Cond.instanceMethod ({ cls := "java/lang/Integer", name := "intValue", desc := "()I" } : Jvm.MethodName)) ∈ lw_all := lw_g (lw_at lw_m4 43 rfl) rfl
theorem q828 : (Jvm.Cond.selects "java/lang/Integer" ({ cls := "java/lang/Integer", name := "intValue", desc := "()I" } : Jvm.MethodName) ({ cls := "java/lang/Integer", name := "intValue", desc := "()I" } : Jvm.MethodName)) ∈ lw_all := lw_g (lw_at lw_m4 44 rfl) rfl
theorem q829 : (Jvm.Cond.code ({ cls := "java/lang/Integer", name := "intValue", desc := "()I" } : Jvm.MethodName) prog_44_method_27_code (1 : Nat) (Option.some Jvm.ClassFile.FieldType.int)) ∈ lw_all := lw_g (lw_at lw_m4 45 rfl) rfl
theorem q1400 : (Jvm.Cond.static ({ cls := "java/lang/Integer", name := "stringSize", desc := "(I)I" } : Jvm.MethodName)) ∈ lw_all := lw_g (lw_at lw_m6 136 rfl) rfl
theorem q1401 : (Jvm.Cond.code ({ cls := "java/lang/Integer", name := "stringSize", desc := "(I)I" } : Jvm.MethodName) prog_44_method_13_code (4 : Nat) (Option.some Jvm.ClassFile.FieldType.int)) ∈ lw_all := lw_g (lw_at lw_m6 137 rfl) rfl
theorem q1403 : (Jvm.Cond.static ({ cls := "java/lang/Integer", name := "getChars", desc := "(II[B)I" } : Jvm.MethodName)) ∈ lw_all := lw_g (lw_at lw_m6 139 rfl) rfl
theorem q1404 : (Jvm.Cond.code ({ cls := "java/lang/Integer", name := "getChars", desc := "(II[B)I" } : Jvm.MethodName) prog_44_method_12_code (7 : Nat) (Option.some Jvm.ClassFile.FieldType.int)) ∈ lw_all := lw_g (lw_at lw_m6 140 rfl) rfl
theorem q1405 : (Jvm.Cond.fieldLink "java/lang/Integer" (83 : Nat) "java/lang/Integer" "DigitOnes" "[B") ∈ lw_all := lw_g (lw_at lw_m6 141 rfl) rfl
theorem q1406 : (Jvm.Cond.laysStatic "java/lang/Integer" "DigitOnes" "[B") ∈ lw_tbl := lw_at lw_m6 142 rfl
theorem q1407 : (Jvm.Cond.fieldLink "java/lang/Integer" (87 : Nat) "java/lang/Integer" "DigitTens" "[B") ∈ lw_all := lw_g (lw_at lw_m6 143 rfl) rfl
theorem q1408 : (Jvm.Cond.laysStatic "java/lang/Integer" "DigitTens" "[B") ∈ lw_tbl := lw_at lw_m6 144 rfl
theorem q2023 : (Jvm.Cond.static ({ cls := "java/lang/Integer", name := "valueOf", desc := "(I)Ljava/lang/Integer;" } : Jvm.MethodName)) ∈ lw_all := lw_g (lw_at lw_m9 39 rfl) rfl
theorem q2024 : (Jvm.Cond.code ({ cls := "java/lang/Integer", name := "valueOf", desc := "(I)Ljava/lang/Integer;" } : Jvm.MethodName) prog_44_method_22_code (1 : Nat) (Option.some (Jvm.ClassFile.FieldType.object "java/lang/Integer"))) ∈ lw_all := lw_g (lw_at lw_m9 40 rfl) rfl
theorem q2025 : (Jvm.Cond.fieldLink "java/lang/Integer" (191 : Nat) "java/lang/Integer$IntegerCache" "high" "I") ∈ lw_all := lw_g (lw_at lw_m9 41 rfl) rfl
theorem q2027 : (Jvm.Cond.fieldLink "java/lang/Integer" (195 : Nat) "java/lang/Integer$IntegerCache" "cache" "[Ljava/lang/Integer;") ∈ lw_all := lw_g (lw_at lw_m9 43 rfl) rfl
theorem q2029 : (Jvm.Cond.instantiable "java/lang/Integer" (1 : Nat)) ∈ lw_all := lw_g (lw_at lw_m9 45 rfl) rfl
theorem q2030 : (Jvm.Cond.methodLink "java/lang/Integer" (199 : Nat) ({ cls := "java/lang/Integer", name := "<init>", desc := "(I)V" } : Jvm.MethodName)) ∈ lw_all := lw_g (lw_at lw_m9 46 rfl) rfl
theorem q2031 : (Jvm.Cond.instanceMethod ({ cls := "java/lang/Integer", name := "<init>", desc := "(I)V" } : Jvm.MethodName)) ∈ lw_all := lw_g (lw_at lw_m9 47 rfl) rfl
theorem q2032 : (Jvm.Cond.code ({ cls := "java/lang/Integer", name := "<init>", desc := "(I)V" } : Jvm.MethodName) prog_44_method_23_code (2 : Nat) (Option.none : Option Jvm.ClassFile.FieldType)) ∈ lw_all := lw_g (lw_at lw_m9 48 rfl) rfl
theorem q2033 : (Jvm.Cond.methodLink "java/lang/Integer" (202 : Nat) ({ cls := "java/lang/Number", name := "<init>", desc := "()V" } : Jvm.MethodName)) ∈ lw_all := lw_g (lw_at lw_m9 49 rfl) rfl
theorem q2037 : (Jvm.Cond.fieldLink "java/lang/Integer" (205 : Nat) "java/lang/Integer" "value" "I") ∈ lw_all := lw_g (lw_at lw_m9 53 rfl) rfl
theorem q2038 : (Jvm.Cond.laysFinal "java/lang/Integer" "java/lang/Integer" "value" "I") ∈ lw_all := lw_g (lw_at lw_m9 54 rfl) rfl
theorem q2039 : (Jvm.Cond.soleField "java/lang/Integer" "value") ∈ lw_all := lw_g (lw_at lw_m9 55 rfl) rfl
theorem q2040 : (Jvm.Cond.superclass "java/lang/Integer" "java/lang/Number") ∈ lw_all := lw_g (lw_at lw_m9 56 rfl) rfl
theorem q2243 : (Jvm.Cond.castable "java/lang/Integer" "java/lang/Object") ∈ lw_tbl := lw_at lw_m10 19 rfl
theorem in_J24 : ∀ w ∈ wsJ240, w ∈ lw_all := lw_in wsJ240 [2038] (by decide +kernel) (by decide +kernel)

/-! java/lang/Object -/
set_option maxRecDepth 100000
def RJ26 : String := "java/lang/Object"
abbrev cJ26_init : ByteArray := object_method_1_code
def yJ26_init : MethodName := ⟨RJ26, "<init>", "()V"⟩
theorem dJ26_init_0 : decode cJ26_init 0 = .ok (.return_, 1) := by decide +kernel
abbrev cJ26_equals : ByteArray := object_method_4_code
def yJ26_equals : MethodName := ⟨RJ26, "equals", "(Ljava/lang/Object;)Z"⟩
def dkwJ26_equals_0 : List UInt8 := [42, 43, 166, 0, 7, 4, 167, 0, 4, 3, 172]
abbrev dktJ26_equals_0 : List UInt8 := dkwJ26_equals_0 ++ []
theorem dksJ26_equals_0 : cJ26_equals.data.toList.drop 0 = dktJ26_equals_0 := by decide +kernel
theorem dJ26_equals_0 : decode cJ26_equals 0 = .ok (.aload_n 0, 1) := dk_42 (dk_at dksJ26_equals_0 0 rfl rfl)
theorem dJ26_equals_1 : decode cJ26_equals 1 = .ok (.aload_n 1, 1) := dk_43 (dk_at dksJ26_equals_0 1 rfl rfl)
theorem dJ26_equals_2 : decode cJ26_equals 2 = .ok (.if_acmp .ne 7, 3) := dk_166 0 7 (dk_at dksJ26_equals_0 2 rfl rfl)
theorem dJ26_equals_5 : decode cJ26_equals 5 = .ok (.iconst 1, 1) := dk_4 (dk_at dksJ26_equals_0 5 rfl rfl)
theorem dJ26_equals_6 : decode cJ26_equals 6 = .ok (.goto 4, 3) := dk_167 0 4 (dk_at dksJ26_equals_0 6 rfl rfl)
theorem dJ26_equals_9 : decode cJ26_equals 9 = .ok (.iconst 0, 1) := dk_3 (dk_at dksJ26_equals_0 9 rfl rfl)
theorem dJ26_equals_10 : decode cJ26_equals 10 = .ok (.ireturn, 1) := dk_172 (dk_at dksJ26_equals_0 10 rfl rfl)
theorem q118 : (Jvm.Cond.instanceMethod ({ cls := "java/lang/Object", name := "<init>", desc := "()V" } : Jvm.MethodName)) ∈ lw_all := lw_g (lw_at lw_m1 54 rfl) rfl
theorem q119 : (Jvm.Cond.code ({ cls := "java/lang/Object", name := "<init>", desc := "()V" } : Jvm.MethodName) object_method_1_code (1 : Nat) (Option.none : Option Jvm.ClassFile.FieldType)) ∈ lw_all := lw_g (lw_at lw_m1 55 rfl) rfl
theorem q215 : (Jvm.Cond.instanceMethod ({ cls := "java/lang/Object", name := "getClass", desc := "()Ljava/lang/Class;" } : Jvm.MethodName)) ∈ lw_all := lw_g (lw_at lw_m1 151 rfl) rfl
theorem q216 : (Jvm.Cond.sameMethod "java/lang/Object" "java/lang/Object" "getClass" "()Ljava/lang/Class;") ∈ lw_all := lw_g (lw_at lw_m1 152 rfl) rfl
theorem q254 : (Jvm.Cond.native ({ cls := "java/lang/Object", name := "getClass", desc := "()Ljava/lang/Class;" } : Jvm.MethodName)) ∈ lw_all := lw_g (lw_at lw_m1 190 rfl) rfl
theorem q536 : (Jvm.Cond.native ({ cls := "java/lang/Object", name := "clone", desc := "()Ljava/lang/Object;" } : Jvm.MethodName)) ∈ lw_all := lw_g (lw_at lw_m2 232 rfl) rfl
theorem q537 : (Jvm.Cond.instanceMethod ({ cls := "java/lang/Object", name := "clone", desc := "()Ljava/lang/Object;" } : Jvm.MethodName)) ∈ lw_all := lw_g (lw_at lw_m2 233 rfl) rfl
theorem q776 : (Jvm.Cond.declares ({ cls := "java/lang/Object", name := "equals", desc := "(Ljava/lang/Object;)Z" } : Jvm.MethodName)) ∈ lw_tbl := lw_at lw_m3 232 rfl
theorem q778 : (Jvm.Cond.instanceMethod ({ cls := "java/lang/Object", name := "equals", desc := "(Ljava/lang/Object;)Z" } : Jvm.MethodName)) ∈ lw_all := lw_g (lw_at lw_m3 234 rfl) rfl
theorem q779 : (Jvm.Cond.sameMethod "java/lang/Object" "java/lang/Object" "equals" "(Ljava/lang/Object;)Z") ∈ lw_all := lw_g (lw_at lw_m3 235 rfl) rfl
theorem q840 : (Jvm.Cond.code ({ cls := "java/lang/Object", name := "equals", desc := "(Ljava/lang/Object;)Z" } : Jvm.MethodName) object_method_4_code (2 : Nat) (Option.some Jvm.ClassFile.FieldType.boolean)) ∈ lw_all := lw_g (lw_at lw_m4 56 rfl) rfl
theorem q2211 : (Jvm.Cond.initialized "java/lang/Object") ∈ lw_all := lw_g (lw_at lw_m9 227 rfl) rfl
theorem q2256 : (Jvm.Cond.declares ({ cls := "java/lang/Object", name := "getClass", desc := "()Ljava/lang/Class;" } : Jvm.MethodName)) ∈ lw_tbl := lw_at lw_m10 32 rfl
theorem q2288 : (Jvm.Cond.instantiable "java/lang/Object" (0 : Nat)) ∈ lw_all := lw_g (lw_at lw_m10 64 rfl) rfl

/-! java/lang/Enum -/
set_option maxRecDepth 100000
def RJ12 : String := "java/lang/Enum"
abbrev cJ12_equals : ByteArray := prog_39_method_5_code
def yJ12_equals : MethodName := ⟨RJ12, "equals", "(Ljava/lang/Object;)Z"⟩
def dkwJ12_equals_0 : List UInt8 := [42, 43, 166, 0, 7, 4, 167, 0, 4, 3, 172]
abbrev dktJ12_equals_0 : List UInt8 := dkwJ12_equals_0 ++ []
theorem dksJ12_equals_0 : cJ12_equals.data.toList.drop 0 = dktJ12_equals_0 := by decide +kernel
theorem dJ12_equals_0 : decode cJ12_equals 0 = .ok (.aload_n 0, 1) := dk_42 (dk_at dksJ12_equals_0 0 rfl rfl)
theorem dJ12_equals_1 : decode cJ12_equals 1 = .ok (.aload_n 1, 1) := dk_43 (dk_at dksJ12_equals_0 1 rfl rfl)
theorem dJ12_equals_2 : decode cJ12_equals 2 = .ok (.if_acmp .ne 7, 3) := dk_166 0 7 (dk_at dksJ12_equals_0 2 rfl rfl)
theorem dJ12_equals_5 : decode cJ12_equals 5 = .ok (.iconst 1, 1) := dk_4 (dk_at dksJ12_equals_0 5 rfl rfl)
theorem dJ12_equals_6 : decode cJ12_equals 6 = .ok (.goto 4, 3) := dk_167 0 4 (dk_at dksJ12_equals_0 6 rfl rfl)
theorem dJ12_equals_9 : decode cJ12_equals 9 = .ok (.iconst 0, 1) := dk_3 (dk_at dksJ12_equals_0 9 rfl rfl)
theorem dJ12_equals_10 : decode cJ12_equals 10 = .ok (.ireturn, 1) := dk_172 (dk_at dksJ12_equals_0 10 rfl rfl)
abbrev cJ12_ordinal : ByteArray := prog_39_method_2_code
def yJ12_ordinal : MethodName := ⟨RJ12, "ordinal", "()I"⟩
theorem dJ12_ordinal_0 : decode cJ12_ordinal 0 = .ok (.aload_n 0, 1) := by decide +kernel
theorem dJ12_ordinal_1 : decode cJ12_ordinal 1 = .ok (.getfield 7, 3) := by decide +kernel
theorem dJ12_ordinal_4 : decode cJ12_ordinal 4 = .ok (.ireturn, 1) := by decide +kernel
theorem q85 : (Jvm.Cond.initialized "java/lang/Enum") ∈ lw_all := lw_g (lw_at lw_m1 21 rfl) rfl
theorem q784 : (Jvm.Cond.instanceMethod ({ cls := "java/lang/Enum", name := "equals", desc := "(Ljava/lang/Object;)Z" } : Jvm.MethodName)) ∈ lw_all := lw_g (lw_at lw_m4 0 rfl) rfl
theorem q785 : (Jvm.Cond.code ({ cls := "java/lang/Enum", name := "equals", desc := "(Ljava/lang/Object;)Z" } : Jvm.MethodName) prog_39_method_5_code (2 : Nat) (Option.some Jvm.ClassFile.FieldType.boolean)) ∈ lw_all := lw_g (lw_at lw_m4 1 rfl) rfl
theorem q1160 : (Jvm.Cond.declares ({ cls := "java/lang/Enum", name := "ordinal", desc := "()I" } : Jvm.MethodName)) ∈ lw_tbl := lw_at lw_m5 136 rfl
theorem q1165 : (Jvm.Cond.instanceMethod ({ cls := "java/lang/Enum", name := "ordinal", desc := "()I" } : Jvm.MethodName)) ∈ lw_all := lw_g (lw_at lw_m5 141 rfl) rfl
theorem q1166 : (Jvm.Cond.code ({ cls := "java/lang/Enum", name := "ordinal", desc := "()I" } : Jvm.MethodName) prog_39_method_2_code (1 : Nat) (Option.some Jvm.ClassFile.FieldType.int)) ∈ lw_all := lw_g (lw_at lw_m5 142 rfl) rfl
theorem q2273 : (Jvm.Cond.fieldLink "java/lang/Enum" (7 : Nat) "java/lang/Enum" "ordinal" "I") ∈ lw_all := lw_g (lw_at lw_m10 49 rfl) rfl
