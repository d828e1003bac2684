/-! THE TWO LAMBDAS OF countAgainst: the made classes. The proofs follow the library's made_facts (Shelf42/Example/F18c.lean). -/
def lm_B : ByteArray := ⟨#[0x2a, 0xb4, 0x00, 0x13, 0x2a, 0xb4, 0x00, 0x15, 0x2a, 0xb4, 0x00, 0x17, 0x2b, 0xb6, 0x00, 0x1f, 0xac]⟩
theorem lm_d0 : decode lm_B 0 = .ok (.aload_n 0, 1) := by decide +kernel
theorem lm_d1 : decode lm_B 1 = .ok (.getfield 19, 3) := by decide +kernel
theorem lm_d4 : decode lm_B 4 = .ok (.aload_n 0, 1) := by decide +kernel
theorem lm_d5 : decode lm_B 5 = .ok (.getfield 21, 3) := by decide +kernel
theorem lm_d8 : decode lm_B 8 = .ok (.aload_n 0, 1) := by decide +kernel
theorem lm_d9 : decode lm_B 9 = .ok (.getfield 23, 3) := by decide +kernel
theorem lm_d12 : decode lm_B 12 = .ok (.aload_n 1, 1) := by decide +kernel
theorem lm_d13 : decode lm_B 13 = .ok (.invokevirtual 31, 3) := by decide +kernel
theorem lm_d16 : decode lm_B 16 = .ok (.ireturn, 1) := by decide +kernel

def lm_s0 : Jvm.Lambda.Shape := { iface := "SwapWhile$FrameTest", name := "holds", sam := { parameters := [(.object "SwapWhile$Frame")], returnType := some .boolean }, captured := [(.object "SwapWhile"), FieldType.int, (.object "SwapWhile$Change")], kind := 5, implClass := "SwapWhile", implName := "lambda$countAgainst$0", implDesc := { parameters := [FieldType.int, (.object "SwapWhile$Change"), (.object "SwapWhile$Frame")], returnType := some .boolean }, implItf := false, inst := { parameters := [(.object "SwapWhile$Frame")], returnType := some .boolean } }
theorem lm_w0 : siteWord_1_1 = Cond.lambdaSite yX1_countAgainst 27 229 lm_s0 := rfl
theorem lm_in0 : siteWord_1_1 ∈ flatC (Jvm.Cond.and given_1 narrow_1) := by decide +kernel
def lm_D0 : ClassFile := (lm_s0.file "SwapWhile").getD { minorVersion := 0, majorVersion := 0, constantPool := #[], accessFlags := 0, thisClass := 0, superClass := 0, interfaces := #[], fields := #[], methods := #[], attributes := #[] }
def lm_f0 : Method := ((layoutMethods lm_D0).bind (·[1]?)).getD default
def lm_l0 : Array Field × Array FieldType × Array FieldType := (layoutFields lm_D0 0).getD (#[], #[], #[])
theorem lm_fi0 : lm_s0.file "SwapWhile" = some lm_D0 := by
  have h : (lm_s0.file "SwapWhile").isSome = true := by decide +kernel
  obtain ⟨x, hx⟩ := Option.isSome_iff_exists.mp h
  simp [lm_D0, hx]
theorem lm_sec0 : ∀ ms, layoutMethods lm_D0 = some ms → ms[1]? = some lm_f0 := by
  intro ms hms
  have h : ((layoutMethods lm_D0).bind (·[1]?)).isSome = true := by decide +kernel
  obtain ⟨x, hx⟩ := Option.isSome_iff_exists.mp h
  have hf : lm_f0 = x := by simp [lm_f0, hx]
  rw [hms] at hx
  rw [hf]
  exact hx
theorem lm_la0 : layoutFields lm_D0 0 = some lm_l0 := by
  have h : (layoutFields lm_D0 0).isSome = true := by decide +kernel
  obtain ⟨x, hx⟩ := Option.isSome_iff_exists.mp h
  simp [lm_l0, hx]
theorem lm_co0 : (lm_f0.code.map fun c => (c.code.data, c.maxLocals)) = some (lm_B.data, 2) := by decide +kernel
theorem lm_fl0 : (lm_f0.accessFlags, lm_f0.name, lm_f0.sig.returnType) = (0x0001, "holds", (some .boolean : Option FieldType)) := by decide +kernel
theorem lm_eM0 : lm_D0.constantPool[31]? = some (.methodref 27 30) ∧ lm_D0.constantPool.className? 27 = some "SwapWhile" ∧ lm_D0.constantPool.nameAndType? 30 = some ("lambda$countAgainst$0", "(ILSwapWhile$Change;LSwapWhile$Frame;)Z") := by decide +kernel
theorem lm_eC0 : lm_D0.constantPool[27]? = some (.class_ 26) ∧ lm_D0.constantPool.string? 26 = some "SwapWhile" ∧ 27 ≠ lm_D0.thisClass := by decide +kernel
theorem lm_eF00 : lm_D0.constantPool[19]? = some (.fieldref 2 18) ∧ lm_D0.constantPool.nameAndType? 18 = some ("arg$1", "LSwapWhile;") ∧ lm_l0.1.findIdx? (·.name == "arg$1") = some 0 ∧ (lm_l0.1[0]?).map (fun f => (f.isStatic, f.slot)) = some (false, 0) := by decide +kernel
theorem lm_eF01 : lm_D0.constantPool[21]? = some (.fieldref 2 20) ∧ lm_D0.constantPool.nameAndType? 20 = some ("arg$2", "I") ∧ lm_l0.1.findIdx? (·.name == "arg$2") = some 1 ∧ (lm_l0.1[1]?).map (fun f => (f.isStatic, f.slot)) = some (false, 1) := by decide +kernel
theorem lm_eF02 : lm_D0.constantPool[23]? = some (.fieldref 2 22) ∧ lm_D0.constantPool.nameAndType? 22 = some ("arg$3", "LSwapWhile$Change;") ∧ lm_l0.1.findIdx? (·.name == "arg$3") = some 2 ∧ (lm_l0.1[2]?).map (fun f => (f.isStatic, f.slot)) = some (false, 2) := by decide +kernel
theorem lm_ty0 : lm_l0.2.1 = #[.object "SwapWhile", FieldType.int, .object "SwapWhile$Change"] := by decide +kernel
theorem lm_de0 : lm_s0.implDesc.toString = "(ILSwapWhile$Change;LSwapWhile$Frame;)Z" := by decide +kernel

def lm_s1 : Jvm.Lambda.Shape := { iface := "SwapWhile$FrameTest", name := "holds", sam := { parameters := [(.object "SwapWhile$Frame")], returnType := some .boolean }, captured := [(.object "SwapWhile"), (FieldType.object "SwapWhile$FrameTest"), (.object "SwapWhile$Change")], kind := 5, implClass := "SwapWhile", implName := "lambda$countAgainst$1", implDesc := { parameters := [(FieldType.object "SwapWhile$FrameTest"), (.object "SwapWhile$Change"), (.object "SwapWhile$Frame")], returnType := some .boolean }, implItf := false, inst := { parameters := [(.object "SwapWhile$Frame")], returnType := some .boolean } }
theorem lm_w1 : siteWord_1_2 = Cond.lambdaSite yX1_countAgainst 50 232 lm_s1 := rfl
theorem lm_in1 : siteWord_1_2 ∈ flatC (Jvm.Cond.and given_1 narrow_1) := by decide +kernel
def lm_D1 : ClassFile := (lm_s1.file "SwapWhile").getD { minorVersion := 0, majorVersion := 0, constantPool := #[], accessFlags := 0, thisClass := 0, superClass := 0, interfaces := #[], fields := #[], methods := #[], attributes := #[] }
def lm_f1 : Method := ((layoutMethods lm_D1).bind (·[1]?)).getD default
def lm_l1 : Array Field × Array FieldType × Array FieldType := (layoutFields lm_D1 0).getD (#[], #[], #[])
theorem lm_fi1 : lm_s1.file "SwapWhile" = some lm_D1 := by
  have h : (lm_s1.file "SwapWhile").isSome = true := by decide +kernel
  obtain ⟨x, hx⟩ := Option.isSome_iff_exists.mp h
  simp [lm_D1, hx]
theorem lm_sec1 : ∀ ms, layoutMethods lm_D1 = some ms → ms[1]? = some lm_f1 := by
  intro ms hms
  have h : ((layoutMethods lm_D1).bind (·[1]?)).isSome = true := by decide +kernel
  obtain ⟨x, hx⟩ := Option.isSome_iff_exists.mp h
  have hf : lm_f1 = x := by simp [lm_f1, hx]
  rw [hms] at hx
  rw [hf]
  exact hx
theorem lm_la1 : layoutFields lm_D1 0 = some lm_l1 := by
  have h : (layoutFields lm_D1 0).isSome = true := by decide +kernel
  obtain ⟨x, hx⟩ := Option.isSome_iff_exists.mp h
  simp [lm_l1, hx]
theorem lm_co1 : (lm_f1.code.map fun c => (c.code.data, c.maxLocals)) = some (lm_B.data, 2) := by decide +kernel
theorem lm_fl1 : (lm_f1.accessFlags, lm_f1.name, lm_f1.sig.returnType) = (0x0001, "holds", (some .boolean : Option FieldType)) := by decide +kernel
theorem lm_eM1 : lm_D1.constantPool[31]? = some (.methodref 27 30) ∧ lm_D1.constantPool.className? 27 = some "SwapWhile" ∧ lm_D1.constantPool.nameAndType? 30 = some ("lambda$countAgainst$1", "(LSwapWhile$FrameTest;LSwapWhile$Change;LSwapWhile$Frame;)Z") := by decide +kernel
theorem lm_eC1 : lm_D1.constantPool[27]? = some (.class_ 26) ∧ lm_D1.constantPool.string? 26 = some "SwapWhile" ∧ 27 ≠ lm_D1.thisClass := by decide +kernel
theorem lm_eF10 : lm_D1.constantPool[19]? = some (.fieldref 2 18) ∧ lm_D1.constantPool.nameAndType? 18 = some ("arg$1", "LSwapWhile;") ∧ lm_l1.1.findIdx? (·.name == "arg$1") = some 0 ∧ (lm_l1.1[0]?).map (fun f => (f.isStatic, f.slot)) = some (false, 0) := by decide +kernel
theorem lm_eF11 : lm_D1.constantPool[21]? = some (.fieldref 2 20) ∧ lm_D1.constantPool.nameAndType? 20 = some ("arg$2", "LSwapWhile$FrameTest;") ∧ lm_l1.1.findIdx? (·.name == "arg$2") = some 1 ∧ (lm_l1.1[1]?).map (fun f => (f.isStatic, f.slot)) = some (false, 1) := by decide +kernel
theorem lm_eF12 : lm_D1.constantPool[23]? = some (.fieldref 2 22) ∧ lm_D1.constantPool.nameAndType? 22 = some ("arg$3", "LSwapWhile$Change;") ∧ lm_l1.1.findIdx? (·.name == "arg$3") = some 2 ∧ (lm_l1.1[2]?).map (fun f => (f.isStatic, f.slot)) = some (false, 2) := by decide +kernel
theorem lm_ty1 : lm_l1.2.1 = #[.object "SwapWhile", (FieldType.object "SwapWhile$FrameTest"), .object "SwapWhile$Change"] := by decide +kernel
theorem lm_de1 : lm_s1.implDesc.toString = "(LSwapWhile$FrameTest;LSwapWhile$Change;LSwapWhile$Frame;)Z" := by decide +kernel

theorem lm_sam : (lm_s0.sam.toString = "(LSwapWhile$Frame;)Z" ∧ lm_s1.sam.toString = "(LSwapWhile$Frame;)Z") := by decide +kernel
/-- what a made class of the shape q has, at a world U -/
def lm_F (nm de : String) (mty : FieldType) (U : State) (cK : ClassId) : Prop :=
  ∃ (k tk : Class) (file : ClassFile) (methk : Method) (ck : Code) (toy : ClassId) (t : MethodId) (g0 g1 g2 : Field),
    U.vm.classes[cK]? = some k ∧ k.name = "SwapWhile$$Lambda" ∧ k.cf = some file ∧ file.constantPool[31]? = some (.methodref 27 30) ∧
    U.vm.method? ⟨cK, 1⟩ = some methk ∧ methk.code = some ck ∧ ck.code = lm_B ∧ ck.maxLocals = 2 ∧ methk.locks = false ∧ methk.accessFlags = 0x0001 ∧ methk.sig.returnType = some .boolean ∧
    U.vm.findClass "SwapWhile" = some toy ∧ U.vm.classes[toy]? = some tk ∧ tk.isInterface = false ∧ ((methodIn toy nm de tk.isInterface none).ask { classPath := fun _ => none } U.vm).1 = .ok t ∧
    U.vm.methodReady cK 31 t ∧ U.vm.classReady cK 27 toy ∧ (U.vm.fieldReady cK 19 cK g0 ∧ g0.isStatic = false ∧ g0.slot = 0) ∧ (U.vm.fieldReady cK 21 cK g1 ∧ g1.isStatic = false ∧ g1.slot = 1) ∧ (U.vm.fieldReady cK 23 cK g2 ∧ g2.isStatic = false ∧ g2.slot = 2) ∧
    k.instanceTypes = #[.object "SwapWhile", mty, .object "SwapWhile$Change"] ∧ k.kind = .ordinary

theorem lm_mf0 {U : State} {d c : ClassId} {dk : Class} (hd : U.vm.classes[d]? = some dk) (hname : dk.name = "SwapWhile") (h : Jvm.Lambda.isMade { classPath := fun _ => none } U.vm d lm_s0 c = true)
    (hO : ∀ o ok, U.vm.findClass "java/lang/Object" = some o → U.vm.classes[o]? = some ok → ok.instanceTypes.size = 0) : lm_F "lambda$countAgainst$0" "(ILSwapWhile$Change;LSwapWhile$Frame;)Z" FieldType.int U c := by
  obtain ⟨dk', k, ok, tk, file, cf, object, iface, toy, lay, methods, target, found, hd', hk, hfile, hcf, hobj, -, hok, hlay, hms, ht, htk, hg, -, hrec, -, -, -, hitf, hpool, hmeth, hfields, hty, hres, -⟩ := Jvm.Lambda.isMade_spec h
  cases hd.symm.trans hd'
  rw [hname, lm_fi0] at hcf
  cases hcf
  have hok0 : ok.instanceTypes = #[] := Array.eq_empty_of_size_eq_zero (hO object ok hobj hok)
  rw [hO object ok hobj hok, lm_la0] at hlay
  cases hlay
  obtain ⟨b, hb, hsame⟩ := hmeth 1 lm_f0 (lm_sec0 methods hms)
  simp only [Jvm.Lambda.sameMethod, Bool.and_eq_true, decide_eq_true_eq] at hsame
  obtain ⟨⟨hn, -, hsig, hfl⟩, hcode⟩ := hsame
  have fc := lm_co0
  have ff := lm_fl0
  simp only [Prod.mk.injEq] at ff
  obtain ⟨g0, hg0, hp0⟩ := Option.map_eq_some_iff.mp lm_eF00.2.2.2
  obtain ⟨g1, hg1, hp1⟩ := Option.map_eq_some_iff.mp lm_eF01.2.2.2
  obtain ⟨g2, hg2, hp2⟩ := Option.map_eq_some_iff.mp lm_eF02.2.2.2
  simp only [Prod.mk.injEq] at hp0 hp1 hp2
  have hl : ((methodIn toy "lambda$countAgainst$0" "(ILSwapWhile$Change;LSwapWhile$Frame;)Z" tk.isInterface none).ask { classPath := fun _ => none } U.vm).1 = .ok target := by rw [← lm_de0]; exact hg
  cases hfc : lm_f0.code with
  | none => rw [hfc] at fc; cases fc
  | some x =>
    cases hbc : b.code with
    | none => simp [hfc, hbc] at hcode
    | some y =>
      simp only [hfc, hbc, Bool.and_eq_true, decide_eq_true_eq] at hcode
      simp only [hfc, Option.map_some, Option.some.injEq, Prod.mk.injEq] at fc
      refine ⟨k, tk, file, b, y, toy, target, g0, g1, g2, hk, by rw [hrec.1, hname]; rfl, hfile, by rw [hpool.2.1]; exact lm_eM0.1, by simp [Vm.method?, hk, hb], hbc, ?_, by rw [← hcode.1.1.1.1.2.1]; exact fc.2, ?_, by rw [← hfl]; exact ff.1, by rw [← hsig]; exact ff.2.2, ht, htk, hitf, hl,
        ⟨k, hk, hres 31 _ (Jvm.Lambda.resolvedOf_method lm_eM0.1 lm_eM0.2.1 ht htk lm_eM0.2.2 hl)⟩, ⟨k, hk, hres 27 _ (Jvm.Lambda.resolvedOf_class lm_eC0.1 lm_eC0.2.2 lm_eC0.2.1 ht)⟩,
        ⟨⟨k, 0, k, hk, hres 19 _ (Jvm.Lambda.resolvedOf_field lm_eF00.1 lm_eF00.2.1 lm_eF00.2.2.1), hk, hfields 0 _ hg0⟩, hp0.1, hp0.2⟩,
        ⟨⟨k, 1, k, hk, hres 21 _ (Jvm.Lambda.resolvedOf_field lm_eF01.1 lm_eF01.2.1 lm_eF01.2.2.1), hk, hfields 1 _ hg1⟩, hp1.1, hp1.2⟩,
        ⟨⟨k, 2, k, hk, hres 23 _ (Jvm.Lambda.resolvedOf_field lm_eF02.1 lm_eF02.2.1 lm_eF02.2.2.1), hk, hfields 2 _ hg2⟩, hp2.1, hp2.2⟩, by rw [hty.1, hok0, lm_ty0]; rfl, hrec.2.1⟩
      · rw [← hcode.1.1.1.1.2.2]
        exact ByteArray.ext fc.1
      · simp [Method.locks, Method.isSynchronized, ← hfl, ff.1, hasFlag, Acc.synchronized]

theorem lm_mf1 {U : State} {d c : ClassId} {dk : Class} (hd : U.vm.classes[d]? = some dk) (hname : dk.name = "SwapWhile") (h : Jvm.Lambda.isMade { classPath := fun _ => none } U.vm d lm_s1 c = true)
    (hO : ∀ o ok, U.vm.findClass "java/lang/Object" = some o → U.vm.classes[o]? = some ok → ok.instanceTypes.size = 0) : lm_F "lambda$countAgainst$1" "(LSwapWhile$FrameTest;LSwapWhile$Change;LSwapWhile$Frame;)Z" (FieldType.object "SwapWhile$FrameTest") U c := by
  obtain ⟨dk', k, ok, tk, file, cf, object, iface, toy, lay, methods, target, found, hd', hk, hfile, hcf, hobj, -, hok, hlay, hms, ht, htk, hg, -, hrec, -, -, -, hitf, hpool, hmeth, hfields, hty, hres, -⟩ := Jvm.Lambda.isMade_spec h
  cases hd.symm.trans hd'
  rw [hname, lm_fi1] at hcf
  cases hcf
  have hok0 : ok.instanceTypes = #[] := Array.eq_empty_of_size_eq_zero (hO object ok hobj hok)
  rw [hO object ok hobj hok, lm_la1] at hlay
  cases hlay
  obtain ⟨b, hb, hsame⟩ := hmeth 1 lm_f1 (lm_sec1 methods hms)
  simp only [Jvm.Lambda.sameMethod, Bool.and_eq_true, decide_eq_true_eq] at hsame
  obtain ⟨⟨hn, -, hsig, hfl⟩, hcode⟩ := hsame
  have fc := lm_co1
  have ff := lm_fl1
  simp only [Prod.mk.injEq] at ff
  obtain ⟨g0, hg0, hp0⟩ := Option.map_eq_some_iff.mp lm_eF10.2.2.2
  obtain ⟨g1, hg1, hp1⟩ := Option.map_eq_some_iff.mp lm_eF11.2.2.2
  obtain ⟨g2, hg2, hp2⟩ := Option.map_eq_some_iff.mp lm_eF12.2.2.2
  simp only [Prod.mk.injEq] at hp0 hp1 hp2
  have hl : ((methodIn toy "lambda$countAgainst$1" "(LSwapWhile$FrameTest;LSwapWhile$Change;LSwapWhile$Frame;)Z" tk.isInterface none).ask { classPath := fun _ => none } U.vm).1 = .ok target := by rw [← lm_de1]; exact hg
  cases hfc : lm_f1.code with
  | none => rw [hfc] at fc; cases fc
  | some x =>
    cases hbc : b.code with
    | none => simp [hfc, hbc] at hcode
    | some y =>
      simp only [hfc, hbc, Bool.and_eq_true, decide_eq_true_eq] at hcode
      simp only [hfc, Option.map_some, Option.some.injEq, Prod.mk.injEq] at fc
      refine ⟨k, tk, file, b, y, toy, target, g0, g1, g2, hk, by rw [hrec.1, hname]; rfl, hfile, by rw [hpool.2.1]; exact lm_eM1.1, by simp [Vm.method?, hk, hb], hbc, ?_, by rw [← hcode.1.1.1.1.2.1]; exact fc.2, ?_, by rw [← hfl]; exact ff.1, by rw [← hsig]; exact ff.2.2, ht, htk, hitf, hl,
        ⟨k, hk, hres 31 _ (Jvm.Lambda.resolvedOf_method lm_eM1.1 lm_eM1.2.1 ht htk lm_eM1.2.2 hl)⟩, ⟨k, hk, hres 27 _ (Jvm.Lambda.resolvedOf_class lm_eC1.1 lm_eC1.2.2 lm_eC1.2.1 ht)⟩,
        ⟨⟨k, 0, k, hk, hres 19 _ (Jvm.Lambda.resolvedOf_field lm_eF10.1 lm_eF10.2.1 lm_eF10.2.2.1), hk, hfields 0 _ hg0⟩, hp0.1, hp0.2⟩,
        ⟨⟨k, 1, k, hk, hres 21 _ (Jvm.Lambda.resolvedOf_field lm_eF11.1 lm_eF11.2.1 lm_eF11.2.2.1), hk, hfields 1 _ hg1⟩, hp1.1, hp1.2⟩,
        ⟨⟨k, 2, k, hk, hres 23 _ (Jvm.Lambda.resolvedOf_field lm_eF12.1 lm_eF12.2.1 lm_eF12.2.2.1), hk, hfields 2 _ hg2⟩, hp2.1, hp2.2⟩, by rw [hty.1, hok0, lm_ty1]; rfl, hrec.2.1⟩
      · rw [← hcode.1.1.1.1.2.2]
        exact ByteArray.ext fc.1
      · simp [Method.locks, Method.isSynchronized, ← hfl, ff.1, hasFlag, Acc.synchronized]
