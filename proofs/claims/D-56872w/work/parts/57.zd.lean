/-! ROWS OVER LAMBDA OBJECTS. The proofs follow the library's shapeOf?_site and B4 (Shelf42/NT82.lean), Stand.through, getfieldR, virtualR, ireturnOut (F8a, F8b, F8b2), VirtualAt.of_made (F8h), cap2p1VV (F17a). -/
section LMS
variable {α : Type}
theorem lm_i19 {x : Option CpInfo} {f : Nat → Nat → Option α} {r : α} (h : Jvm.Lambda.shapeOf?.match_19 (fun _ => Option α) x f (fun _ => none) = some r) : ∃ b nt, x = some (.invokeDynamic b nt) ∧ f b nt = some r := by
  split at h
  · exact ⟨_, _, rfl, h⟩
  · cases h
theorem lm_i17 {x : Option CpInfo} {f : Nat → Option α} {r : α} (h : Jvm.Lambda.shapeOf?.match_17 (fun _ => Option α) x f (fun _ => none) = some r) : ∃ y, f y = some r := by
  split at h
  · exact ⟨_, h⟩
  · cases h
theorem lm_i15 {x : Array Nat} {f : Nat → Nat → Nat → Option α} {r : α} (h : Jvm.Lambda.shapeOf?.match_15 (fun _ => Option α) x f (fun _ => none) = some r) : ∃ a0 a1 a2, f a0 a1 a2 = some r := by
  rcases x with ⟨L⟩
  match L, h with
  | [], h => cases h
  | [_], h => cases h
  | [_, _], h => cases h
  | [a, b, c], h => exact ⟨a, b, c, h⟩
  | _ :: _ :: _ :: _ :: _, h => cases h
theorem lm_i9 {x : Option CpInfo} {f : Nat → Option α} {r : α} (h : Jvm.Lambda.shapeOf?.match_9 (fun _ => Option α) x f (fun _ => none) = some r) : ∃ y, f y = some r := by
  split at h
  · exact ⟨_, h⟩
  · cases h
theorem lm_i12 {x : Option CpInfo} {f : Nat → Nat → Option α} {r : α} (h : Jvm.Lambda.shapeOf?.match_12 (fun _ => Option α) x f (fun _ => none) = some r) : ∃ y z, f y z = some r := by
  split at h
  · exact ⟨_, _, h⟩
  · cases h
theorem lm_i6 {x : Option FieldType} {f : String → Option α} {r : α} (h : Jvm.Lambda.shapeOf?.match_6 (fun _ => Option α) x f (fun _ => none) = some r) : ∃ y, f y = some r := by
  split at h
  · exact ⟨_, h⟩
  · cases h
end LMS
theorem lm_site {cf : ClassFile} {index : Nat} {σ : Jvm.Lambda.Shape} (h : Jvm.Lambda.shapeOf? cf index = some σ) :
    ∃ (b nt : Nat) (desc : String) (site : MethodDescriptor), cf.constantPool[index]? = some (.invokeDynamic b nt) ∧ cf.constantPool.nameAndType? nt = some (σ.name, desc) ∧ parseMethodDescriptor desc = some site ∧ site.parameters = σ.captured := by
  unfold Jvm.Lambda.shapeOf? at h
  obtain ⟨b, nt, hc, h⟩ := lm_i19 h
  obtain ⟨entries, -, h⟩ := Option.bind_eq_some_iff.mp h
  obtain ⟨bm, -, h⟩ := Option.bind_eq_some_iff.mp h
  obtain ⟨r, h⟩ := lm_i17 h
  obtain ⟨_, -, h⟩ := Option.bind_eq_some_iff.mp h
  obtain ⟨a0, a1, a2, h⟩ := lm_i15 h
  obtain ⟨d0, h⟩ := lm_i9 h
  obtain ⟨kind, r1, h⟩ := lm_i12 h
  obtain ⟨d2, h⟩ := lm_i9 h
  obtain ⟨⟨name, desc⟩, hnt, h⟩ := Option.bind_eq_some_iff.mp h
  obtain ⟨site, hsite, h⟩ := Option.bind_eq_some_iff.mp h
  obtain ⟨iface, h⟩ := lm_i6 h
  obtain ⟨⟨implClass, implName, implDesc, implItf⟩, -, h⟩ := Option.bind_eq_some_iff.mp h
  obtain ⟨x1, -, h⟩ := Option.bind_eq_some_iff.mp h
  obtain ⟨x2, -, h⟩ := Option.bind_eq_some_iff.mp h
  obtain ⟨x3, -, h⟩ := Option.bind_eq_some_iff.mp h
  obtain ⟨x4, -, h⟩ := Option.bind_eq_some_iff.mp h
  obtain ⟨x5, -, h⟩ := Option.bind_eq_some_iff.mp h
  cases h
  exact ⟨b, nt, desc, site, hc, hnt, hsite, rfl⟩
/-- a contract whose body knows its own method -/
theorem jM.ofN {l : Launch} {y : MethodName} {cc : ByteArray} {maxL : Nat} {ret : Option FieldType} {d mc ms : Nat} {D : va_G} {s0 : State} {b0 : Nat} {A : Nat → Prop} {G : jG} {As : List Value} {post : Option Value → jG → Prop} {own : String} (hy : plainName y.cls = true) (ho : y.cls = own) (hAs : (lg_sl As).length ≤ maxL)
    (body : ∀ (p : Program) (e : Env) (s : State) (m : MethodId) (args : Array Value) (below : List Frame) (meth : Method) (c : Code), s.methodNamed? y = some m → jX D s0 b0 A p s m args c cc maxL own → meth.sig.returnType = ret → meth.locks = false → meth.name = y.name →
      Jg p l e (jR d mc ms) s m args below meth c (MQ below (jQ D A post) args s mc ms A) D A maxL G mc ms 0 (lv_args 0 As) []) : jM l y (ws_ y cc maxL ret) (jR d mc ms) D s0 b0 A G As post := by
  refine Met.ofW (cc := cc) (maxL := maxL) (ret := ret) hy rfl ?_
  intro p e s m args below meth c s₁ B hml hv
  obtain ⟨rfl, hG, hS, hA⟩ := hv
  have hts := atoms_spec (ws := ws_ y cc maxL ret) B.pre
  have hts : ∀ w ∈ lw_all, w.before _ s = true := fun w h => hts w (List.mem_cons_of_mem _ h)
  have hown : s.vm.findClass own = some m.cls := by rw [← ho]; exact findClass_of_methodNamed B.named
  have hl := lv_entry As (n := maxL) hAs
  rw [lg_entry_eq]
  generalize (lg_sl As ++ List.replicate (maxL - (lg_sl As).length) Slot.unset).toArray = ls at hl ⊢
  exact body p e s m _ below meth c B.named ⟨B.exec, B.bytes, hml, hown, hts, hS, hA⟩ B.returns B.notSynchronized (name_of_methodNamed B.named B.method).1 s.heap [] ls 0 0 hG va_S.rf hl (by show 0 + mc ≤ mc; omega) (by show 0 + ms ≤ ms; omega)
/-- the made classes -/
def jLk (s0 : State) (q : Nat) : ClassId := match (if q = 0 then s0.lambdaAt? yX1_countAgainst 27 229 lm_s0 else s0.lambdaAt? yX1_countAgainst 50 232 lm_s1) with
  | some (c, _) => c
  | none => 0
theorem lm_obj {U : State} {args : Array Value} (h : (Cond.instantiable "java/lang/Object" 0).before args U = true) : ∀ o ok, U.vm.findClass "java/lang/Object" = some o → U.vm.classes[o]? = some ok → ok.instanceTypes.size = 0 := by
  intro o ok h1 h2
  obtain ⟨c, k, g1, g2, -, -, -, g3⟩ := Cond.instantiable_spec h
  cases h1.symm.trans g1
  cases h2.symm.trans g2
  exact g3

theorem lm_at0 {D : va_G} {s0 : State} {b0 : Nat} {A : Nat → Prop} {U : State} (h : jS D s0 b0 A U) : ∃ (m : MethodId) (k : Class) (cf : ClassFile) (i0 p0 : Nat), U.methodNamed? yX1_countAgainst = some m ∧ U.vm.classes[m.cls]? = some k ∧ k.name = "SwapWhile" ∧ k.cf = some cf ∧ Jvm.Lambda.shapeOf? cf 229 = some lm_s0 ∧ (k.callSites.find? fun y => y.1 == m.idx && y.2.1 == 27) = some (i0, p0, .makes (jLk s0 0)) ∧ Jvm.Lambda.isMade { classPath := fun _ => none } U.vm m.cls lm_s0 (jLk s0 0) = true ∧ U.lambdaCallable lm_s0 (jLk s0 0) = true := by
  have hw := h.fct lm_in0
  rw [lm_w0] at hw
  obtain ⟨c, one, hat⟩ := Cond.lambdaSite_spec hw
  have hc : jLk s0 0 = c := by
    unfold jLk
    rw [if_pos rfl, hat]
  obtain ⟨m, k, cf, i0, p0, l, hm, hk, hcf, hsh, -, hfind, hmade, hcall, hl⟩ := State.lambdaAt?_spec hat
  have hl' : l = .makes c := by
    rcases hl with ⟨a, cell, -, -, z, -⟩ | ⟨z, -, -⟩
    · exact absurd z (by decide)
    · exact z
  subst hl'
  rw [hc]
  have hW := h.2.2.1
  obtain ⟨k', hk', he⟩ := hW.alike.2.2 _ _ hk
  obtain ⟨k2, hk2, hn2⟩ := className_of_methodNamed hm
  cases hk.symm.trans hk2
  have hcall' : U.lambdaCallable lm_s0 c = true := by
    have hA := hW.alike
    simp only [State.lambdaCallable, hA.findClass, hA.assignable, hA.superclasses, hA.declaredIn] at hcall ⊢
    exact hcall
  have hm' : U.methodNamed? yX1_countAgainst = some m := by
    have := State.methodNamed?_setVm (s := s0) hW.alike yX1_countAgainst
    rw [hm] at this
    exact this
  exact ⟨m, k', cf, i0, p0, hm', hk', by rw [he]; exact hn2, by rw [he]; exact hcf, hsh, by rw [he]; exact hfind, Jvm.Lambda.isMade_warmer hW hmade, hcall'⟩

theorem lm_at1 {D : va_G} {s0 : State} {b0 : Nat} {A : Nat → Prop} {U : State} (h : jS D s0 b0 A U) : ∃ (m : MethodId) (k : Class) (cf : ClassFile) (i0 p0 : Nat), U.methodNamed? yX1_countAgainst = some m ∧ U.vm.classes[m.cls]? = some k ∧ k.name = "SwapWhile" ∧ k.cf = some cf ∧ Jvm.Lambda.shapeOf? cf 232 = some lm_s1 ∧ (k.callSites.find? fun y => y.1 == m.idx && y.2.1 == 50) = some (i0, p0, .makes (jLk s0 1)) ∧ Jvm.Lambda.isMade { classPath := fun _ => none } U.vm m.cls lm_s1 (jLk s0 1) = true ∧ U.lambdaCallable lm_s1 (jLk s0 1) = true := by
  have hw := h.fct lm_in1
  rw [lm_w1] at hw
  obtain ⟨c, one, hat⟩ := Cond.lambdaSite_spec hw
  have hc : jLk s0 1 = c := by
    unfold jLk
    rw [if_neg (by decide), hat]
  obtain ⟨m, k, cf, i0, p0, l, hm, hk, hcf, hsh, -, hfind, hmade, hcall, hl⟩ := State.lambdaAt?_spec hat
  have hl' : l = .makes c := by
    rcases hl with ⟨a, cell, -, -, z, -⟩ | ⟨z, -, -⟩
    · exact absurd z (by decide)
    · exact z
  subst hl'
  rw [hc]
  have hW := h.2.2.1
  obtain ⟨k', hk', he⟩ := hW.alike.2.2 _ _ hk
  obtain ⟨k2, hk2, hn2⟩ := className_of_methodNamed hm
  cases hk.symm.trans hk2
  have hcall' : U.lambdaCallable lm_s1 c = true := by
    have hA := hW.alike
    simp only [State.lambdaCallable, hA.findClass, hA.assignable, hA.superclasses, hA.declaredIn] at hcall ⊢
    exact hcall
  have hm' : U.methodNamed? yX1_countAgainst = some m := by
    have := State.methodNamed?_setVm (s := s0) hW.alike yX1_countAgainst
    rw [hm] at this
    exact this
  exact ⟨m, k', cf, i0, p0, hm', hk', by rw [he]; exact hn2, by rw [he]; exact hcf, hsh, by rw [he]; exact hfind, Jvm.Lambda.isMade_warmer hW hmade, hcall'⟩

section LMR
variable {p : Program} {l : Launch} {e : Env} {R : Room} {s : State} {m : MethodId} {args : Array Value} {below : List Frame} {meth : Method} {c : Code} {Q : State → Prop} {D : va_G} {s0 : State} {b0 : Nat} {A : Nat → Prop} {cc : ByteArray} {nL : Nat} {own : String} {G : jG} {bc bs pc : Nat} {lv : List (Nat × Value)} {st : List Value}

theorem jr_indy0 (hX : jX D s0 b0 A p s m args c cc nL own) (hnm : s.methodNamed? yX1_countAgainst = some m) {x ch bc1 bs1 : Nat} {v : Int32} {rest : List Value} (hbc : bc1 + 1 ≤ bc) (hbs : bs1 + 3 ≤ bs) (hR : 3100 ≤ R.locals) (hw : (rest.map fun v => v.category).sum ≤ 8) (d : decode cc 27 = .ok (.invokedynamic 229, 5))
    (kk : ∀ q : Nat, G q = none → A q → Jg p l e R s m args below meth c Q D A nL (jup G q (.inr (jLk s0 0, [.ref x, .int v, .ref ch]))) bc1 bs1 (27 + 5) lv (.ref q :: rest)) : Jg p l e R s m args below meth c Q D A nL G bc bs 27 lv (.ref ch :: .int v :: .ref x :: rest) := by
  intro H locs ls cells slots hG hS hl hc hs T hT X
  obtain ⟨m', kS, cfS, i0, p0, hm', hkS, hnS, hcfS, hshape, hfind, hmade, -⟩ := lm_at0 hX.S
  cases hnm.symm.trans hm'
  obtain ⟨kK, tk, file, methk, ck, toy, t9, g0, g1, g2, hkK, -, -, -, -, -, -, -, -, -, -, -, -, -, -, -, -, -, -, -, htyK, hkindK⟩ := lm_mf0 hkS hnS hmade (lm_obj (hX.ts _ q2288))
  obtain ⟨bsm, nt, desc, site, hcp, hnt, hsite, hpar⟩ := lm_site hshape
  have hslotsE : ((kK.instanceTypes.toList.zip [(.ref x : Value), .int v, .ref ch]).map fun (t, v) => narrow t v) = [.ref x, .int v, .ref ch] := by
    rw [htyK]
    simp [narrow]
  obtain ⟨X₁, st1⟩ := X.lambdaMakes hX.1 (g := F0 m 27 ls (.ref ch :: .int v :: .ref x :: rest)) rfl (hl.1.trans hX.2.2.1.symm) (by rw [hX.2.1]; exact d) (vals := [.ref x, .int v, .ref ch]) (rest := rest)
    hkS hfind hcfS hcp hnt (parseLong_of_parse hsite) (by rw [hpar]; rfl) rfl hkK
    (by
      rw [X.admits.platform]
      show 2 * 0 + (1 + (1 + (1 + (rest.map fun v => v.category).sum))) + 3072 ≤ R.locals
      omega) (by omega) (by rw [hslotsE]; show slots + 3 ≤ R.slots; omega)
    (fun i w hv => by
      rw [hslotsE] at hv
      match i, hv with
      | 0, hv => simp at hv; subst hv; simp [State.fitsSlot, State.slotType?, hkK, hkindK, htyK, fits]
      | 1, hv => simp at hv; subst hv; simp [State.fitsSlot, State.slotType?, hkK, hkindK, htyK, fits]
      | 2, hv => simp at hv; subst hv; simp [State.fitsSlot, State.slotType?, hkK, hkindK, htyK, fits]
      | k + 3, hv => simp at hv)
  rw [hslotsE] at X₁ st1
  have hnew : (T.pushCell { cls := jLk s0 0, slots := [.ref x, .int v, .ref ch].toArray, vm := .none }).heap[T.heap.size]? = some { cls := jLk s0 0, slots := [.ref x, .int v, .ref ch].toArray, vm := .none } := State.heap_pushCell_size _ _
  have hold : ∀ q : Nat, q < T.heap.size → (T.pushCell { cls := jLk s0 0, slots := [.ref x, .int v, .ref ch].toArray, vm := .none }).heap[q]? = T.heap[q]? := fun q hq => State.heap_pushCell_of_lt _ _ hq
  have hsz : T.heap.size ≤ (T.pushCell { cls := jLk s0 0, slots := [.ref x, .int v, .ref ch].toArray, vm := .none }).heap.size := by
    have := (Array.getElem?_eq_some_iff.mp hnew).1
    omega
  generalize T.pushCell { cls := jLk s0 0, slots := [.ref x, .int v, .ref ch].toArray, vm := .none } = T1 at X₁ st1 hnew hold hsz
  subst hT
  have hA : A T.heap.size := hX.2.2.2.2.2.2 _ hS.1
  obtain ⟨t, a1, b1⟩ := kk T.heap.size hG.fresh hA T1.heap locs ls (cells + 1) (slots + 3) (hG.push hA hnew hold) (jS_push hS hsz hold) hl (by omega) (by omega) T1 rfl X₁
  exact ⟨t, st1 t a1, b1⟩

theorem jr_indy1 (hX : jX D s0 b0 A p s m args c cc nL own) (hnm : s.methodNamed? yX1_countAgainst = some m) {x ch bc1 bs1 : Nat} {v : Nat} {rest : List Value} (hbc : bc1 + 1 ≤ bc) (hbs : bs1 + 3 ≤ bs) (hR : 3100 ≤ R.locals) (hw : (rest.map fun v => v.category).sum ≤ 8) (d : decode cc 50 = .ok (.invokedynamic 232, 5))
    (kk : ∀ q : Nat, G q = none → A q → Jg p l e R s m args below meth c Q D A nL (jup G q (.inr (jLk s0 1, [.ref x, .ref v, .ref ch]))) bc1 bs1 (50 + 5) lv (.ref q :: rest)) : Jg p l e R s m args below meth c Q D A nL G bc bs 50 lv (.ref ch :: .ref v :: .ref x :: rest) := by
  intro H locs ls cells slots hG hS hl hc hs T hT X
  obtain ⟨m', kS, cfS, i0, p0, hm', hkS, hnS, hcfS, hshape, hfind, hmade, -⟩ := lm_at1 hX.S
  cases hnm.symm.trans hm'
  obtain ⟨kK, tk, file, methk, ck, toy, t9, g0, g1, g2, hkK, -, -, -, -, -, -, -, -, -, -, -, -, -, -, -, -, -, -, -, htyK, hkindK⟩ := lm_mf1 hkS hnS hmade (lm_obj (hX.ts _ q2288))
  obtain ⟨bsm, nt, desc, site, hcp, hnt, hsite, hpar⟩ := lm_site hshape
  have hslotsE : ((kK.instanceTypes.toList.zip [(.ref x : Value), .ref v, .ref ch]).map fun (t, v) => narrow t v) = [.ref x, .ref v, .ref ch] := by
    rw [htyK]
    simp [narrow]
  obtain ⟨X₁, st1⟩ := X.lambdaMakes hX.1 (g := F0 m 50 ls (.ref ch :: .ref v :: .ref x :: rest)) rfl (hl.1.trans hX.2.2.1.symm) (by rw [hX.2.1]; exact d) (vals := [.ref x, .ref v, .ref ch]) (rest := rest)
    hkS hfind hcfS hcp hnt (parseLong_of_parse hsite) (by rw [hpar]; rfl) rfl hkK
    (by
      rw [X.admits.platform]
      show 2 * 0 + (1 + (1 + (1 + (rest.map fun v => v.category).sum))) + 3072 ≤ R.locals
      omega) (by omega) (by rw [hslotsE]; show slots + 3 ≤ R.slots; omega)
    (fun i w hv => by
      rw [hslotsE] at hv
      match i, hv with
      | 0, hv => simp at hv; subst hv; simp [State.fitsSlot, State.slotType?, hkK, hkindK, htyK, fits]
      | 1, hv => simp at hv; subst hv; simp [State.fitsSlot, State.slotType?, hkK, hkindK, htyK, fits]
      | 2, hv => simp at hv; subst hv; simp [State.fitsSlot, State.slotType?, hkK, hkindK, htyK, fits]
      | k + 3, hv => simp at hv)
  rw [hslotsE] at X₁ st1
  have hnew : (T.pushCell { cls := jLk s0 1, slots := [.ref x, .ref v, .ref ch].toArray, vm := .none }).heap[T.heap.size]? = some { cls := jLk s0 1, slots := [.ref x, .ref v, .ref ch].toArray, vm := .none } := State.heap_pushCell_size _ _
  have hold : ∀ q : Nat, q < T.heap.size → (T.pushCell { cls := jLk s0 1, slots := [.ref x, .ref v, .ref ch].toArray, vm := .none }).heap[q]? = T.heap[q]? := fun q hq => State.heap_pushCell_of_lt _ _ hq
  have hsz : T.heap.size ≤ (T.pushCell { cls := jLk s0 1, slots := [.ref x, .ref v, .ref ch].toArray, vm := .none }).heap.size := by
    have := (Array.getElem?_eq_some_iff.mp hnew).1
    omega
  generalize T.pushCell { cls := jLk s0 1, slots := [.ref x, .ref v, .ref ch].toArray, vm := .none } = T1 at X₁ st1 hnew hold hsz
  subst hT
  have hA : A T.heap.size := hX.2.2.2.2.2.2 _ hS.1
  obtain ⟨t, a1, b1⟩ := kk T.heap.size hG.fresh hA T1.heap locs ls (cells + 1) (slots + 3) (hG.push hA hnew hold) (jS_push hS hsz hold) hl (by omega) (by omega) T1 rfl X₁
  exact ⟨t, st1 t a1, b1⟩

end LMR
/-- FrameTest.holds -/
def lm_x : MethodName := ⟨"SwapWhile$FrameTest", "holds", "(LSwapWhile$Frame;)Z"⟩
/-- the object at a answers r for the frame fr: any walk over a heap that has more than G goes on behind a call of 'holds' -/
def jHd (l : Launch) (D : va_G) (s0 : State) (b0 : Nat) (A : Nat → Prop) (d mc ms : Nat) (G : jG) (a fr : Nat) (r : Bool) : Prop :=
  ∀ (p : Program) (e : Env) (R : Room) (s : State) (m : MethodId) (args : Array Value) (below : List Frame) (meth : Method) (c : Code) (Q : State → Prop) (cc : ByteArray) (nL : Nat) (own : String) (bc bs bc1 bs1 pc index count : Nat) (lv : List (Nat × Value)) (rest : List Value),
    jX D s0 b0 A p s m args c cc nL own → Cond.methodLink own index lm_x ∈ lw_all → d + 2 ≤ R.frames → 3240 + 40 * d ≤ R.locals → (rest.map fun v => v.category).sum ≤ 8 → decode cc pc = .ok (.invokeinterface index count, 5) → bc1 + mc ≤ bc → bs1 + ms ≤ bs →
    (∀ G1 : jG, jNw G G1 → Jg p l e R s m args below meth c Q D A nL G1 bc1 bs1 (pc + 5) lv (.int (jbz r) :: rest)) → Jg p l e R s m args below meth c Q D A nL G bc bs pc lv (.ref fr :: .ref a :: rest)
theorem jS.ifc {D : va_G} {s0 : State} {b0 : Nat} {A : Nat → Prop} {U : State} (h : jS D s0 b0 A U) {x : MethodName} (hx : x.cls ≠ "java/lang/invoke/MethodHandle" ∧ x.cls ≠ "java/lang/invoke/VarHandle") (h1 : Cond.declares x ∈ lw_tbl) (h2 : Cond.interfaceMethod x.cls x.cls x.name x.desc ∈ lw_tbl) (a : Array Value) : (Cond.declares x).before a U = true ∧ (Cond.interfaceMethod x.cls x.cls x.name x.desc).before a U = true := by
  have w1 := h.1 _ h1
  have w2 := h.1 _ h2
  have hvm := h.2.2.1.alike
  obtain ⟨r, meth, hn, -⟩ := Cond.declares_spec w1
  have tr : ∀ {c : Cond}, c.onTables = true → c.before #[Value.ref b0] (s0.setVm U.vm) = true → c.before a U = true := by
    intro c hc h
    have e := Cond.onTables_vm (A := #[Value.ref b0]) (A' := a) (U := s0) (U' := U) U.vm c hc
    have hU : U.setVm U.vm = U := rfl
    rw [hU] at e
    rw [← e]
    exact h
  exact ⟨tr rfl (by rw [Cond.declares_setVm hvm]; exact w1), tr rfl (by rw [Cond.interfaceMethod_setVm hvm (r := r) hn hx]; exact w2)⟩
section LMT
variable {p : Program} {l : Launch} {e : Env} {R : Room} {s : State} {m : MethodId} {args : Array Value} {below : List Frame} {meth : Method} {c : Code} {T : State} {locs : List Loc} {cells slots : Nat}
/-- a field of the made class's object -/
theorem lm_get (Y : Stand p l e R s m args below meth c T locs cells slots) (hexec : p.tables.exec = Jvm.exec) {g : JFrame} (hg : g.method = m) {index cF a : Nat} {field : Field} {cell : Cell} {v : Value} {rest : List Value}
    (hr : T.vm.fieldReady m.cls index cF field) (hst : field.isStatic = false) (hstack : g.stack = .ref a :: rest) (hcell : T.heap[a]? = some cell) (hknown : cell.vm ≠ .unknown) (hv : cell.slots[field.slot]? = some v)
    (hdg : decode c.code g.pc = .ok (.getfield index, 3)) {s₀ : State} (come : Steps p.tables e below s₀ (T.setTop g)) : Steps p.tables e below s₀ (T.setTop { g with pc := g.pc + 3, stack := v :: rest }) := by
  subst hg
  refine come.trans ?_
  jvm_step Y.here [hexec, hdg, getfield.wp_ready (e := e) (s := T) (c := cF) (field := field) (a := a) (rest := rest) (cell := cell) (v := v) (f := g) Y.here.top hr hst hstack hcell hknown hv]
  exact Steps.refl _
theorem lm_virt (Y : Stand p l e R s m args below meth c T locs cells slots) (hexec : p.tables.exec = Jvm.exec) {g : JFrame} (hg : g.method = m) (hsize : g.locals.size = c.maxLocals) {index a : Nat} {y : MethodName} {r t : MethodId} {kr kt : Class} {methr metht : Method}
    {cell : Cell} {argsL rest : List Value} (hnc : namesAClass T m.cls index) (hr : T.vm.methodReady m.cls index r) (hkr : T.vm.classes[r.cls]? = some kr) (hmr : T.vm.method? r = some methr) (hpoly : signaturePolymorphic kr methr = false)
    (hstatic : methr.isStatic = false) (hlen : argsL.length = methr.sig.parameters.length) (hstack : g.stack = argsL.reverse ++ .ref a :: rest) (hcell : T.heap[a]? = some cell) (hobj : ∀ q, cell.vm ≠ .statics q)
    (hsel : selectMethod e.platform T.vm cell.cls r = .method t) (hmt : T.vm.method? t = some metht) (habs : metht.isAbstract = false) (hkt : T.vm.classes[t.cls]? = some kt) (hitf : kt.isInterface = false) (hnamed : T.methodNamed? y = some t)
    {W : Nat} {Pre : Pt → Array Value → Prop} {Post : Pt → Array Value → Option Value → Pt → Prop} (hK : Back l R p e below s args y 3 W Pre Post) (hW : 2 * g.monitorRoom + (rest.map fun v => v.category).sum ≤ W)
    (hpre : Pre ⟨T, locs, cells, slots⟩ (.ref a :: argsL).toArray) (hdg : decode c.code g.pc = .ok (.invokevirtual index, 3)) {s₀ : State} (come : Steps p.tables e below s₀ (T.setTop g)) :
    ∃ (v : Option Value) (B : Pt), Stand p l e R s m args below meth c B.U B.locs B.cells B.slots ∧ Post ⟨T, locs, cells, slots⟩ (.ref a :: argsL).toArray v B ∧ Steps p.tables e below s₀ (B.U.setTop { g with pc := g.pc + 3, stack := v.toList ++ rest }) := by
  subst hg
  obtain ⟨v, B, Y', hpost, hsteps⟩ := hK g.method meth c ⟨T, locs, cells, slots⟩ { g with stack := rest } (.invokevirtual index) t (.ref a :: argsL).toArray Y rfl hsize hdg hW hnamed hpre
  refine ⟨v, B, Y', hpost, (come.trans ?_).trans hsteps⟩
  jvm_step Y.here [hexec, hdg, invokevirtual.wp_ready (e := e) (s := T) (r := r) (m := t) (k := kr) (mk := kt) (rmeth := methr) (meth := metht) (a := a) (args := argsL) (rest := rest) (cell := cell) (f := g) Y.here.top hnc hr hkr hmr hpoly hstatic hlen hstack hcell hobj hsel hmt habs hkt hitf]
  intro acts
  rw [doInvoke_state]
  exact Steps.refl _
theorem lm_out (Y : Stand p l e R s m args below meth c T locs cells slots) (hexec : p.tables.exec = Jvm.exec) {pc : Nat} {Ls : Array Slot} {w : Int32} (hret : meth.sig.returnType = some .boolean) (hn : narrow .boolean (.int w) = .int w)
    (hdg : decode c.code pc = .ok (.ireturn, 1)) {fs : List Frame} (hleave : ∀ (f : JFrame) (acts : List Action), f.method = m → f.locked = none → f.entered = [] → (doReturn e (T.setTop f) acts (some (.int w))).1 = T.setFrames fs) :
    Steps p.tables e below (T.setTop { method := m, pc := pc, locals := Ls, stack := [.int w], locked := none }) (T.setFrames fs) := by
  have hm' : T.vm.method? m = some meth := Y.method'
  jvm_step Y.here [Y.here.top, hexec, hdg, hm', hret, hn]
  first | (intro acts; rw [hleave _ acts rfl rfl rfl]) | rw [hleave _ _ rfl rfl rfl]
  exact Steps.refl _
/-- a call, its frame walked on its own -/
theorem lm_thru {U : State} {L : List Loc} {cc nn : Nat} (X : Stand p l e R s m args below meth c U L cc nn) {g : JFrame} (hg : g.method = m) (hsize : g.locals.size = c.maxLocals) {ig : Instr} {len : Nat} (hdg : decode c.code g.pc = .ok (ig, len))
    {mk : MethodId} {methk : Method} {ck : Code} (a : Array Value) {R' : Room} (hmk : U.vm.method? mk = some methk) (hck : methk.code = some ck) (hlk : methk.locks = false) (hpk : U.plainMethod mk)
    (hframes : R'.frames + 1 ≤ R.frames) (hlocals : 2 * g.monitorRoom + (g.stack.map fun v => v.category).sum + (ck.maxLocals + 11) + R'.locals ≤ R.locals) (hcells : cc + R'.cells ≤ R.cells) (hslots : nn + R'.slots ≤ R.slots)
    {Φ : Option Value → State → List Loc → Nat → Nat → Prop}
    (body : ∀ U₀, U₀ = (U.setTop g).pushFrame (.java (entryFrame mk a ck.maxLocals)) → Stand p l e R' (U.calling g mk a) mk a (.java g :: below) methk ck U₀ [] 0 0 →
      ∃ v U₁ L₁ c₁ n₁, Stand p l e R' (U.calling g mk a) mk a (.java g :: below) methk ck U₁ L₁ c₁ n₁ ∧ (methk.sig.returnType = none → v = none) ∧ Φ v U₁ L₁ c₁ n₁ ∧
        ∀ fs, (∀ (f : JFrame) (acts : List Action), f.method = mk → f.locked = none → f.entered = [] → (doReturn e (U₁.setTop f) acts v).1 = U₁.setFrames fs) → Steps p.tables e (.java g :: below) (U₀.setTop (entryFrame mk a ck.maxLocals)) (U₁.setFrames fs)) :
    ∃ v T' U₁ L₁ c₁ n₁, Stand p l e R s m args below meth c T' (L ++ L₁) (cc + c₁) (nn + n₁) ∧ Φ v U₁ L₁ c₁ n₁ ∧ T'.heap = U₁.heap ∧ T'.vm = U₁.vm ∧
      Steps p.tables e below (doInvoke e (U.setTop g) [] mk a).1 (T'.setTop { g with pc := g.pc + len, stack := v.toList ++ g.stack }) := by
  obtain ⟨Y₀, hin⟩ := X.into hg hsize hdg a (R' := R') hmk hck hlk hpk hframes hlocals hcells hslots
  obtain ⟨v, U₁, L₁, c₁, n₁, Y₁, hv, hΦ, hsteps⟩ := body _ rfl Y₀
  obtain ⟨fs, hleave, -, hended, hWe, hsame⟩ := Y₁.leave (v := v) hv hlk
  obtain ⟨T', X', hW', -, ht⟩ := X.outOf hg hdg hended hWe hsame
  refine ⟨v, T', U₁, L₁, c₁, n₁, X', hΦ, (congrArg State.heap ht).symm, (congrArg State.vm ht).symm, ?_⟩
  rw [hin [], ← ht]
  exact Steps.weaken (mid := [.java g]) (hsteps fs hleave)
end LMT
theorem lm_look {U : State} {y : MethodName} {t : MethodId} (hn : U.methodNamed? y = some t) (hy : y.cls ≠ "java/lang/invoke/MethodHandle" ∧ y.cls ≠ "java/lang/invoke/VarHandle") :
    ∀ cI kI, U.vm.findClass y.cls = some cI → U.vm.classes[cI]? = some kI → ((methodIn cI y.name y.desc kI.isInterface none).ask { classPath := fun _ => none } U.vm).1 = .ok t := by
  intro cI kI hf hk
  have h1 : U.methodFound? y.cls y.name y.desc = some t := State.methodFound?_of_named hn hy
  simp only [State.methodFound?, hf, hk, Option.bind_eq_bind, Option.bind_some] at h1
  cases hq : ((methodIn cI y.name y.desc kI.isInterface none).ask { classPath := fun _ => none } U.vm).1 with
  | ok v => rw [hq] at h1; exact congrArg Except.ok (Option.some.inj h1)
  | error x => rw [hq] at h1; cases h1

set_option maxHeartbeats 4000000 in
theorem lm_hd0 {l : Launch} {D : va_G} {s0 : State} {b0 : Nat} {A : Nat → Prop} {G : jG} {d mc ms x ch fr a : Nat} {v : Int32} {r : Bool} {fs : List Value} (hM : jM l yX1_lambda_countAgainst_0 (ws_ yX1_lambda_countAgainst_0 cX1_lambda_countAgainst_0 4 (some .boolean)) (jR d mc ms) D s0 b0 A G [.ref x, .int v, .ref ch, .ref fr] (fun w G1 => w = some (.int (jbz r)) ∧ jNw G G1))
    (ha : G a = some (.inr (jLk s0 0, [.ref x, .int v, .ref ch]))) (hx : G x = some (jo 2 fs)) : jHd l D s0 b0 A d mc ms G a fr r := by
  intro p e R s m args below meth c Q cc nL own bc bs bc1 bs1 pc index count lv rest hX hlk hRf hRl hw hdg hbc hbs kk
  refine jr_back5 hX (mc := mc) (ms := ms) (post := fun w G1 => w = some (.int (jbz r)) ∧ jNw G G1) (rest := rest) (a := #[]) hbc hbs (fun H locs ls cells slots hG hS hl hc hs => ?_) (fun w G1 hp => by obtain ⟨rfl, h1⟩ := hp; exact kk G1 h1)
  intro T hT X
  subst hT
  have hcell : T.heap[a]? = some { cls := jLk s0 0, slots := [Value.ref x, .int v, .ref ch].toArray, vm := .none } := (hG _ _ ha).1
  obtain ⟨cx, hcx, hox, hclx⟩ := jrecv hX.K hG hx (ci := 2) (C := RX1) (T := TX1) (N := 12) rfl
  obtain ⟨mS, kS, cfS, i0, p0, hmS, hkS, hnS, -, -, -, hmade, hcan⟩ := lm_at0 hX.S
  have hO := lm_obj (hX.ts _ q2288)
  obtain ⟨kK0, -, -, methk0, -, -, -, -, -, -, hkK0, hknK0, -, -, hmk0, -, -, -, -, hfl0, -⟩ := lm_mf0 hkS hnS hmade hO
  obtain ⟨hdecl, hface⟩ := hX.S.ifc (x := lm_x) ⟨by decide +kernel, by decide +kernel⟩ q1037 q1036 args
  obtain ⟨r0, rM, hn, hrm, hstR, hsigR⟩ := Cond.declares_spec hdecl
  obtain ⟨cL, kL, r1, hcL, hkL, hiL, hfoundL, hn1⟩ := Cond.interfaceMethod_spec hface
  cases hn.symm.trans hn1
  have hr0cls : r0.cls = cL := Option.some.inj ((findClass_of_methodNamed hn).symm.trans hcL)
  obtain ⟨hnameR, hdescR⟩ := name_of_methodNamed hn hrm
  obtain ⟨-, -, -, -, -, -, -, iface', -, -, -, -, found, -, -, -, -, -, hi', -, -, -, -, -, -, hfound', -, -, -, -, -, -, -, -, -, -, hsel⟩ := Jvm.Lambda.isMade_spec hmade
  cases hcL.symm.trans hi'
  have hfr : found = r0 := by
    have h1 : s.methodFound? "SwapWhile$FrameTest" "holds" "(LSwapWhile$Frame;)Z" = some r0 := hfoundL
    have hcL' : s.vm.findClass "SwapWhile$FrameTest" = some cL := hcL
    simp only [State.methodFound?, hcL', hkL, hiL, Option.bind_eq_bind, Option.bind_some] at h1
    have h2 : ((methodIn cL "holds" "(LSwapWhile$Frame;)Z" true none).ask { classPath := fun _ => none } s.vm).1 = .ok found := by
      have h3 := hfound'
      rw [lm_sam.1] at h3
      exact h3
    rw [h2] at h1
    exact Option.some.inj h1
  subst hfr
  obtain ⟨i2, hi2, hasg, hway⟩ := State.lambdaCallable_spec hcan
  cases hcL.symm.trans hi2
  have hsigI : rM.sig = ⟨[.object "SwapWhile$Frame"], some .boolean⟩ := (Option.some.inj ((by decide +kernel : parseMethodDescriptor "(LSwapWhile$Frame;)Z" = some ⟨[.object "SwapWhile$Frame"], some .boolean⟩).symm.trans hsigR)).symm
  have hway' : ((jLk s0 0 :: s.vm.superclasses (jLk s0 0)).any fun k => (declaredIn s.vm rM.name rM.desc k).any fun (_, y) => y.isPrivate || y.isStatic) = false := by
    rw [hnameR, hdescR]
    have h3 := hway
    rw [lm_sam.1] at h3
    exact h3
  obtain ⟨vm₁, X₁, hstep₁⟩ := X.invokeinterface hX.1 hX.2.2.2.1 (hX.ts _ hlk) hn hrm hstR (by rw [hr0cls]; exact hkL) hiL ⟨by decide +kernel, by decide +kernel⟩ (a := a) hcell (fun z h => by cases h) hkK0 (by rw [hr0cls]; exact hasg)
    (m' := ⟨jLk s0 0, 1⟩) (meth' := methk0) (by rw [Launch.admits_selectMethod X.admits]; exact hsel) hmk0 hway' (by rw [hfl0]; decide) (by simp [Method.isAbstract, hfl0, hasFlag, Acc.abstract])
    (g := F0 m pc ls (.ref fr :: .ref a :: rest)) rfl (argsL := [.ref fr]) (rest := rest) (by rw [hsigI]; rfl) rfl (by rw [hX.2.1]; exact hdg)
  have hW₁ : s.WarmedH vm₁ := X₁.warmed
  obtain ⟨kS₁, hkS₁, heS₁⟩ := hW₁.alike.2.2 _ _ hkS
  have hO₁ : ∀ o ok, (T.setVm vm₁).vm.findClass "java/lang/Object" = some o → (T.setVm vm₁).vm.classes[o]? = some ok → ok.instanceTypes.size = 0 := lm_obj (args := #[]) (word_at (U := T.setVm vm₁) hW₁ (Or.inl rfl) (hX.ts _ q2288))
  obtain ⟨kK, tk, file, methk, ck, toy, t, g0, g1, g2, hkK, hknK, hfile, hpool, hmk, hck, hbytes, hml, hlkm, hfl, hretk, htoy, htk, hitf, hlook, hready, hclsR, ⟨hf0, hs0, hn0⟩, ⟨hf1, hs1, hn1'⟩, ⟨hf2, hs2, hn2⟩, -, -⟩ := lm_mf0 (U := T.setVm vm₁) hkS₁ (by rw [heS₁]; exact hnS) (Jvm.Lambda.isMade_warmer hW₁ hmade) hO₁
  have hcodeU : (Cond.code yX1_lambda_countAgainst_0 cX1_lambda_countAgainst_0 4 (some .boolean)).before #[] (T.setVm vm₁) = true := word_at (U := T.setVm vm₁) hW₁ (Or.inl rfl) (hX.ts _ q1014)
  have hinstU : (Cond.instanceMethod yX1_lambda_countAgainst_0).before #[] (T.setVm vm₁) = true := word_at (U := T.setVm vm₁) hW₁ (Or.inl rfl) (hX.ts _ q1013)
  have hselU : (Cond.selects "SwapWhile" yX1_lambda_countAgainst_0 yX1_lambda_countAgainst_0).before #[] (T.setVm vm₁) = true := word_at (U := T.setVm vm₁) hW₁ (Or.inl rfl) (hX.ts _ qs12)
  obtain ⟨mk9, methM, hnt, hmethM, hst9, hab9⟩ := Cond.instanceMethod_spec hinstU
  have et : t = mk9 := Except.ok.inj (hlook.symm.trans (lm_look hnt ⟨by decide +kernel, by decide +kernel⟩ _ _ htoy htk))
  subst et
  obtain ⟨methB, cB9, hmB, -, -, -, -, -, -, hsigB⟩ := Cond.code_spec hnt hcodeU
  cases hmB.symm.trans hmethM
  obtain ⟨c2, r2, m2, q1, q2, q3, q4, kP, hkP, hkPi⟩ := Cond.selects_spec hselU
  cases htoy.symm.trans q1
  cases (State.methodFound?_of_named hnt ⟨by decide +kernel, by decide +kernel⟩).symm.trans q2
  cases hnt.symm.trans q3
  obtain ⟨kT', hkT', hnameT⟩ := className_of_methodNamed hnt
  have hsp : signaturePolymorphic kT' methM = false := by
    have h1 : kT'.name ≠ "java/lang/invoke/MethodHandle" ∧ kT'.name ≠ "java/lang/invoke/VarHandle" := by rw [hnameT]; decide +kernel
    simp [signaturePolymorphic, h1.1, h1.2]
  have hsigN : methM.sig.parameters.length = 3 := by rw [← Option.some.inj ((by decide +kernel : parseMethodDescriptor yX1_lambda_countAgainst_0.desc = some ⟨[.int, .object "SwapWhile$Change", .object "SwapWhile$Frame"], some .boolean⟩).symm.trans hsigB)]; rfl
  have hBk := fun (e9 : Env) (bl : List Frame) (S9 : State) (ar : Array Value) (hW9 : s.WarmedH S9.vm) => back_of (l := l) (R := { frames := d + 1, cells := mc, slots := ms, locals := 3215 + 40 * d }) (p := p) (e := e9) (below := bl) (s := S9) (sargs := ar) (len := 3) (W := 0) (bytes := cX1_lambda_countAgainst_0) (maxL := 4) (ret := some .boolean) hM jB.blind rfl rfl (Nat.le_refl _) (by show 0 + (4 + 11) + (3200 + 40 * d) ≤ 3215 + 40 * d; omega)
    (fun w hwm a' U hWU => pay_in hX.ts (lw_meth q1014) w hwm a' U (State.WarmedH.trans hW9 hWU)) List.mem_cons_self (fun a' U hWU => word_at (State.WarmedH.trans hW9 hWU) (Or.inl rfl) (hX.ts _ q65))
  obtain ⟨v9, T', U₁, L₁, c₁, n₁, X', ⟨st₀, t9, h1, h2, h3, h4, h5, rfl, rfl⟩, hh, hv, steps⟩ := lm_thru X₁ (g := F0 m pc ls rest) rfl (hl.1.trans hX.2.2.1.symm) (by rw [hX.2.1]; exact hdg) #[.ref a, .ref fr] (R' := { frames := d + 1, cells := mc, slots := ms, locals := 3215 + 40 * d }) hmk hck hlkm (State.plainMethod.of_name (fun k' hk' => by cases hkK.symm.trans hk'; rw [hknK]; decide))
    (by show d + 1 + 1 ≤ R.frames; omega) (by rw [hml]; show 2 * 0 + (rest.map fun v => v.category).sum + (2 + 11) + (3215 + 40 * d) ≤ R.locals; omega) (by show cells + mc ≤ R.cells; omega) (by show slots + ms ≤ R.slots; omega)
    (Φ := fun w U₁ L₁ c₁ n₁ => ∃ st₀ t : State, st₀.heap = T.heap ∧ jQ D A (fun w G1 => w = some (.int (jbz r)) ∧ jNw G G1) #[] st₀ (.returned w) t ∧ U₁.heap = t.heap ∧ U₁.vm = t.vm ∧ (∀ q ∈ L₁, A q.base) ∧ c₁ = mc ∧ n₁ = ms)
    (fun U₀ hU₀ Y₀ => by
      have hvm : U₀.vm = vm₁ := by rw [hU₀]; rfl
      have hheap : U₀.heap = T.heap := by rw [hU₀]; rfl
      have hc0 : U₀.heap[a]? = some { cls := jLk s0 0, slots := [Value.ref x, .int v, .ref ch].toArray, vm := .none } := by rw [hheap]; exact hcell
      rw [hml]
      have hent : entryFrame ⟨jLk s0 0, 1⟩ #[.ref a, .ref fr] 2 = { method := ⟨jLk s0 0, 1⟩, pc := 0, locals := #[.val (.ref a), .val (.ref fr)], stack := [], locked := none } := by rfl
      rw [hent]
      have k1 : Steps p.tables e (.java (F0 m pc ls rest) :: below) (U₀.setTop { method := ⟨jLk s0 0, 1⟩, pc := 0, locals := #[.val (.ref a), .val (.ref fr)], stack := [], locked := none }) (U₀.setTop { method := ⟨jLk s0 0, 1⟩, pc := 1, locals := #[.val (.ref a), .val (.ref fr)], stack := [.ref a], locked := none }) := by
        jvm_step Y₀.here [hX.1, hbytes, lm_d0, Value.isRef]
        exact Steps.refl _
      have k2 := lm_get Y₀ hX.1 (g := { method := ⟨jLk s0 0, 1⟩, pc := 1, locals := #[.val (.ref a), .val (.ref fr)], stack := [.ref a], locked := none }) rfl (index := 19) (cF := jLk s0 0) (a := a) (field := g0) (v := .ref x) (rest := []) (by rw [hvm]; exact hf0) hs0 rfl hc0 (by intro z; cases z) (by rw [hn0]; rfl) (by rw [hbytes]; exact lm_d1) k1
      have k3 : Steps p.tables e (.java (F0 m pc ls rest) :: below) (U₀.setTop { method := ⟨jLk s0 0, 1⟩, pc := 0, locals := #[.val (.ref a), .val (.ref fr)], stack := [], locked := none }) (U₀.setTop { method := ⟨jLk s0 0, 1⟩, pc := 5, locals := #[.val (.ref a), .val (.ref fr)], stack := [.ref a, .ref x], locked := none }) := by
        refine k2.trans ?_
        jvm_step Y₀.here [hX.1, hbytes, lm_d4, Value.isRef]
        exact Steps.refl _
      have k4 := lm_get Y₀ hX.1 (g := { method := ⟨jLk s0 0, 1⟩, pc := 5, locals := #[.val (.ref a), .val (.ref fr)], stack := [.ref a, .ref x], locked := none }) rfl (index := 21) (cF := jLk s0 0) (a := a) (field := g1) (v := .int v) (rest := [.ref x]) (by rw [hvm]; exact hf1) hs1 rfl hc0 (by intro z; cases z) (by rw [hn1']; rfl) (by rw [hbytes]; exact lm_d5) k3
      have k5 : Steps p.tables e (.java (F0 m pc ls rest) :: below) (U₀.setTop { method := ⟨jLk s0 0, 1⟩, pc := 0, locals := #[.val (.ref a), .val (.ref fr)], stack := [], locked := none }) (U₀.setTop { method := ⟨jLk s0 0, 1⟩, pc := 9, locals := #[.val (.ref a), .val (.ref fr)], stack := [.ref a, .int v, .ref x], locked := none }) := by
        refine k4.trans ?_
        jvm_step Y₀.here [hX.1, hbytes, lm_d8, Value.isRef]
        exact Steps.refl _
      have k6 := lm_get Y₀ hX.1 (g := { method := ⟨jLk s0 0, 1⟩, pc := 9, locals := #[.val (.ref a), .val (.ref fr)], stack := [.ref a, .int v, .ref x], locked := none }) rfl (index := 23) (cF := jLk s0 0) (a := a) (field := g2) (v := .ref ch) (rest := [.int v, .ref x]) (by rw [hvm]; exact hf2) hs2 rfl hc0 (by intro z; cases z) (by rw [hn2]; rfl) (by rw [hbytes]; exact lm_d9) k5
      have k7 : Steps p.tables e (.java (F0 m pc ls rest) :: below) (U₀.setTop { method := ⟨jLk s0 0, 1⟩, pc := 0, locals := #[.val (.ref a), .val (.ref fr)], stack := [], locked := none }) (U₀.setTop { method := ⟨jLk s0 0, 1⟩, pc := 13, locals := #[.val (.ref a), .val (.ref fr)], stack := [.ref fr, .ref ch, .int v, .ref x], locked := none }) := by
        refine k6.trans ?_
        jvm_step Y₀.here [hX.1, hbytes, lm_d12, Value.isRef]
        exact Steps.refl _
      have hWc : s.WarmedH ((T.setVm vm₁).calling (F0 m pc ls rest) ⟨jLk s0 0, 1⟩ #[.ref a, .ref fr]).vm := hW₁
      obtain ⟨w9, ⟨U₁, L₁, c₁, n₁⟩, Y₁, hpost, kE⟩ := lm_virt Y₀ hX.1 (g := { method := ⟨jLk s0 0, 1⟩, pc := 13, locals := #[.val (.ref a), .val (.ref fr)], stack := [.ref fr, .ref ch, .int v, .ref x], locked := none }) rfl (by rw [hml]; rfl) (index := 31) (a := x) (y := yX1_lambda_countAgainst_0) (cell := cx) (argsL := [.int v, .ref ch, .ref fr]) (rest := [])
        (by exact ⟨kK, file, 27, 30, toy, tk, by rw [hvm]; exact hkK, hfile, hpool, by rw [hvm]; exact hclsR, by rw [hvm]; exact htk, hitf⟩) (by rw [hvm]; exact hready) (by rw [hvm]; exact hkT') (by rw [hvm]; exact hmB) hsp hst9 hsigN.symm rfl (by rw [hheap]; exact hcx) (fun q h => by rw [h] at hox; cases hox)
        (by
          have hcl : cx.cls = toy := Option.some.inj (hclx.symm.trans (show s.vm.findClass "SwapWhile" = some toy by rw [← hW₁.alike.findClass]; exact htoy))
          rw [hcl, hvm, Launch.admits_selectMethod X.admits]; exact q4) (by rw [hvm]; exact hmB) hab9 (by rw [hvm]; exact hkP) hkPi
        (by
          have h9 : (U₀.setVm vm₁).methodNamed? yX1_lambda_countAgainst_0 = some t := hnt
          rw [← hvm] at h9
          exact h9)
        (hBk e _ _ _ hWc) (by show 2 * 0 + 0 ≤ 0; decide) ⟨by show 0 + mc ≤ mc; omega, by show 0 + ms ≤ ms; omega, rfl, jB.to hG hX.S hX.2.2.2.2.2.2 hS hheap (by rw [hvm]; exact hW₁)⟩ (by rw [hbytes]; exact lm_d13) k7
      dsimp only [Pt.U, Pt.locs, Pt.cells, Pt.slots] at Y₁ kE
      obtain ⟨gF, mkF, tF, LF, b1, b2, b3, b4, b5, b6, b7⟩ := hpost
      dsimp only [Pt.U, Pt.locs, Pt.cells, Pt.slots] at b1 b2 b4 b6 b7
      obtain ⟨w', G', e1, ⟨e2, e3⟩, e4⟩ := id b3.1
      cases e1
      subst e2
      refine ⟨some (.int (jbz r)), U₁, L₁, c₁, n₁, Y₁, (fun h => by rw [hretk] at h; cases h), ⟨_, tF, (by exact hheap), b3, b1, b2, by rw [b4]; exact fun q hq => b5 q (by simpa using hq), by omega, by omega⟩, fun fs hleave => kE.trans (lm_out Y₁ hX.1 hretk (jbz_n r) (by rw [hbytes]; exact lm_d16) hleave)⟩)
  refine ⟨v9, st₀, t9, T', L₁, h1, X', h5, hh.trans h3, hv.trans h4, h2, fun target htg => hstep₁ target fun acts => ?_⟩
  rw [doInvoke_state]
  exact steps.trans htg

set_option maxHeartbeats 4000000 in
theorem lm_hd1 {l : Launch} {D : va_G} {s0 : State} {b0 : Nat} {A : Nat → Prop} {G : jG} {d mc ms x ch fr a : Nat} {v : Nat} {r : Bool} {fs : List Value} (hM : jM l yX1_lambda_countAgainst_1 (ws_ yX1_lambda_countAgainst_1 cX1_lambda_countAgainst_1 4 (some .boolean)) (jR d mc ms) D s0 b0 A G [.ref x, .ref v, .ref ch, .ref fr] (fun w G1 => w = some (.int (jbz r)) ∧ jNw G G1))
    (ha : G a = some (.inr (jLk s0 1, [.ref x, .ref v, .ref ch]))) (hx : G x = some (jo 2 fs)) : jHd l D s0 b0 A d mc ms G a fr r := by
  intro p e R s m args below meth c Q cc nL own bc bs bc1 bs1 pc index count lv rest hX hlk hRf hRl hw hdg hbc hbs kk
  refine jr_back5 hX (mc := mc) (ms := ms) (post := fun w G1 => w = some (.int (jbz r)) ∧ jNw G G1) (rest := rest) (a := #[]) hbc hbs (fun H locs ls cells slots hG hS hl hc hs => ?_) (fun w G1 hp => by obtain ⟨rfl, h1⟩ := hp; exact kk G1 h1)
  intro T hT X
  subst hT
  have hcell : T.heap[a]? = some { cls := jLk s0 1, slots := [Value.ref x, .ref v, .ref ch].toArray, vm := .none } := (hG _ _ ha).1
  obtain ⟨cx, hcx, hox, hclx⟩ := jrecv hX.K hG hx (ci := 2) (C := RX1) (T := TX1) (N := 12) rfl
  obtain ⟨mS, kS, cfS, i0, p0, hmS, hkS, hnS, -, -, -, hmade, hcan⟩ := lm_at1 hX.S
  have hO := lm_obj (hX.ts _ q2288)
  obtain ⟨kK0, -, -, methk0, -, -, -, -, -, -, hkK0, hknK0, -, -, hmk0, -, -, -, -, hfl0, -⟩ := lm_mf1 hkS hnS hmade hO
  obtain ⟨hdecl, hface⟩ := hX.S.ifc (x := lm_x) ⟨by decide +kernel, by decide +kernel⟩ q1037 q1036 args
  obtain ⟨r0, rM, hn, hrm, hstR, hsigR⟩ := Cond.declares_spec hdecl
  obtain ⟨cL, kL, r1, hcL, hkL, hiL, hfoundL, hn1⟩ := Cond.interfaceMethod_spec hface
  cases hn.symm.trans hn1
  have hr0cls : r0.cls = cL := Option.some.inj ((findClass_of_methodNamed hn).symm.trans hcL)
  obtain ⟨hnameR, hdescR⟩ := name_of_methodNamed hn hrm
  obtain ⟨-, -, -, -, -, -, -, iface', -, -, -, -, found, -, -, -, -, -, hi', -, -, -, -, -, -, hfound', -, -, -, -, -, -, -, -, -, -, hsel⟩ := Jvm.Lambda.isMade_spec hmade
  cases hcL.symm.trans hi'
  have hfr : found = r0 := by
    have h1 : s.methodFound? "SwapWhile$FrameTest" "holds" "(LSwapWhile$Frame;)Z" = some r0 := hfoundL
    have hcL' : s.vm.findClass "SwapWhile$FrameTest" = some cL := hcL
    simp only [State.methodFound?, hcL', hkL, hiL, Option.bind_eq_bind, Option.bind_some] at h1
    have h2 : ((methodIn cL "holds" "(LSwapWhile$Frame;)Z" true none).ask { classPath := fun _ => none } s.vm).1 = .ok found := by
      have h3 := hfound'
      rw [lm_sam.2] at h3
      exact h3
    rw [h2] at h1
    exact Option.some.inj h1
  subst hfr
  obtain ⟨i2, hi2, hasg, hway⟩ := State.lambdaCallable_spec hcan
  cases hcL.symm.trans hi2
  have hsigI : rM.sig = ⟨[.object "SwapWhile$Frame"], some .boolean⟩ := (Option.some.inj ((by decide +kernel : parseMethodDescriptor "(LSwapWhile$Frame;)Z" = some ⟨[.object "SwapWhile$Frame"], some .boolean⟩).symm.trans hsigR)).symm
  have hway' : ((jLk s0 1 :: s.vm.superclasses (jLk s0 1)).any fun k => (declaredIn s.vm rM.name rM.desc k).any fun (_, y) => y.isPrivate || y.isStatic) = false := by
    rw [hnameR, hdescR]
    have h3 := hway
    rw [lm_sam.2] at h3
    exact h3
  obtain ⟨vm₁, X₁, hstep₁⟩ := X.invokeinterface hX.1 hX.2.2.2.1 (hX.ts _ hlk) hn hrm hstR (by rw [hr0cls]; exact hkL) hiL ⟨by decide +kernel, by decide +kernel⟩ (a := a) hcell (fun z h => by cases h) hkK0 (by rw [hr0cls]; exact hasg)
    (m' := ⟨jLk s0 1, 1⟩) (meth' := methk0) (by rw [Launch.admits_selectMethod X.admits]; exact hsel) hmk0 hway' (by rw [hfl0]; decide) (by simp [Method.isAbstract, hfl0, hasFlag, Acc.abstract])
    (g := F0 m pc ls (.ref fr :: .ref a :: rest)) rfl (argsL := [.ref fr]) (rest := rest) (by rw [hsigI]; rfl) rfl (by rw [hX.2.1]; exact hdg)
  have hW₁ : s.WarmedH vm₁ := X₁.warmed
  obtain ⟨kS₁, hkS₁, heS₁⟩ := hW₁.alike.2.2 _ _ hkS
  have hO₁ : ∀ o ok, (T.setVm vm₁).vm.findClass "java/lang/Object" = some o → (T.setVm vm₁).vm.classes[o]? = some ok → ok.instanceTypes.size = 0 := lm_obj (args := #[]) (word_at (U := T.setVm vm₁) hW₁ (Or.inl rfl) (hX.ts _ q2288))
  obtain ⟨kK, tk, file, methk, ck, toy, t, g0, g1, g2, hkK, hknK, hfile, hpool, hmk, hck, hbytes, hml, hlkm, hfl, hretk, htoy, htk, hitf, hlook, hready, hclsR, ⟨hf0, hs0, hn0⟩, ⟨hf1, hs1, hn1'⟩, ⟨hf2, hs2, hn2⟩, -, -⟩ := lm_mf1 (U := T.setVm vm₁) hkS₁ (by rw [heS₁]; exact hnS) (Jvm.Lambda.isMade_warmer hW₁ hmade) hO₁
  have hcodeU : (Cond.code yX1_lambda_countAgainst_1 cX1_lambda_countAgainst_1 4 (some .boolean)).before #[] (T.setVm vm₁) = true := word_at (U := T.setVm vm₁) hW₁ (Or.inl rfl) (hX.ts _ q1033)
  have hinstU : (Cond.instanceMethod yX1_lambda_countAgainst_1).before #[] (T.setVm vm₁) = true := word_at (U := T.setVm vm₁) hW₁ (Or.inl rfl) (hX.ts _ q1032)
  have hselU : (Cond.selects "SwapWhile" yX1_lambda_countAgainst_1 yX1_lambda_countAgainst_1).before #[] (T.setVm vm₁) = true := word_at (U := T.setVm vm₁) hW₁ (Or.inl rfl) (hX.ts _ qs15)
  obtain ⟨mk9, methM, hnt, hmethM, hst9, hab9⟩ := Cond.instanceMethod_spec hinstU
  have et : t = mk9 := Except.ok.inj (hlook.symm.trans (lm_look hnt ⟨by decide +kernel, by decide +kernel⟩ _ _ htoy htk))
  subst et
  obtain ⟨methB, cB9, hmB, -, -, -, -, -, -, hsigB⟩ := Cond.code_spec hnt hcodeU
  cases hmB.symm.trans hmethM
  obtain ⟨c2, r2, m2, q1, q2, q3, q4, kP, hkP, hkPi⟩ := Cond.selects_spec hselU
  cases htoy.symm.trans q1
  cases (State.methodFound?_of_named hnt ⟨by decide +kernel, by decide +kernel⟩).symm.trans q2
  cases hnt.symm.trans q3
  obtain ⟨kT', hkT', hnameT⟩ := className_of_methodNamed hnt
  have hsp : signaturePolymorphic kT' methM = false := by
    have h1 : kT'.name ≠ "java/lang/invoke/MethodHandle" ∧ kT'.name ≠ "java/lang/invoke/VarHandle" := by rw [hnameT]; decide +kernel
    simp [signaturePolymorphic, h1.1, h1.2]
  have hsigN : methM.sig.parameters.length = 3 := by rw [← Option.some.inj ((by decide +kernel : parseMethodDescriptor yX1_lambda_countAgainst_1.desc = some ⟨[.object "SwapWhile$FrameTest", .object "SwapWhile$Change", .object "SwapWhile$Frame"], some .boolean⟩).symm.trans hsigB)]; rfl
  have hBk := fun (e9 : Env) (bl : List Frame) (S9 : State) (ar : Array Value) (hW9 : s.WarmedH S9.vm) => back_of (l := l) (R := { frames := d + 1, cells := mc, slots := ms, locals := 3215 + 40 * d }) (p := p) (e := e9) (below := bl) (s := S9) (sargs := ar) (len := 3) (W := 0) (bytes := cX1_lambda_countAgainst_1) (maxL := 4) (ret := some .boolean) hM jB.blind rfl rfl (Nat.le_refl _) (by show 0 + (4 + 11) + (3200 + 40 * d) ≤ 3215 + 40 * d; omega)
    (fun w hwm a' U hWU => pay_in hX.ts (lw_meth q1033) w hwm a' U (State.WarmedH.trans hW9 hWU)) List.mem_cons_self (fun a' U hWU => word_at (State.WarmedH.trans hW9 hWU) (Or.inl rfl) (hX.ts _ q65))
  obtain ⟨v9, T', U₁, L₁, c₁, n₁, X', ⟨st₀, t9, h1, h2, h3, h4, h5, rfl, rfl⟩, hh, hv, steps⟩ := lm_thru X₁ (g := F0 m pc ls rest) rfl (hl.1.trans hX.2.2.1.symm) (by rw [hX.2.1]; exact hdg) #[.ref a, .ref fr] (R' := { frames := d + 1, cells := mc, slots := ms, locals := 3215 + 40 * d }) hmk hck hlkm (State.plainMethod.of_name (fun k' hk' => by cases hkK.symm.trans hk'; rw [hknK]; decide))
    (by show d + 1 + 1 ≤ R.frames; omega) (by rw [hml]; show 2 * 0 + (rest.map fun v => v.category).sum + (2 + 11) + (3215 + 40 * d) ≤ R.locals; omega) (by show cells + mc ≤ R.cells; omega) (by show slots + ms ≤ R.slots; omega)
    (Φ := fun w U₁ L₁ c₁ n₁ => ∃ st₀ t : State, st₀.heap = T.heap ∧ jQ D A (fun w G1 => w = some (.int (jbz r)) ∧ jNw G G1) #[] st₀ (.returned w) t ∧ U₁.heap = t.heap ∧ U₁.vm = t.vm ∧ (∀ q ∈ L₁, A q.base) ∧ c₁ = mc ∧ n₁ = ms)
    (fun U₀ hU₀ Y₀ => by
      have hvm : U₀.vm = vm₁ := by rw [hU₀]; rfl
      have hheap : U₀.heap = T.heap := by rw [hU₀]; rfl
      have hc0 : U₀.heap[a]? = some { cls := jLk s0 1, slots := [Value.ref x, .ref v, .ref ch].toArray, vm := .none } := by rw [hheap]; exact hcell
      rw [hml]
      have hent : entryFrame ⟨jLk s0 1, 1⟩ #[.ref a, .ref fr] 2 = { method := ⟨jLk s0 1, 1⟩, pc := 0, locals := #[.val (.ref a), .val (.ref fr)], stack := [], locked := none } := by rfl
      rw [hent]
      have k1 : Steps p.tables e (.java (F0 m pc ls rest) :: below) (U₀.setTop { method := ⟨jLk s0 1, 1⟩, pc := 0, locals := #[.val (.ref a), .val (.ref fr)], stack := [], locked := none }) (U₀.setTop { method := ⟨jLk s0 1, 1⟩, pc := 1, locals := #[.val (.ref a), .val (.ref fr)], stack := [.ref a], locked := none }) := by
        jvm_step Y₀.here [hX.1, hbytes, lm_d0, Value.isRef]
        exact Steps.refl _
      have k2 := lm_get Y₀ hX.1 (g := { method := ⟨jLk s0 1, 1⟩, pc := 1, locals := #[.val (.ref a), .val (.ref fr)], stack := [.ref a], locked := none }) rfl (index := 19) (cF := jLk s0 1) (a := a) (field := g0) (v := .ref x) (rest := []) (by rw [hvm]; exact hf0) hs0 rfl hc0 (by intro z; cases z) (by rw [hn0]; rfl) (by rw [hbytes]; exact lm_d1) k1
      have k3 : Steps p.tables e (.java (F0 m pc ls rest) :: below) (U₀.setTop { method := ⟨jLk s0 1, 1⟩, pc := 0, locals := #[.val (.ref a), .val (.ref fr)], stack := [], locked := none }) (U₀.setTop { method := ⟨jLk s0 1, 1⟩, pc := 5, locals := #[.val (.ref a), .val (.ref fr)], stack := [.ref a, .ref x], locked := none }) := by
        refine k2.trans ?_
        jvm_step Y₀.here [hX.1, hbytes, lm_d4, Value.isRef]
        exact Steps.refl _
      have k4 := lm_get Y₀ hX.1 (g := { method := ⟨jLk s0 1, 1⟩, pc := 5, locals := #[.val (.ref a), .val (.ref fr)], stack := [.ref a, .ref x], locked := none }) rfl (index := 21) (cF := jLk s0 1) (a := a) (field := g1) (v := .ref v) (rest := [.ref x]) (by rw [hvm]; exact hf1) hs1 rfl hc0 (by intro z; cases z) (by rw [hn1']; rfl) (by rw [hbytes]; exact lm_d5) k3
      have k5 : Steps p.tables e (.java (F0 m pc ls rest) :: below) (U₀.setTop { method := ⟨jLk s0 1, 1⟩, pc := 0, locals := #[.val (.ref a), .val (.ref fr)], stack := [], locked := none }) (U₀.setTop { method := ⟨jLk s0 1, 1⟩, pc := 9, locals := #[.val (.ref a), .val (.ref fr)], stack := [.ref a, .ref v, .ref x], locked := none }) := by
        refine k4.trans ?_
        jvm_step Y₀.here [hX.1, hbytes, lm_d8, Value.isRef]
        exact Steps.refl _
      have k6 := lm_get Y₀ hX.1 (g := { method := ⟨jLk s0 1, 1⟩, pc := 9, locals := #[.val (.ref a), .val (.ref fr)], stack := [.ref a, .ref v, .ref x], locked := none }) rfl (index := 23) (cF := jLk s0 1) (a := a) (field := g2) (v := .ref ch) (rest := [.ref v, .ref x]) (by rw [hvm]; exact hf2) hs2 rfl hc0 (by intro z; cases z) (by rw [hn2]; rfl) (by rw [hbytes]; exact lm_d9) k5
      have k7 : Steps p.tables e (.java (F0 m pc ls rest) :: below) (U₀.setTop { method := ⟨jLk s0 1, 1⟩, pc := 0, locals := #[.val (.ref a), .val (.ref fr)], stack := [], locked := none }) (U₀.setTop { method := ⟨jLk s0 1, 1⟩, pc := 13, locals := #[.val (.ref a), .val (.ref fr)], stack := [.ref fr, .ref ch, .ref v, .ref x], locked := none }) := by
        refine k6.trans ?_
        jvm_step Y₀.here [hX.1, hbytes, lm_d12, Value.isRef]
        exact Steps.refl _
      have hWc : s.WarmedH ((T.setVm vm₁).calling (F0 m pc ls rest) ⟨jLk s0 1, 1⟩ #[.ref a, .ref fr]).vm := hW₁
      obtain ⟨w9, ⟨U₁, L₁, c₁, n₁⟩, Y₁, hpost, kE⟩ := lm_virt Y₀ hX.1 (g := { method := ⟨jLk s0 1, 1⟩, pc := 13, locals := #[.val (.ref a), .val (.ref fr)], stack := [.ref fr, .ref ch, .ref v, .ref x], locked := none }) rfl (by rw [hml]; rfl) (index := 31) (a := x) (y := yX1_lambda_countAgainst_1) (cell := cx) (argsL := [.ref v, .ref ch, .ref fr]) (rest := [])
        (by exact ⟨kK, file, 27, 30, toy, tk, by rw [hvm]; exact hkK, hfile, hpool, by rw [hvm]; exact hclsR, by rw [hvm]; exact htk, hitf⟩) (by rw [hvm]; exact hready) (by rw [hvm]; exact hkT') (by rw [hvm]; exact hmB) hsp hst9 hsigN.symm rfl (by rw [hheap]; exact hcx) (fun q h => by rw [h] at hox; cases hox)
        (by
          have hcl : cx.cls = toy := Option.some.inj (hclx.symm.trans (show s.vm.findClass "SwapWhile" = some toy by rw [← hW₁.alike.findClass]; exact htoy))
          rw [hcl, hvm, Launch.admits_selectMethod X.admits]; exact q4) (by rw [hvm]; exact hmB) hab9 (by rw [hvm]; exact hkP) hkPi
        (by
          have h9 : (U₀.setVm vm₁).methodNamed? yX1_lambda_countAgainst_1 = some t := hnt
          rw [← hvm] at h9
          exact h9)
        (hBk e _ _ _ hWc) (by show 2 * 0 + 0 ≤ 0; decide) ⟨by show 0 + mc ≤ mc; omega, by show 0 + ms ≤ ms; omega, rfl, jB.to hG hX.S hX.2.2.2.2.2.2 hS hheap (by rw [hvm]; exact hW₁)⟩ (by rw [hbytes]; exact lm_d13) k7
      dsimp only [Pt.U, Pt.locs, Pt.cells, Pt.slots] at Y₁ kE
      obtain ⟨gF, mkF, tF, LF, b1, b2, b3, b4, b5, b6, b7⟩ := hpost
      dsimp only [Pt.U, Pt.locs, Pt.cells, Pt.slots] at b1 b2 b4 b6 b7
      obtain ⟨w', G', e1, ⟨e2, e3⟩, e4⟩ := id b3.1
      cases e1
      subst e2
      refine ⟨some (.int (jbz r)), U₁, L₁, c₁, n₁, Y₁, (fun h => by rw [hretk] at h; cases h), ⟨_, tF, (by exact hheap), b3, b1, b2, by rw [b4]; exact fun q hq => b5 q (by simpa using hq), by omega, by omega⟩, fun fs hleave => kE.trans (lm_out Y₁ hX.1 hretk (jbz_n r) (by rw [hbytes]; exact lm_d16) hleave)⟩)
  refine ⟨v9, st₀, t9, T', L₁, h1, X', h5, hh.trans h3, hv.trans h4, h2, fun target htg => hstep₁ target fun acts => ?_⟩
  rw [doInvoke_state]
  exact steps.trans htg
