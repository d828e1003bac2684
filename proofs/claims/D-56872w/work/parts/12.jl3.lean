/-! words for calls through an interface, of inherited and overridden methods -/
theorem lw_F {own : String} {idx : Nat} {C : String} {x y : MethodName} {b : ByteArray} {L : Nat} {r : Option FieldType} (h1 : Cond.methodLink own idx x ∈ lw_all) (h2 : Cond.selects C x y ∈ lw_all) (h3 : Cond.instanceMethod y ∈ lw_all) (h4 : Cond.initialized y.cls ∈ lw_all) (h5 : Cond.code y b L r ∈ lw_all) : GoodIn lw_all (va_wsF own idx C x y (ws_ y b L r)) := by
  refine lw_app ?_ (lw_meth h5)
  intro w hw
  simp only [List.mem_cons, List.not_mem_nil, or_false] at hw
  rcases hw with e | e | e | e
  · rw [e]; exact h1
  · rw [e]; exact h2
  · rw [e]; exact h3
  · rw [e]; exact h4
theorem lw_U {own : String} {idx : Nat} {C owner : String} {x y : MethodName} {b : ByteArray} {L : Nat} {r : Option FieldType} (h1 : Cond.methodLink own idx x ∈ lw_all) (h2 : Cond.sameMethod x.cls owner x.name x.desc ∈ lw_all) (h3 : Cond.selects C x y ∈ lw_all) (h4 : Cond.instanceMethod y ∈ lw_all) (h5 : Cond.initialized y.cls ∈ lw_all) (h6 : Cond.code y b L r ∈ lw_all) : GoodIn lw_all (va_wsU own idx C owner x y (ws_ y b L r)) := by
  refine lw_app ?_ (lw_meth h6)
  intro w hw
  simp only [List.mem_cons, List.not_mem_nil, or_false] at hw
  rcases hw with e | e | e | e | e
  · rw [e]; exact h1
  · rw [e]; exact h2
  · rw [e]; exact h3
  · rw [e]; exact h4
  · rw [e]; exact h5
theorem lw_O {own : String} {idx : Nat} {C owner : String} {x y : MethodName} {b : ByteArray} {L : Nat} {r : Option FieldType} (h1 : Cond.methodLink own idx x ∈ lw_all) (h2 : Cond.sameMethod x.cls owner x.name x.desc ∈ lw_all) (h0 : Cond.instanceMethod ⟨owner, x.name, x.desc⟩ ∈ lw_all) (h3 : Cond.selects C x y ∈ lw_all) (h4 : Cond.instanceMethod y ∈ lw_all) (h5 : Cond.initialized y.cls ∈ lw_all) (h6 : Cond.code y b L r ∈ lw_all) : GoodIn lw_all (va_wsO own idx C owner x y (ws_ y b L r)) := by
  refine lw_app ?_ (lw_meth h6)
  intro w hw
  simp only [List.mem_cons, List.not_mem_nil, or_false] at hw
  rcases hw with e | e | e | e | e | e
  · rw [e]; exact h1
  · rw [e]; exact h2
  · rw [e]; exact h0
  · rw [e]; exact h3
  · rw [e]; exact h4
  · rw [e]; exact h5
theorem lw_SU {own : String} {idx : Nat} {y : MethodName} {b : ByteArray} {L : Nat} {r : Option FieldType} (h1 : Cond.methodLink own idx y ∈ lw_all) (h2 : Cond.sameMethod y.cls y.cls y.name y.desc ∈ lw_all) (h3 : Cond.superclass own y.cls ∈ lw_all) (h4 : Cond.instanceMethod y ∈ lw_all) (h5 : Cond.initialized y.cls ∈ lw_all) (h6 : Cond.code y b L r ∈ lw_all) : GoodIn lw_all (va_wsSU own idx y (ws_ y b L r)) := by
  refine lw_app ?_ (lw_meth h6)
  intro w hw
  simp only [List.mem_cons, List.not_mem_nil, or_false] at hw
  rcases hw with e | e | e | e | e
  · rw [e]; exact h1
  · rw [e]; exact h2
  · rw [e]; exact h3
  · rw [e]; exact h4
  · rw [e]; exact h5
/-! the start's statics -/
theorem jS.fct {D : va_G} {s0 : State} {b0 : Nat} {A : Nat → Prop} {U : State} (h : jS D s0 b0 A U) {w : Cond} (hw : w ∈ flatC (Jvm.Cond.and given_1 narrow_1)) : w.before #[Value.ref b0] s0 = true := flat_of_before _ h.2.1 w hw
theorem jS.off {D : va_G} {s0 : State} {b0 : Nat} {A : Nat → Prop} {U : State} (h : jS D s0 b0 A U) : ∀ a : Nat, a < s0.heap.size → ¬ A a := fun a ha => (h.2.2.2.2.1 a ha).1
theorem jS.kp {D : va_G} {s0 : State} {b0 : Nat} {A : Nat → Prop} {U : State} (h : jS D s0 b0 A U) : ∀ a : Nat, a < s0.heap.size → ¬ A a → U.heap[a]? = s0.heap[a]? := fun a ha _ => (h.2.2.2.2.1 a ha).2
/-- what a static of the start refers to -/
def jst (s0 : State) (b0 : Nat) (C n d : String) : Nat := match (Term.static C n d).eval #[Value.ref b0] s0 none [] s0 with
  | some (.ref a) => a
  | _ => 0
theorem jst_of {s0 : State} {b0 : Nat} {C n d : String} {a : Nat} (h : (Term.static C n d).eval #[Value.ref b0] s0 none [] s0 = some (.ref a)) : jst s0 b0 C n d = a := by
  unfold jst
  rw [h]
theorem jS.Z {D : va_G} {s0 : State} {b0 : Nat} {A : Nat → Prop} {U : State} (h : jS D s0 b0 A U) {C n d : String} {v : Value} (hl : Cond.laysStatic C n d ∈ lw_tbl) (hi : Cond.initialized C ∈ lw_all) (hv : (Term.static C n d).eval #[Value.ref b0] s0 none [] s0 = some v) : va_Z C n d v A U U.heap :=
  va_Z.moved h.2.2.1.alike ((va_Zof (h.1 _ hl) (h.1 _ (lw_all_tbl hi)) hv h.off).kept h.kp)
/-- the empty array of ArrayList -/
def jEE (s0 : State) (b0 : Nat) : Nat := jst s0 b0 "java/util/ArrayList" "DEFAULTCAPACITY_EMPTY_ELEMENTDATA" "[Ljava/lang/Object;"
theorem jS.EE {D : va_G} {s0 : State} {b0 : Nat} {A : Nat → Prop} {U : State} (h : jS D s0 b0 A U) : va_Z "java/util/ArrayList" "DEFAULTCAPACITY_EMPTY_ELEMENTDATA" "[Ljava/lang/Object;" (.ref (jEE s0 b0)) A U U.heap ∧ va_T (.object "java/lang/Object") (jEE s0 b0) 0 (fun _ => .null) A U U.heap := by
  have h1 := h.fct (w := Cond.arrayOf (.static "java/util/ArrayList" "DEFAULTCAPACITY_EMPTY_ELEMENTDATA" "[Ljava/lang/Object;") (.object "java/lang/Object")) (by decide +kernel)
  have h2 := h.fct (w := Cond.eq (.length (.static "java/util/ArrayList" "DEFAULTCAPACITY_EMPTY_ELEMENTDATA" "[Ljava/lang/Object;")) (.int 0)) (by decide +kernel)
  obtain ⟨t, e1, e2⟩ := va_Tof (N := 0) (f := fun _ => Value.null) (by decide) h1 (va_eqt h2) (fun j hj => absurd hj (Nat.not_lt_zero j)) h.off
  have e : jEE s0 b0 = t := jst_of e1
  rw [e]
  exact ⟨h.Z q133 q68 e1, va_T.moved h.2.2.1.alike (e2.kept h.kp)⟩
theorem jS.EEo {D : va_G} {s0 : State} {b0 : Nat} {A : Nat → Prop} {U : State} (h : jS D s0 b0 A U) : va_O "[Ljava/lang/Object;" (jEE s0 b0) A U U.heap := by
  have h1 := h.fct (w := Cond.exactly (.static "java/util/ArrayList" "DEFAULTCAPACITY_EMPTY_ELEMENTDATA" "[Ljava/lang/Object;") "[Ljava/lang/Object;") (by decide +kernel)
  obtain ⟨a, c, cell, k, q1, q2, q3, q4, q5, q6, -⟩ := Cond.exactly_spec h1
  have e : jEE s0 b0 = a := jst_of q1
  rw [e]
  exact va_O.moved h.2.2.1.alike (va_O.kept ⟨cell, q3, q5, by rw [q6]; exact q2, h.off a (Array.getElem?_eq_some_iff.mp q3).1⟩ h.kp)
/-- the class object of a class, as the start has it -/
def jMi (s0 : State) (C : String) : Nat := match s0.vm.findClass C with
  | some c => match s0.vm.classes[c]? with
    | some k => k.mirror.getD 0
    | none => 0
  | none => 0
theorem jS.Mi {D : va_G} {s0 : State} {b0 : Nat} {A : Nat → Prop} {U : State} (h : jS D s0 b0 A U) {C : String} (hw : Cond.isRef (.mirror C) ∈ flatC (Jvm.Cond.and given_1 narrow_1)) : va_Mi C (jMi s0 C) U := by
  obtain ⟨mi, hm⟩ := va_Mi.of (h.fct hw)
  have e : jMi s0 C = mi := by
    obtain ⟨c, k, h1, h2, h3⟩ := hm
    simp [jMi, h1, h2, h3]
  rw [e]
  exact va_Mi.moved h.2.2.1.alike hm
/-! things that an array of objects may hold: objects of ours, arrays of ints, cached Integers -/
def jAI (s0 : State) (b0 : Nat) (k : Nat) : Nat := match (Term.elem (.static "java/lang/Integer$IntegerCache" "cache" "[Ljava/lang/Integer;") (.int (Int32.ofNat k))).eval #[Value.ref b0] s0 none [] s0 with
  | some (.ref a) => a
  | _ => 0
def jOb (s0 : State) (b0 : Nat) (D : va_G) (G : jG) (y : Nat) : Prop :=
  (∃ (ci : Nat) (vs : List Value) (r : vw_C), G y = some (jo ci vs) ∧ jcl[ci]? = some r ∧ Cond.castable r.1 "java/lang/Object" ∈ lw_tbl) ∨ (∃ (n : Nat) (f : Nat → Int32), G y = some (ji D n f)) ∨ ∃ k : Nat, k < 256 ∧ y = jAI s0 b0 k
theorem jS.IC {D : va_G} {s0 : State} {b0 : Nat} {A : Nat → Prop} {U : State} (h : jS D s0 b0 A U) : vb_C (jAI s0 b0) A U U.heap ∧ ∃ t : Nat, va_Z "java/lang/Integer$IntegerCache" "cache" "[Ljava/lang/Integer;" (.ref t) A U U.heap ∧ va_T (.object "java/lang/Integer") t 256 (fun j => .ref (jAI s0 b0 j)) A U U.heap := by
  have h1 := h.fct (w := Cond.arrayOf (.static "java/lang/Integer$IntegerCache" "cache" "[Ljava/lang/Integer;") (.object "java/lang/Integer")) (by decide +kernel)
  have h2 := h.fct (w := Cond.eq (.length (.static "java/lang/Integer$IntegerCache" "cache" "[Ljava/lang/Integer;")) (.int 256)) (by decide +kernel)
  have h3 := h.fct (w := Cond.all (.static "java/lang/Integer$IntegerCache" "cache" "[Ljava/lang/Integer;") (.and (.exactly (.elem (.static "java/lang/Integer$IntegerCache" "cache" "[Ljava/lang/Integer;") (.index 0)) "java/lang/Integer") (.eq (.field (.elem (.static "java/lang/Integer$IntegerCache" "cache" "[Ljava/lang/Integer;") (.index 0)) "java/lang/Integer" "value" "I") (.sub (.index 0) (.int 128))))) (by decide +kernel)
  obtain ⟨ad, e1, e2⟩ := vb_Cof rfl (va_eqt h2) h3 h.off
  have ea : ∀ k, k < 256 → jAI s0 b0 k = ad k := fun k hk => by
    unfold jAI
    rw [e2 k hk]
  obtain ⟨t, g1, g2⟩ := va_Tof (N := 256) (f := fun j => Value.ref (jAI s0 b0 j)) (by decide) h1 (va_eqt h2) (fun j hj => by rw [ea j hj]; exact e2 j hj) h.off
  refine ⟨vb_C.moved h.2.2.1.alike (vb_C.kept ⟨fun k hk => by rw [ea k hk]; exact e1.1 k hk, fun k hk => by
    have hk' := e1.2 k hk
    rw [← ea k hk] at hk'
    exact hk'⟩ h.kp), t, h.Z q2028 q109 g1, va_T.moved h.2.2.1.alike (g2.kept h.kp)⟩

section JL5
variable {p : Program} {l : Launch} {e : Env} {R : Room} {s : State} {m : MethodId} {args : Array Value} {below : List Frame} {meth : Method} {c : Code} {Q : State → Prop} {D : va_G} {s0 : State} {b0 : Nat} {A : Nat → Prop} {cc : ByteArray} {nL : Nat} {own : String} {G : jG} {bc bs pc : Nat} {lv : List (Nat × Value)} {st : List Value}
theorem jOb.any (hX : jX D s0 b0 A p s m args c cc nL own) {H : Heap} {locs : List Loc} (hG : jH D jcl A G H) (hS : va_S A s.heap H locs) {y : Nat} (hq1 : Cond.castable "[I" "java/lang/Object" ∈ lw_tbl) (hq2 : Cond.castable "java/lang/Integer" "java/lang/Object" ∈ lw_tbl) (h : jOb s0 b0 D G y) : va_Any "java/lang/Object" s H y := by
  rcases h with ⟨ci, vs, r, h1, h2, h3⟩ | ⟨n, f, h1⟩ | h
  · obtain ⟨C, T, N⟩ := r
    obtain ⟨cell, g1, g2, g3⟩ := jrecv hX.K hG h1 h2
    obtain ⟨kC, hkC, -⟩ := Vm.findClass_spec g3
    refine ⟨cell, g1, g2, ⟨kC, hkC⟩, fun comp hc => ?_⟩
    obtain ⟨c0, t0, f1, f2, f3⟩ := Cond.castable_spec (va_Nw.use (A := args) rfl (hX.S.cast h3))
    cases g3.symm.trans f1
    cases hc.symm.trans f2
    exact f3
  · have h0 : H[y]? = some (vp_cell (D.1 100) (n, .inl f)) := (hG _ _ h1).1
    have hn := va_nm_int (hX.K.2 0 _ rfl).2
    obtain ⟨kC, hkC, -⟩ := Vm.findClass_spec hn
    refine ⟨_, h0, rfl, ⟨kC, hkC⟩, fun comp hc => ?_⟩
    obtain ⟨c0, t0, f1, f2, f3⟩ := Cond.castable_spec (va_Nw.use (A := args) rfl (hX.S.cast hq1))
    cases hn.symm.trans f1
    cases hc.symm.trans f2
    exact f3
  · obtain ⟨k, hk, rfl⟩ := h
    obtain ⟨cell, g1, g2, g3, -⟩ := (hX.S.IC.1.1 k hk).kept hS.2.1
    obtain ⟨kC, hkC, -⟩ := Vm.findClass_spec g3
    refine ⟨cell, g1, g2, ⟨kC, hkC⟩, fun comp hc => ?_⟩
    obtain ⟨c0, t0, f1, f2, f3⟩ := Cond.castable_spec (va_Nw.use (A := args) rfl (hX.S.cast hq2))
    cases g3.symm.trans f1
    cases hc.symm.trans f2
    exact f3
theorem jr_aastO (hX : jX D s0 b0 A p s m args c cc nL own) {a n v : Nat} {f : Nat → Option Nat} {i : Int32} (hG : G a = some (jq D 101 n f)) (hv : jOb s0 b0 D G v) (hi : vp_in i n) (d : decode cc pc = .ok (.aastore, 1)) (kk : Jg p l e R s m args below meth c Q D A nL (jup G a (jq D 101 n (va_up f i.toNatClampNeg (some v)))) bc bs (pc + 1) lv st) : Jg p l e R s m args below meth c Q D A nL G bc bs pc lv (.ref v :: .int i :: .ref a :: st) := by
  intro H locs ls cells slots hG0 hS hl hc0 hs
  have hA := (hG0 _ _ hG).2
  have hlt : i.toNatClampNeg < n := Nat.not_le.mp fun q => hi (Or.inr q)
  have h0 : ¬ i < 0 := fun q => hi (Or.inl q)
  obtain ⟨cellV, g1, g3, ⟨kC, hkC⟩, hasg⟩ := hv.any hX hG0 hS q2262 q2243
  obtain ⟨kA, comp, k1, k2, k3, -⟩ := (hX.K.2 1 _ rfl).2
  obtain ⟨kE, hkE, -⟩ := Vm.findClass_spec k3
  refine W.aast hX.1 hX.2.1 (hG0 _ _ hG).1 (fun q h => by cases h) (fun h => by cases h) k1 k2 rfl hkE ⟨h0, by show _ < (arrV _ _ _).slots.size; rw [arrV_size]; exact hlt⟩ g1 (fun q h => by rw [h] at g3; cases g3) hkC (hasg _ k3) rfl rfl d fun H1 e z oq => ?_
  refine kk H1 _ ls cells slots (hG0.set hA ?_ oq) (hS.put z oq hA) hl hc0 hs
  show H1[a]? = some (vp_cell _ _)
  rw [e]
  rw [vp_cell_q, vp_cell_q, arrV_store]
  congr 2
  funext q
  by_cases hq : q = i.toNatClampNeg
  · subst hq
    simp [updV, va_up, va_rf]
  · simp [updV, va_up, hq]
theorem jr_gets (hX : jX D s0 b0 A p s m args c cc nL own) {C n2 d2 ref : String} {v : Value} {index : Nat} (hZ : va_Z C n2 d2 v A s s.heap) (hq : Cond.fieldLink own index ref n2 d2 ∈ lw_all) (hsame : ∀ x, s.fieldFound? C n2 d2 = some x → s.fieldFound? ref n2 d2 = some x) (d : decode cc pc = .ok (.getstatic index, 3)) (kk : Jg p l e R s m args below meth c Q D A nL G bc bs (pc + 3) lv (v :: st)) : Jg p l e R s m args below meth c Q D A nL G bc bs pc lv st :=
  fun H locs ls cells slots hG hS hl hc hs => va_gets hX.1 hX.2.1 hZ hS hX.2.2.2.1 (hX.ts _ hq) hsame d (kk H locs ls cells slots hG hS hl hc hs)
theorem jr_tlen (hX : jX D s0 b0 A p s m args c cc nL own) {ty : FieldType} {t N : Nat} {f : Nat → Value} {v : Int32} (hT : va_T ty t N f A s s.heap) (hv : Int32.ofNat N = v) (d : decode cc pc = .ok (.arraylength, 1)) (kk : Jg p l e R s m args below meth c Q D A nL G bc bs (pc + 1) lv (.int v :: st)) : Jg p l e R s m args below meth c Q D A nL G bc bs pc lv (.ref t :: st) :=
  fun H locs ls cells slots hG hS hl hc hs => va_tlen hX.1 hX.2.1 hT hS hv d (kk H locs ls cells slots hG hS hl hc hs)
/-- a world of one or two cells, for the kit's rows -/
theorem jP1 {D : va_G} {A : Nat → Prop} {G : jG} {H : Heap} (h : jH D jcl A G H) {a : Nat} {y : va_E} (ha : G a = some (.inl y)) : va_P D jcl [(a, y)] H := fun k q hq => by
  cases k with
  | zero => cases hq; exact (h _ _ ha).1
  | succ k => cases hq
theorem jP2 {D : va_G} {A : Nat → Prop} {G : jG} {H : Heap} (h : jH D jcl A G H) {a b : Nat} {y z : va_E} (ha : G a = some (.inl y)) (hb : G b = some (.inl z)) : va_P D jcl [(a, y), (b, z)] H := fun k q hq => by
  match k, hq with
  | 0, hq => cases hq; exact (h _ _ ha).1
  | 1, hq => cases hq; exact (h _ _ hb).1
  | k + 2, hq => cases hq
/-- the locals, listed anew: by look-up -/
theorem jr_lvm (lv2 : List (Nat × Value)) (h : lv2.map (fun q => lv.lookup q.1) = lv2.map (fun q => some q.2)) (k : Jg p l e R s m args below meth c Q D A nL G bc bs pc lv2 st) : Jg p l e R s m args below meth c Q D A nL G bc bs pc lv st := by
  refine jr_lv (lv' := lv2) (fun q hq => ?_) k
  obtain ⟨i, hi⟩ := List.getElem?_of_mem hq
  have h1 := congrArg (fun z => z[i]?) h
  simp only [List.getElem?_map, hi, Option.map_some] at h1
  obtain ⟨j, hj⟩ := jlk_m (Option.some.inj h1)
  exact List.mem_of_getElem? hj
/-- System.arraycopy between arrays of objects (they may be one) -/
theorem jr_copyq (hX : jX D s0 b0 A p s m args c cc nL own) {a0 a n0 n1 index : Nat} {f g : Nat → Option Nat} {sp dp n : Int32} (hlink : Cond.methodLink own index arraycopyName ∈ lw_all) (hnat : Cond.native arraycopyName ∈ lw_all) (hstat : Cond.static arraycopyName ∈ lw_all) (hini : Cond.initialized "java/lang/System" ∈ lw_all) (hG0 : G a0 = some (jq D 101 n0 f)) (hG1 : G a = some (jq D 101 n1 g))
    (h1 : ¬ sp < 0) (h2 : ¬ dp < 0) (h3 : ¬ n < 0) (h4 : sp.toNatClampNeg + n.toNatClampNeg ≤ n0) (h5 : dp.toNatClampNeg + n.toNatClampNeg ≤ n1) (hel : ∀ i : Nat, i < n.toNatClampNeg → ∀ y : Nat, f (sp.toNatClampNeg + i) = some y → jOb s0 b0 D G y) (hRf : 1 ≤ R.frames) (hRl : (st.map fun v => v.category).sum + (nativeFrameWords "java/lang/System" "arraycopy" 5 + 11) ≤ R.locals) (d : decode cc pc = .ok (.invokestatic index, 3))
    (kk : Jg p l e R s m args below meth c Q D A nL (jup G a (jq D 101 n1 (va_cpy f g sp.toNatClampNeg dp.toNatClampNeg n.toNatClampNeg))) bc bs (pc + 3) lv st) : Jg p l e R s m args below meth c Q D A nL G bc bs pc lv (.int n :: .int dp :: .ref a :: .int sp :: .ref a0 :: st) := by
  intro H locs ls cells slots hGH hS hl hc0 hs
  have hA := (hGH _ _ hG1).2
  have nn : ∀ z : Int32, ¬ z < 0 → z.toInt = (z.toNatClampNeg : Int) := by
    intro z hz
    have hz0 : (0 : Int) ≤ z.toInt := by
      have := Int32.not_lt.mp hz
      simpa using Int32.le_iff_toInt_le.mp this
    show z.toInt = ((z.toInt.toNat : Nat) : Int)
    omega
  intro T hT X
  have hc0' : H[a0]? = some (vp_cell (D.1 101) (n0, .inr (.inr (.inr (.inr f))))) := (hGH _ _ hG0).1
  have hc1 : H[a]? = some (vp_cell (D.1 101) (n1, .inr (.inr (.inr (.inr g))))) := (hGH _ _ hG1).1
  obtain ⟨-, k0, hk0, cm0, hkk0⟩ := (hX.K.2 1 _ rfl).1 n0 (fun j => va_rf (f j))
  obtain ⟨-, k1, hk1, cm1, hkk1⟩ := (hX.K.2 1 _ rfl).1 n1 (fun j => va_rf (g j))
  obtain ⟨vm', X', step⟩ := X.arraycopy hX.1 hX.2.2.2.1 (hX.ts _ hlink) (hX.ts _ hnat) (hX.ts _ hstat) (hX.ts _ hini) (src := a0) (dst := a) (cs := vp_cell (D.1 101) (n0, .inr (.inr (.inr (.inr f))))) (cd := vp_cell (D.1 101) (n1, .inr (.inr (.inr (.inr g))))) (srcPos := sp) (destPos := dp) (n := n) (by rw [hT]; exact hc0') (by rw [hT]; exact hc1)
    (fun _ h => by cases h) (fun _ h => by cases h) (fun h => by cases h) (fun h => by cases h) hk0 hk1 hkk0 hkk1 rfl h1 h2 h3
    (by rw [nn sp h1, nn n h3]; show ¬ _ > ((arrV _ n0 (fun j => va_rf (f j))).slots.size : Int); rw [arrV_size]; omega)
    (by rw [nn dp h2, nn n h3]; show ¬ _ > ((arrV _ n1 (fun j => va_rf (g j))).slots.size : Int); rw [arrV_size]; omega)
    (fun vm₁ hal i hi => by
      have e : (vp_cell (D.1 101) (n0, .inr (.inr (.inr (.inr f))))).slots.getD (sp.toNatClampNeg + i) .null = va_rf (f (sp.toNatClampNeg + i)) := by
        show (arrV _ n0 (fun j => va_rf (f j))).slots.getD _ _ = _
        rw [Array.getD_eq_getD_getElem?, arrV_read _ _ (by omega)]
        rfl
      rw [e]
      cases hy : f (sp.toNatClampNeg + i) with
      | none => exact ⟨rfl, trivial⟩
      | some y =>
        obtain ⟨cellV, g1, g2, ⟨kC, hkC⟩, hasg⟩ := (hel i hi y hy).any hX hGH hS q2262 q2243
        obtain ⟨kA, comp, r1, r2, r3, -⟩ := (hX.K.2 1 _ rfl).2
        cases hk1.symm.trans r1
        cases hkk1.symm.trans r2
        obtain ⟨kE, hkE, -⟩ := Vm.findClass_spec r3
        obtain ⟨kC', hkC', -⟩ := hal.2.2 _ _ hkC
        obtain ⟨kE', hkE', -⟩ := hal.2.2 _ _ hkE
        refine ⟨rfl, cellV, (show T.heap[y]? = some cellV by rw [hT]; exact g1), (fun q h => by rw [h] at g2; cases g2), ⟨kC', hkC'⟩, ?_, ?_⟩
        · exact ⟨kE', hkE'⟩
        · show vm₁.assignable _ _ = true
          rw [hal.assignable]
          exact hasg _ r3)
    (g := F0 m pc ls (.int n :: .int dp :: .ref a :: .int sp :: .ref a0 :: st)) rfl (by rw [hX.2.2.1]; exact hl.1) (rest := st) rfl (by rw [hX.2.1]; exact d) hRf (by show 2 * 0 + _ + _ ≤ _; omega)
  have e1 : copied (vp_cell (D.1 101) (n0, .inr (.inr (.inr (.inr f))))) (vp_cell (D.1 101) (n1, .inr (.inr (.inr (.inr g))))) sp dp n = vp_cell (D.1 101) (n1, .inr (.inr (.inr (.inr (va_cpy f g sp.toNatClampNeg dp.toNatClampNeg n.toNatClampNeg))))) := by
    rw [vp_cell_q, vp_cell_q, vp_cell_q]
    exact va_copied (fun z => va_rf z) _ _ f g h4
  rw [e1] at X' step
  have hl1 : a < H.size := (Array.getElem?_eq_some_iff.mp hc1).1
  have hheap : ((T.setVm vm').setCell a (vp_cell (D.1 101) (n1, .inr (.inr (.inr (.inr (va_cpy f g sp.toNatClampNeg dp.toNatClampNeg n.toNatClampNeg))))))).heap = H.setIfInBounds a (vp_cell (D.1 101) (n1, .inr (.inr (.inr (.inr (va_cpy f g sp.toNatClampNeg dp.toNatClampNeg n.toNatClampNeg)))))) := by rw [← hT]; rfl
  have oq : ∀ q : Nat, q ≠ a → (H.setIfInBounds a (vp_cell (D.1 101) (n1, .inr (.inr (.inr (.inr (va_cpy f g sp.toNatClampNeg dp.toNatClampNeg n.toNatClampNeg)))))))[q]? = H[q]? := fun q hq => by simp [Array.getElem?_setIfInBounds, Ne.symm hq]
  obtain ⟨t, a1, b1⟩ := kk _ _ ls cells slots (hGH.set hA (show (H.setIfInBounds a _)[a]? = some _ by simp [Array.getElem?_setIfInBounds, hl1]) oq) ⟨by simp; exact hS.1, fun q g1 g2 => by
      rw [oq q (fun e => g2 (by rw [e]; exact hA))]
      exact hS.2.1 q g1 g2, fun q hq => by
      rcases List.mem_append.mp hq with h | h
      · exact hS.2.2 q h
      · obtain ⟨z, -, hz⟩ := List.mem_map.mp h
        rw [← hz]
        exact hA⟩ hl hc0 hs _ hheap X'
  exact ⟨t, step t a1, b1⟩
theorem jr_ldc (hX : jX D s0 b0 A p s m args c cc nL own) {v : Int32} {index : Nat} (hq : Cond.constant own index v ∈ lw_all) (d : decode cc pc = .ok (.ldc index, 2)) (kk : Jg p l e R s m args below meth c Q D A nL G bc bs (pc + 2) lv (.int v :: st)) : Jg p l e R s m args below meth c Q D A nL G bc bs pc lv st :=
  fun H locs ls cells slots hG hS hl hc hs => lv_ldc hX.1 hX.2.1 hX.2.2.2.1 (hX.ts _ hq) d (kk H locs ls cells slots hG hS hl hc hs)
theorem jr_ldcM (hX : jX D s0 b0 A p s m args c cc nL own) {C : String} {mi index : Nat} (hq : Cond.classLink own index C ∈ lw_all) (hM : va_Mi C mi s) (d : decode cc pc = .ok (.ldc index, 2)) (kk : Jg p l e R s m args below meth c Q D A nL G bc bs (pc + 2) lv (.ref mi :: st)) : Jg p l e R s m args below meth c Q D A nL G bc bs pc lv st :=
  fun H locs ls cells slots hG hS hl hc hs => va_ldcM hX.1 hX.2.1 hX.2.2.2.1 (hX.ts _ hq) hM d (kk H locs ls cells slots hG hS hl hc hs)
theorem jr_getCO (hX : jX D s0 b0 A p s m args c cc nL own) {a ci mi index : Nat} {fs : List Value} {C : String} {T : u_T} {N : Nat} (hG : G a = some (jo ci fs)) (hc9 : jcl[ci]? = some (C, T, N)) (hM : va_Mi C mi s) (hlink : Cond.methodLink own index ⟨"java/lang/Object", "getClass", "()Ljava/lang/Class;"⟩ ∈ lw_all) (hdecl : Cond.declares ⟨"java/lang/Object", "getClass", "()Ljava/lang/Class;"⟩ ∈ lw_tbl) (hsel : Cond.selects C ⟨"java/lang/Object", "getClass", "()Ljava/lang/Class;"⟩ ⟨"java/lang/Object", "getClass", "()Ljava/lang/Class;"⟩ ∈ lw_all) (hinst : Cond.instanceMethod ⟨"java/lang/Object", "getClass", "()Ljava/lang/Class;"⟩ ∈ lw_all) (hnat : Cond.native ⟨"java/lang/Object", "getClass", "()Ljava/lang/Class;"⟩ ∈ lw_all) (hRf : 1 ≤ R.frames) (hRl : (st.map fun v => v.category).sum + 14 ≤ R.locals) (d : decode cc pc = .ok (.invokevirtual index, 3)) (kk : Jg p l e R s m args below meth c Q D A nL G bc bs (pc + 3) lv (.ref mi :: st)) : Jg p l e R s m args below meth c Q D A nL G bc bs pc lv (.ref a :: st) :=
  fun H locs ls cells slots hG1 hS hl hc hs => va_getC hX.1 hX.2.1 (by rw [hX.2.2.1]; exact hl.1.symm) hX.2.2.2.1 (hX.ts _ hlink) (va_Nw.use rfl (hX.S.decl hdecl)) (hX.ts _ hsel) (hX.ts _ hinst) (hX.ts _ hnat) hM (jrecv hX.K hG1 hG hc9) hRf hRl d (kk H locs ls cells slots hG1 hS hl hc hs)
theorem jr_getCA (hX : jX D s0 b0 A p s m args c cc nL own) {a mi index n : Nat} {f : Nat → Option Nat} (hG : G a = some (jq D 101 n f)) (hM : va_Mi "[Ljava/lang/Object;" mi s) (hlink : Cond.methodLink own index ⟨"java/lang/Object", "getClass", "()Ljava/lang/Class;"⟩ ∈ lw_all) (hdecl : Cond.declares ⟨"java/lang/Object", "getClass", "()Ljava/lang/Class;"⟩ ∈ lw_tbl) (hsel : Cond.selects "[Ljava/lang/Object;" ⟨"java/lang/Object", "getClass", "()Ljava/lang/Class;"⟩ ⟨"java/lang/Object", "getClass", "()Ljava/lang/Class;"⟩ ∈ lw_all) (hinst : Cond.instanceMethod ⟨"java/lang/Object", "getClass", "()Ljava/lang/Class;"⟩ ∈ lw_all) (hnat : Cond.native ⟨"java/lang/Object", "getClass", "()Ljava/lang/Class;"⟩ ∈ lw_all) (hRf : 1 ≤ R.frames) (hRl : (st.map fun v => v.category).sum + 14 ≤ R.locals) (d : decode cc pc = .ok (.invokevirtual index, 3)) (kk : Jg p l e R s m args below meth c Q D A nL G bc bs (pc + 3) lv (.ref mi :: st)) : Jg p l e R s m args below meth c Q D A nL G bc bs pc lv (.ref a :: st) :=
  fun H locs ls cells slots hG1 hS hl hc hs => va_getC hX.1 hX.2.1 (by rw [hX.2.2.1]; exact hl.1.symm) hX.2.2.2.1 (hX.ts _ hlink) (va_Nw.use rfl (hX.S.decl hdecl)) (hX.ts _ hsel) (hX.ts _ hinst) (hX.ts _ hnat) hM ⟨_, (hG1 _ _ hG).1, rfl, va_nmO (hX.K.2 1 _ rfl).2 rfl⟩ hRf hRl d (kk H locs ls cells slots hG1 hS hl hc hs)
theorem jr_castA (hX : jX D s0 b0 A p s m args c cc nL own) {a k index : Nat} {x : vp_A} {nm : String} (hG : G a = some (.inl (.inl (D.1 k, x)))) (hq : Cond.classLink own index nm ∈ lw_all) (hnm : s.vm.findClass nm = some (D.1 k)) (d : decode cc pc = .ok (.checkcast index, 3)) (kk : Jg p l e R s m args below meth c Q D A nL G bc bs (pc + 3) lv (.ref a :: st)) : Jg p l e R s m args below meth c Q D A nL G bc bs pc lv (.ref a :: st) :=
  fun H locs ls cells slots hG1 hS hl hc hs => va_castA hX.1 hX.2.1 hX.2.2.2.1 (hX.ts _ hq) (jP1 hG1 hG) 0 rfl hnm d (kk H locs ls cells slots hG1 hS hl hc hs)
/-- clone() of an int array -/
theorem jr_clonei (hX : jX D s0 b0 A p s m args c cc nL own) {a n bc1 bs1 index : Nat} {f : Nat → Int32} (hG : G a = some (ji D n f)) (hlink : Cond.methodLink own index ⟨"[I", "clone", "()Ljava/lang/Object;"⟩ ∈ lw_all) (hsame : Cond.sameMethod "[I" "java/lang/Object" "clone" "()Ljava/lang/Object;" ∈ lw_all)
    (hnat : Cond.native ⟨"java/lang/Object", "clone", "()Ljava/lang/Object;"⟩ ∈ lw_all) (hinst : Cond.instanceMethod ⟨"java/lang/Object", "clone", "()Ljava/lang/Object;"⟩ ∈ lw_all)
    (hsel : Cond.selects "[I" ⟨"[I", "clone", "()Ljava/lang/Object;"⟩ ⟨"java/lang/Object", "clone", "()Ljava/lang/Object;"⟩ ∈ lw_all) (hcl : Cond.castable "[I" "java/lang/Cloneable" ∈ lw_tbl) (hRf : 1 ≤ R.frames) (hRl : (st.map fun v => v.category).sum + 14 ≤ R.locals) (hbc : bc1 + 1 ≤ bc) (hbs : bs1 + n ≤ bs) (d : decode cc pc = .ok (.invokevirtual index, 3))
    (kk : ∀ q : Nat, G q = none → A q → Jg p l e R s m args below meth c Q D A nL (jup G q (ji D n f)) bc1 bs1 (pc + 3) lv (.ref q :: st)) : Jg p l e R s m args below meth c Q D A nL G bc bs pc lv (.ref a :: st) := by
  intro H locs ls cells slots hGH hS hl hc0 hs
  have hA : A H.size := hX.2.2.2.2.2.2 _ hS.1
  have hnm : s.vm.findClass "[I" = some (D.1 100) := va_nm_int (hX.K.2 0 _ rfl).2
  have hsz : (vp_cell (D.1 100) (n, .inl f)).slots.size = n := arrV_size _ _ _
  have hcellE : ({ cls := (vp_cell (D.1 100) (n, .inl f)).cls, slots := (vp_cell (D.1 100) (n, .inl f)).slots } : Cell) = vp_cell (D.1 100) (n, .inl f) := rfl
  obtain ⟨c0, t0', f1, f2, f3⟩ := Cond.castable_spec (va_Nw.use (A := args) rfl (hX.S.cast hcl))
  cases hnm.symm.trans f1
  intro T hT X
  have hcellT : T.heap[a]? = some (vp_cell (D.1 100) (n, .inl f)) := by rw [hT]; exact (hGH _ _ hG).1
  obtain ⟨-, kA, hkA, comp, hkind⟩ := State.isArrayOf_alike X.warmed.alike ((hX.K.2 0 _ rfl).1 0 (fun _ => .null))
  obtain ⟨-, kS, hkS, compS, hkindS⟩ := (hX.K.2 0 _ rfl).1 0 (fun _ => .null)
  obtain ⟨vm', X', st9⟩ := X.cloneArray hX.1 hX.2.2.2.1 (hX.ts _ hlink) (hX.ts _ hsame) (hX.ts _ hnat) (hX.ts _ hinst) (hX.ts _ hsel) (a := a) (cell := vp_cell (D.1 100) (n, .inl f)) hcellT (fun k h => by cases h) (fun h => by cases h) hnm f2 f3
    (fun i v hv => by
      have hk' : T.vm.classes[D.1 100]? = some kA := hkA
      have hf := va_fit (cA := D.1 100) (n := n) (F := fun j => Value.int (f j)) (ty := .int) (fun _ _ => rfl) i v hv
      have hkd : kA.kind = .array comp .int := hkind
      show T.fitsSlot (D.1 100) .none i v = true
      simpa [State.fitsSlot, State.slotType?, hk', hkd] using hf)
    (g := F0 m pc ls (.ref a :: st)) rfl (by rw [hX.2.2.1]; exact hl.1) rfl (by rw [hX.2.1]; exact d) hRf (by show 2 * 0 + _ + 14 ≤ _; omega) (by omega) (by rw [hsz]; omega) (hloader := Vm.clonesLoader_of_array hkS hkindS)
  rw [hcellE, hsz] at X'
  generalize hH1 : H.push (vp_cell (D.1 100) (n, .inl f)) = H1
  have z1 : H1.size = H.size + 1 := by rw [← hH1, Array.size_push]
  have e1 : H1[H.size]? = some (vp_cell (D.1 100) (n, .inl f)) := by rw [← hH1, Array.getElem?_push_size]
  have o1 : ∀ q : Nat, q < H.size → H1[q]? = H[q]? := fun q hq => by rw [← hH1, Array.getElem?_push, if_neg (Nat.ne_of_lt hq)]
  obtain ⟨t, b1, b2⟩ := kk H.size hGH.fresh hA H1 locs ls (cells + 1) (slots + n) (hGH.push hA e1 o1) (jS_push hS (by omega) o1) hl (by omega) (by omega)
    ((T.setVm vm').pushCell (vp_cell (D.1 100) (n, .inl f))) (by rw [← hH1, ← hT]; rfl) X'
  refine ⟨t, st9 t ?_, b2⟩
  rw [hcellE, hT]
  exact b1
/-- the empty array's class; a copy out of it -/
theorem jr_getCE (hX : jX D s0 b0 A p s m args c cc nL own) {mi index : Nat} (hM : va_Mi "[Ljava/lang/Object;" mi s) (hlink : Cond.methodLink own index ⟨"java/lang/Object", "getClass", "()Ljava/lang/Class;"⟩ ∈ lw_all) (hdecl : Cond.declares ⟨"java/lang/Object", "getClass", "()Ljava/lang/Class;"⟩ ∈ lw_tbl) (hsel : Cond.selects "[Ljava/lang/Object;" ⟨"java/lang/Object", "getClass", "()Ljava/lang/Class;"⟩ ⟨"java/lang/Object", "getClass", "()Ljava/lang/Class;"⟩ ∈ lw_all) (hinst : Cond.instanceMethod ⟨"java/lang/Object", "getClass", "()Ljava/lang/Class;"⟩ ∈ lw_all) (hnat : Cond.native ⟨"java/lang/Object", "getClass", "()Ljava/lang/Class;"⟩ ∈ lw_all) (hRf : 1 ≤ R.frames) (hRl : (st.map fun v => v.category).sum + 14 ≤ R.locals) (d : decode cc pc = .ok (.invokevirtual index, 3)) (kk : Jg p l e R s m args below meth c Q D A nL G bc bs (pc + 3) lv (.ref mi :: st)) : Jg p l e R s m args below meth c Q D A nL G bc bs pc lv (.ref (jEE s0 b0) :: st) :=
  fun H locs ls cells slots hG hS hl hc hs => va_getC hX.1 hX.2.1 (by rw [hX.2.2.1]; exact hl.1.symm) hX.2.2.2.1 (hX.ts _ hlink) (va_Nw.use rfl (hX.S.decl hdecl)) (hX.ts _ hsel) (hX.ts _ hinst) (hX.ts _ hnat) hM (va_Orecv hX.S.EEo hS) hRf hRl d (kk H locs ls cells slots hG hS hl hc hs)
theorem jr_copyE (hX : jX D s0 b0 A p s m args c cc nL own) {a n1 index : Nat} {g : Nat → Option Nat} (hlink : Cond.methodLink own index arraycopyName ∈ lw_all) (hnat : Cond.native arraycopyName ∈ lw_all) (hstat : Cond.static arraycopyName ∈ lw_all) (hini : Cond.initialized "java/lang/System" ∈ lw_all) (hG1 : G a = some (jq D 101 n1 g)) (hRf : 1 ≤ R.frames) (hRl : (st.map fun v => v.category).sum + (nativeFrameWords "java/lang/System" "arraycopy" 5 + 11) ≤ R.locals) (d : decode cc pc = .ok (.invokestatic index, 3))
    (kk : Jg p l e R s m args below meth c Q D A nL G bc bs (pc + 3) lv st) : Jg p l e R s m args below meth c Q D A nL G bc bs pc lv (.int 0 :: .int 0 :: .ref a :: .int 0 :: .ref (jEE s0 b0) :: st) := by
  intro H locs ls cells slots hGH hS hl hc0 hs
  have hA := (hGH _ _ hG1).2
  intro T hT X
  obtain ⟨scr, hs1, ⟨hs2, k0, hk0, cm0, hkk0⟩, hs3, -, -, -, hs7⟩ := hX.S.EE.2
  have hc0' : H[jEE s0 b0]? = some scr := by rw [hS.2.1 _ (Array.getElem?_eq_some_iff.mp hs1).1 hs7]; exact hs1
  have hc1 : H[a]? = some (vp_cell (D.1 101) (n1, .inr (.inr (.inr (.inr g))))) := (hGH _ _ hG1).1
  obtain ⟨-, k1, hk1, cm1, hkk1⟩ := (hX.K.2 1 _ rfl).1 n1 (fun j => va_rf (g j))
  obtain ⟨vm', X', step⟩ := X.arraycopy hX.1 hX.2.2.2.1 (hX.ts _ hlink) (hX.ts _ hnat) (hX.ts _ hstat) (hX.ts _ hini) (src := jEE s0 b0) (dst := a) (cs := scr) (cd := vp_cell (D.1 101) (n1, .inr (.inr (.inr (.inr g))))) (srcPos := 0) (destPos := 0) (n := 0) (by rw [hT]; exact hc0') (by rw [hT]; exact hc1)
    hs2 (fun _ h => by cases h) hs3 (fun h => by cases h) hk0 hk1 hkk0 hkk1 rfl (by decide) (by decide) (by decide)
    (by simp) (by simp)
    (fun vm₁ hal i hi => absurd hi (Nat.not_lt_zero i))
    (g := F0 m pc ls (.int 0 :: .int 0 :: .ref a :: .int 0 :: .ref (jEE s0 b0) :: st)) rfl (by rw [hX.2.2.1]; exact hl.1) (rest := st) rfl (by rw [hX.2.1]; exact d) hRf (by show 2 * 0 + _ + _ ≤ _; omega)
  have e1 : copied scr (vp_cell (D.1 101) (n1, .inr (.inr (.inr (.inr g))))) 0 0 0 = vp_cell (D.1 101) (n1, .inr (.inr (.inr (.inr g)))) := by
    rw [vp_cell_q]
    have h9 := va_copiedX (fun z => va_rf z) scr (D.1 101) (n0 := 0) (n1 := n1) (sp := 0) (dp := 0) (n := 0) (fun _ => none) g (fun j hj => absurd hj (Nat.not_lt_zero j)) (by decide)
    refine Eq.trans h9 ?_
    congr 1
  rw [e1] at X' step
  have hl1 : a < H.size := (Array.getElem?_eq_some_iff.mp hc1).1
  have hheap : ((T.setVm vm').setCell a (vp_cell (D.1 101) (n1, .inr (.inr (.inr (.inr g)))))).heap = H.setIfInBounds a (vp_cell (D.1 101) (n1, .inr (.inr (.inr (.inr g))))) := by rw [← hT]; rfl
  have oq : ∀ q : Nat, q ≠ a → (H.setIfInBounds a (vp_cell (D.1 101) (n1, .inr (.inr (.inr (.inr g))))))[q]? = H[q]? := fun q hq => by simp [Array.getElem?_setIfInBounds, Ne.symm hq]
  have hup : jup G a (jq D 101 n1 g) = G := by
    funext b
    by_cases hb : b = a
    · subst hb; rw [jup_s, hG1]
    · rw [jup_n hb]
  obtain ⟨t, a1, b1⟩ := kk _ _ ls cells slots (hup ▸ hGH.set hA (show (H.setIfInBounds a _)[a]? = some _ by simp [Array.getElem?_setIfInBounds, hl1]) oq) ⟨by simp; exact hS.1, fun q g1 g2 => by
      rw [oq q (fun e => g2 (by rw [e]; exact hA))]
      exact hS.2.1 q g1 g2, fun q hq => by
      rcases List.mem_append.mp hq with h | h
      · exact hS.2.2 q h
      · obtain ⟨z, -, hz⟩ := List.mem_map.mp h
        rw [← hz]
        exact hA⟩ hl hc0 hs _ hheap X'
  exact ⟨t, step t a1, b1⟩
end JL5
