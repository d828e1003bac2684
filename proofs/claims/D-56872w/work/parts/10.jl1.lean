/-! THE LAYER Jg: a walk over a heap that is a function from addresses to cells; the start's world rides whole (jS) -/
abbrev jE : Type := va_E ⊕ (ClassId × List Value)
abbrev jG : Type := Nat → Option jE
def jat (D : va_G) (cl : List vw_C) (a : Nat) (x : jE) (H : Heap) : Prop := match x with
  | .inl y => va_at D cl (a, y) H
  | .inr y => H[a]? = some { cls := y.1, slots := y.2.toArray, vm := .none }
def jH (D : va_G) (cl : List vw_C) (A : Nat → Prop) (G : jG) (H : Heap) : Prop := ∀ a x, G a = some x → jat D cl a x H ∧ A a
def jup (G : jG) (a : Nat) (x : jE) : jG := fun b => if b = a then some x else G b
theorem jup_s {G : jG} {a : Nat} {x : jE} : jup G a x a = some x := by simp [jup]
theorem jup_n {G : jG} {a b : Nat} {x : jE} (h : b ≠ a) : jup G a x b = G b := by simp [jup, h]
theorem jup_jup {G : jG} {a : Nat} {x y : jE} : jup (jup G a x) a y = jup G a y := by
  funext b
  by_cases h : b = a
  · subst h; simp [jup]
  · simp [jup, h]
/-- a fact about another cell rides over a write -/
theorem jup_o {G : jG} {a b : Nat} {x y z : jE} (hb : G b = some z) (ha : G a = some y) (h : z ≠ y) : jup G a x b = some z := by
  rw [jup_n (fun q => h (by subst q; exact Option.some.inj (hb.symm.trans ha)))]; exact hb
theorem jup_f {G : jG} {a b : Nat} {x z : jE} (hb : G b = some z) (ha : G a = none) : jup G a x b = some z := by
  rw [jup_n (fun q => by subst q; rw [ha] at hb; cases hb)]; exact hb
theorem jne {G : jG} {a b : Nat} {y z : jE} (hb : G b = some z) (ha : G a = some y) (h : z ≠ y) : b ≠ a := fun q => h (by subst q; exact Option.some.inj (hb.symm.trans ha))
-- cells: objects, arrays of ints (of booleans, bytes, chars: by their class), of references, of longs, of doubles
abbrev jo (k : Nat) (fs : List Value) : jE := .inl (.inr (k, fs))
abbrev ji (D : va_G) (n : Nat) (f : Nat → Int32) : jE := .inl (.inl (D.1 100, n, .inl f))
abbrev jq (D : va_G) (k : Nat) (n : Nat) (f : Nat → Option Nat) : jE := .inl (.inl (D.1 k, n, .inr (.inr (.inr (.inr f)))))
abbrev jlg (D : va_G) (n : Nat) (f : Nat → Int64) : jE := .inl (.inl (D.1 105, n, .inr (.inl f)))
abbrev jdb (D : va_G) (n : Nat) (f : Nat → UInt64) : jE := .inl (.inl (D.1 106, n, .inr (.inr (.inr (.inl f)))))
abbrev jtys (D : va_G) : List (ClassId × FieldType) := [(D.1 100, .int), (D.1 101, .object "java/lang/Object"), (D.1 102, .object "SwapWhile$Strand"), (D.1 103, .object "SwapWhile$Carry"), (D.1 104, .array .int), (D.1 105, .long), (D.1 106, .double), (D.1 107, .object "SwapWhile$Code")]
abbrev jcl : List vw_C := [(RJ2, TJ2, 3), (RJ18, TJ18, 4), (RX1, TX1, 12), (RX2, TX2, 2), (RX3, TX3, 5), (RX4, TX4, 2), (RX13, TX13, 5), (RX15, TX15, 3), (RX16, TX16, 5), (RX10, TX10, 4), (RJ24, TJ24, 1), (RX5, TX5, 14), (RX6, TX6, 7), (RX7, TX7, 2), (RX11, TX11, 4), (RX14, TX14, 5), (RX17, TX17, 3), (RX18, TX18, 6)]
/-- THE START's WORLD, which every contract carries: a state s0 in which all that the claim gives held; since then only A's cells were written -/
def jS (D : va_G) (s0 : State) (b0 : Nat) (A : Nat → Prop) (U : State) : Prop :=
  (∀ w ∈ lw_tbl, w.before #[Value.ref b0] s0 = true) ∧ (Jvm.Cond.and given_1 narrow_1).before #[Value.ref b0] s0 = true ∧ s0.WarmedH U.vm ∧ s0.heap.size ≤ U.heap.size ∧ (∀ q : Nat, q < s0.heap.size → ¬ A q ∧ U.heap[q]? = s0.heap[q]?) ∧ va_K D jcl (jtys D) s0
theorem jS.to {D : va_G} {s0 : State} {b0 : Nat} {A : Nat → Prop} {s U : State} {H : Heap} {locs : List Loc} (h : jS D s0 b0 A s) (hS : va_S A s.heap H locs) (hU : U.heap = H) (hW : s.WarmedH U.vm) : jS D s0 b0 A U := by
  obtain ⟨h1, h2, h3, h4, h5, h6⟩ := h
  refine ⟨h1, h2, State.WarmedH.trans h3 hW, by rw [hU]; exact Nat.le_trans h4 hS.1, fun q hq => ⟨(h5 q hq).1, ?_⟩, h6⟩
  rw [hU, hS.2.1 q (Nat.lt_of_lt_of_le hq h4) (h5 q hq).1]
  exact (h5 q hq).2
theorem jS.calling {D : va_G} {s0 : State} {b0 : Nat} {A : Nat → Prop} {U : State} {g : JFrame} {mk : MethodId} {a : Array Value} (h : jS D s0 b0 A U) : jS D s0 b0 A (U.calling g mk a) := h
theorem jS.K {D : va_G} {s0 : State} {b0 : Nat} {A : Nat → Prop} {U : State} (h : jS D s0 b0 A U) : va_K D jcl (jtys D) U := va_K.moved h.2.2.1.alike h.2.2.2.2.2
theorem jS.lt {D : va_G} {s0 : State} {b0 : Nat} {A : Nat → Prop} {U : State} (h : jS D s0 b0 A U) {q : Nat} (hq : A q) : s0.heap.size ≤ q := Nat.not_lt.mp fun z => (h.2.2.2.2.1 q z).1 hq
/-- a word of the tables that does not ride in the lists -/
theorem jS.nw {D : va_G} {s0 : State} {b0 : Nat} {A : Nat → Prop} {U : State} (h : jS D s0 b0 A U) {w : Cond} (hw : w ∈ lw_tbl) (ho : w.onTables = true) : va_Nw w s0 := va_Nw.of ho (h.1 w hw)
theorem jS.fn {D : va_G} {s0 : State} {b0 : Nat} {A : Nat → Prop} {U : State} (h : jS D s0 b0 A U) {a : String} {i : Nat} {b n d x : String} {as : Array Value} (hw : Cond.fieldLinkNest a i b n d x ∈ lw_tbl) : (Cond.fieldLinkNest a i b n d x).before as U = true := va_Nw.use rfl (va_Nw.warmF h.2.2.1 (h.nw hw rfl))
theorem jS.mn {D : va_G} {s0 : State} {b0 : Nat} {A : Nat → Prop} {U : State} (h : jS D s0 b0 A U) {a : String} {i : Nat} {y : MethodName} {x : String} (hw : Cond.methodLinkNest a i y x ∈ lw_tbl) : va_Nw (.methodLinkNest a i y x) U := va_Nw.warmM h.2.2.1 (h.nw hw rfl)
theorem jS.cast {D : va_G} {s0 : State} {b0 : Nat} {A : Nat → Prop} {U : State} (h : jS D s0 b0 A U) {C T : String} (hw : Cond.castable C T ∈ lw_tbl) : va_Nw (.castable C T) U := va_Nw.warmC h.2.2.1 (h.nw hw rfl)
theorem jS.decl {D : va_G} {s0 : State} {b0 : Nat} {A : Nat → Prop} {U : State} (h : jS D s0 b0 A U) {x : MethodName} (hw : Cond.declares x ∈ lw_tbl) : va_Nw (.declares x) U := va_Nw.warmD h.2.2.1 (h.nw hw rfl)
theorem jS.ao {D : va_G} {s0 : State} {b0 : Nat} {A : Nat → Prop} {U : State} (h : jS D s0 b0 A U) {C : String} (hw : Cond.arrayOver (.object C) ∈ lw_tbl) : va_AO C U := va_AO.moved h.2.2.1.alike (va_AO.of (h.1 _ hw))
theorem jS.fw {D : va_G} {s0 : State} {b0 : Nat} {A : Nat → Prop} {U : State} (h : jS D s0 b0 A U) {C : String} {x y : MethodName} (hx : x.cls ≠ "java/lang/invoke/MethodHandle" ∧ x.cls ≠ "java/lang/invoke/VarHandle") (h1 : Cond.declares x ∈ lw_tbl) (h2 : Cond.interfaceMethod x.cls x.cls x.name x.desc ∈ lw_tbl) (h3 : Cond.publicMethod y ∈ lw_tbl) (h4 : Cond.unhidden C x.name x.desc ∈ lw_tbl) (h5 : Cond.castable C x.cls ∈ lw_tbl) : va_Fw C x y U :=
  va_Fw.moved hx h.2.2.1.alike (va_Fw.of (h.1 _ h1) (h.1 _ h2) (h.1 _ h3) (h.1 _ h4) (h.1 _ h5))
/-- what a walk has at hand all along -/
def jX (D : va_G) (s0 : State) (b0 : Nat) (A : Nat → Prop) (p : Program) (s : State) (m : MethodId) (args : Array Value) (c : Code) (cc : ByteArray) (nL : Nat) (own : String) : Prop :=
  p.tables.exec = Jvm.exec ∧ c.code = cc ∧ c.maxLocals = nL ∧ s.vm.findClass own = some m.cls ∧ (∀ w ∈ lw_all, w.before args s = true) ∧ jS D s0 b0 A s ∧ ∀ q : Nat, s.heap.size ≤ q → A q
theorem jX.fix {D : va_G} {s0 : State} {b0 : Nat} {A : Nat → Prop} {p : Program} {s : State} {m : MethodId} {args : Array Value} {c : Code} {cc : ByteArray} {nL : Nat} {own : String} (h : jX D s0 b0 A p s m args c cc nL own) : CallFix p m c cc nL s args lw_all own := ⟨h.1, h.2.1, h.2.2.1, h.2.2.2.1, h.2.2.2.2.1⟩
theorem jX.ts {D : va_G} {s0 : State} {b0 : Nat} {A : Nat → Prop} {p : Program} {s : State} {m : MethodId} {args : Array Value} {c : Code} {cc : ByteArray} {nL : Nat} {own : String} (h : jX D s0 b0 A p s m args c cc nL own) : ∀ w ∈ lw_all, w.before args s = true := h.2.2.2.2.1
theorem jX.K {D : va_G} {s0 : State} {b0 : Nat} {A : Nat → Prop} {p : Program} {s : State} {m : MethodId} {args : Array Value} {c : Code} {cc : ByteArray} {nL : Nat} {own : String} (h : jX D s0 b0 A p s m args c cc nL own) : va_K D jcl (jtys D) s := h.2.2.2.2.2.1.K
theorem jX.S {D : va_G} {s0 : State} {b0 : Nat} {A : Nat → Prop} {p : Program} {s : State} {m : MethodId} {args : Array Value} {c : Code} {cc : ByteArray} {nL : Nat} {own : String} (h : jX D s0 b0 A p s m args c cc nL own) : jS D s0 b0 A s := h.2.2.2.2.2.1
/-- THE JUDGEMENT: from pc, with these locals and this stack, over the heap G, with bc cells and bs slots left -/
def Jg (p : Program) (l : Launch) (e : Env) (R : Room) (s : State) (m : MethodId) (args : Array Value) (below : List Frame) (meth : Method) (c : Code) (Q : State → Prop) (D : va_G) (A : Nat → Prop) (nL : Nat) (G : jG) (bc bs pc : Nat) (lv : List (Nat × Value)) (st : List Value) : Prop :=
  ∀ (H : Heap) (locs : List Loc) (ls : Array Slot) (cells slots : Nat), jH D jcl A G H → va_S A s.heap H locs → lv_has ls nL lv → cells + bc ≤ R.cells → slots + bs ≤ R.slots → W p l e R s m args below meth c H locs cells slots Q (F0 m pc ls st)
section JL
variable {p : Program} {l : Launch} {e : Env} {R : Room} {s : State} {m : MethodId} {args : Array Value} {below : List Frame} {meth : Method} {c : Code} {Q : State → Prop} {D : va_G} {s0 : State} {b0 : Nat} {A : Nat → Prop} {cc : ByteArray} {nL : Nat} {own : String} {G : jG} {bc bs pc : Nat} {lv : List (Nat × Value)} {st : List Value}
theorem jr_wk {bc' bs' : Nat} (h1 : bc' ≤ bc) (h2 : bs' ≤ bs) (k : Jg p l e R s m args below meth c Q D A nL G bc' bs' pc lv st) : Jg p l e R s m args below meth c Q D A nL G bc bs pc lv st :=
  fun H locs ls cells slots hG hS hl hc hs => k H locs ls cells slots hG hS hl (by omega) (by omega)
/-- other locals listed: fewer, in another order -/
theorem jr_lv {lv' : List (Nat × Value)} (h : ∀ q ∈ lv', q ∈ lv) (k : Jg p l e R s m args below meth c Q D A nL G bc bs pc lv' st) : Jg p l e R s m args below meth c Q D A nL G bc bs pc lv st :=
  fun H locs ls cells slots hG hS hl hc hs => k H locs ls cells slots hG hS ⟨hl.1, hl.2.1, fun q hq => hl.2.2 q (h q hq)⟩ hc hs
theorem jr_G {G' : jG} (h : ∀ a x, G' a = some x → G a = some x) (k : Jg p l e R s m args below meth c Q D A nL G' bc bs pc lv st) : Jg p l e R s m args below meth c Q D A nL G bc bs pc lv st :=
  fun H locs ls cells slots hG hS hl hc hs => k H locs ls cells slots (fun a x hx => hG a x (h a x hx)) hS hl hc hs
theorem jr_pc {pc' : Nat} (h : pc = pc') (k : Jg p l e R s m args below meth c Q D A nL G bc bs pc' lv st) : Jg p l e R s m args below meth c Q D A nL G bc bs pc lv st := by subst h; exact k
theorem jr_st {st' : List Value} (h : st = st') (k : Jg p l e R s m args below meth c Q D A nL G bc bs pc lv st') : Jg p l e R s m args below meth c Q D A nL G bc bs pc lv st := by subst h; exact k
theorem jlk {ls : Array Slot} {i : Nat} {v : Value} : ∀ {lv : List (Nat × Value)}, lv.lookup i = some v → (∀ q ∈ lv, ls[q.1]? = some (.val q.2)) → ls[i]? = some (.val v)
  | [], h, _ => by cases h
  | q :: r, h, hl => by
    rw [List.lookup_cons] at h
    by_cases hq : (i == q.1) = true
    · rw [hq] at h
      have e : i = q.1 := by simpa using hq
      subst e
      cases h
      exact hl q List.mem_cons_self
    · have hq' : (i == q.1) = false := by simpa using hq
      rw [hq'] at h
      exact jlk (lv := r) h (fun x hx => hl x (List.mem_cons_of_mem _ hx))
theorem jlk_m {i : Nat} {v : Value} : ∀ {lv : List (Nat × Value)}, lv.lookup i = some v → ∃ k : Nat, lv[k]? = some (i, v)
  | [], h => by cases h
  | q :: r, h => by
    rw [List.lookup_cons] at h
    by_cases hq : (i == q.1) = true
    · rw [hq] at h
      have e : i = q.1 := by simpa using hq
      subst e
      cases h
      exact ⟨0, rfl⟩
    · have hq' : (i == q.1) = false := by simpa using hq
      rw [hq'] at h
      obtain ⟨k, hk⟩ := jlk_m (lv := r) h
      exact ⟨k + 1, hk⟩
theorem jr_iconst (hX : jX D s0 b0 A p s m args c cc nL own) {n : Int} {v : Int32} (hv : Int32.ofInt n = v) (d : decode cc pc = .ok (.iconst n, 1)) (k : Jg p l e R s m args below meth c Q D A nL G bc bs (pc + 1) lv (.int v :: st)) : Jg p l e R s m args below meth c Q D A nL G bc bs pc lv st :=
  fun H locs ls cells slots hG hS hl hc hs => lv_iconst hX.1 hX.2.1 d hv (k H locs ls cells slots hG hS hl hc hs)
theorem jr_bipush (hX : jX D s0 b0 A p s m args c cc nL own) {n : Int} {v : Int32} (hv : (Int8.ofInt n).toInt32 = v) (d : decode cc pc = .ok (.bipush n, 2)) (k : Jg p l e R s m args below meth c Q D A nL G bc bs (pc + 2) lv (.int v :: st)) : Jg p l e R s m args below meth c Q D A nL G bc bs pc lv st :=
  fun H locs ls cells slots hG hS hl hc hs => lv_bipush hX.1 hX.2.1 d hv (k H locs ls cells slots hG hS hl hc hs)
theorem jr_sipush (hX : jX D s0 b0 A p s m args c cc nL own) {n : Int} {v : Int32} (hv : (Int16.ofInt n).toInt32 = v) (d : decode cc pc = .ok (.sipush n, 3)) (k : Jg p l e R s m args below meth c Q D A nL G bc bs (pc + 3) lv (.int v :: st)) : Jg p l e R s m args below meth c Q D A nL G bc bs pc lv st :=
  fun H locs ls cells slots hG hS hl hc hs => lv_sipush hX.1 hX.2.1 d hv (k H locs ls cells slots hG hS hl hc hs)
theorem jr_lconst (hX : jX D s0 b0 A p s m args c cc nL own) {n : Fin 2} {v : Int64} (hv : Int64.ofNat (n : Nat) = v) (d : decode cc pc = .ok (.lconst n, 1)) (k : Jg p l e R s m args below meth c Q D A nL G bc bs (pc + 1) lv (.long v :: st)) : Jg p l e R s m args below meth c Q D A nL G bc bs pc lv st :=
  fun H locs ls cells slots hG hS hl hc hs => lv_lconst hX.1 hX.2.1 d hv (k H locs ls cells slots hG hS hl hc hs)
theorem jr_fconst0 (hX : jX D s0 b0 A p s m args c cc nL own)  (d : decode cc pc = .ok (.fconst 0, 1)) (k : Jg p l e R s m args below meth c Q D A nL G bc bs (pc + 1) lv (.float FP.fconst0 :: st)) : Jg p l e R s m args below meth c Q D A nL G bc bs pc lv st :=
  fun H locs ls cells slots hG hS hl hc hs => lv_fconst0 hX.1 hX.2.1 d  (k H locs ls cells slots hG hS hl hc hs)
theorem jr_dconst0 (hX : jX D s0 b0 A p s m args c cc nL own)  (d : decode cc pc = .ok (.dconst 0, 1)) (k : Jg p l e R s m args below meth c Q D A nL G bc bs (pc + 1) lv (.double FP.dconst0 :: st)) : Jg p l e R s m args below meth c Q D A nL G bc bs pc lv st :=
  fun H locs ls cells slots hG hS hl hc hs => lv_dconst0 hX.1 hX.2.1 d  (k H locs ls cells slots hG hS hl hc hs)
theorem jr_null (hX : jX D s0 b0 A p s m args c cc nL own)  (d : decode cc pc = .ok (.aconst_null, 1)) (k : Jg p l e R s m args below meth c Q D A nL G bc bs (pc + 1) lv (.null :: st)) : Jg p l e R s m args below meth c Q D A nL G bc bs pc lv st :=
  fun H locs ls cells slots hG hS hl hc hs => lv_null hX.1 hX.2.1 d  (k H locs ls cells slots hG hS hl hc hs)
theorem jr_iload_n (hX : jX D s0 b0 A p s m args c cc nL own) {k0 : Fin 4} {i : Nat} {x : Int32} (hi : (k0 : Nat) = i) (h : lv.lookup i = some (.int x)) (d : decode cc pc = .ok (.iload_n k0, 1)) (k : Jg p l e R s m args below meth c Q D A nL G bc bs (pc + 1) lv (.int x :: st)) : Jg p l e R s m args below meth c Q D A nL G bc bs pc lv st :=
  fun H locs ls cells slots hG hS hl hc hs => lv_iload_n hX.1 hX.2.1 d hi (jlk h hl.2.2) (k H locs ls cells slots hG hS hl hc hs)
theorem jr_iload (hX : jX D s0 b0 A p s m args c cc nL own) {i : Nat} {x : Int32} (h : lv.lookup i = some (.int x)) (d : decode cc pc = .ok (.iload i, 2)) (k : Jg p l e R s m args below meth c Q D A nL G bc bs (pc + 2) lv (.int x :: st)) : Jg p l e R s m args below meth c Q D A nL G bc bs pc lv st :=
  fun H locs ls cells slots hG hS hl hc hs => lv_iload hX.1 hX.2.1 d (jlk h hl.2.2) (k H locs ls cells slots hG hS hl hc hs)
theorem jr_lload_n (hX : jX D s0 b0 A p s m args c cc nL own) {k0 : Fin 4} {i : Nat} {x : Int64} (hi : (k0 : Nat) = i) (h : lv.lookup i = some (.long x)) (d : decode cc pc = .ok (.lload_n k0, 1)) (k : Jg p l e R s m args below meth c Q D A nL G bc bs (pc + 1) lv (.long x :: st)) : Jg p l e R s m args below meth c Q D A nL G bc bs pc lv st :=
  fun H locs ls cells slots hG hS hl hc hs => lv_lload_n hX.1 hX.2.1 d hi (jlk h hl.2.2) (k H locs ls cells slots hG hS hl hc hs)
theorem jr_lload (hX : jX D s0 b0 A p s m args c cc nL own) {i : Nat} {x : Int64} (h : lv.lookup i = some (.long x)) (d : decode cc pc = .ok (.lload i, 2)) (k : Jg p l e R s m args below meth c Q D A nL G bc bs (pc + 2) lv (.long x :: st)) : Jg p l e R s m args below meth c Q D A nL G bc bs pc lv st :=
  fun H locs ls cells slots hG hS hl hc hs => lv_lload hX.1 hX.2.1 d (jlk h hl.2.2) (k H locs ls cells slots hG hS hl hc hs)
theorem jr_fload_n (hX : jX D s0 b0 A p s m args c cc nL own) {k0 : Fin 4} {i : Nat} {x : UInt32} (hi : (k0 : Nat) = i) (h : lv.lookup i = some (.float x)) (d : decode cc pc = .ok (.fload_n k0, 1)) (k : Jg p l e R s m args below meth c Q D A nL G bc bs (pc + 1) lv (.float x :: st)) : Jg p l e R s m args below meth c Q D A nL G bc bs pc lv st :=
  fun H locs ls cells slots hG hS hl hc hs => lv_fload_n hX.1 hX.2.1 d hi (jlk h hl.2.2) (k H locs ls cells slots hG hS hl hc hs)
theorem jr_fload (hX : jX D s0 b0 A p s m args c cc nL own) {i : Nat} {x : UInt32} (h : lv.lookup i = some (.float x)) (d : decode cc pc = .ok (.fload i, 2)) (k : Jg p l e R s m args below meth c Q D A nL G bc bs (pc + 2) lv (.float x :: st)) : Jg p l e R s m args below meth c Q D A nL G bc bs pc lv st :=
  fun H locs ls cells slots hG hS hl hc hs => lv_fload hX.1 hX.2.1 d (jlk h hl.2.2) (k H locs ls cells slots hG hS hl hc hs)
theorem jr_dload_n (hX : jX D s0 b0 A p s m args c cc nL own) {k0 : Fin 4} {i : Nat} {x : UInt64} (hi : (k0 : Nat) = i) (h : lv.lookup i = some (.double x)) (d : decode cc pc = .ok (.dload_n k0, 1)) (k : Jg p l e R s m args below meth c Q D A nL G bc bs (pc + 1) lv (.double x :: st)) : Jg p l e R s m args below meth c Q D A nL G bc bs pc lv st :=
  fun H locs ls cells slots hG hS hl hc hs => lv_dload_n hX.1 hX.2.1 d hi (jlk h hl.2.2) (k H locs ls cells slots hG hS hl hc hs)
theorem jr_dload (hX : jX D s0 b0 A p s m args c cc nL own) {i : Nat} {x : UInt64} (h : lv.lookup i = some (.double x)) (d : decode cc pc = .ok (.dload i, 2)) (k : Jg p l e R s m args below meth c Q D A nL G bc bs (pc + 2) lv (.double x :: st)) : Jg p l e R s m args below meth c Q D A nL G bc bs pc lv st :=
  fun H locs ls cells slots hG hS hl hc hs => lv_dload hX.1 hX.2.1 d (jlk h hl.2.2) (k H locs ls cells slots hG hS hl hc hs)
theorem jr_aload_n (hX : jX D s0 b0 A p s m args c cc nL own) {k0 : Fin 4} {i : Nat} {x : Nat} (hi : (k0 : Nat) = i) (h : lv.lookup i = some (.ref x)) (d : decode cc pc = .ok (.aload_n k0, 1)) (k : Jg p l e R s m args below meth c Q D A nL G bc bs (pc + 1) lv (.ref x :: st)) : Jg p l e R s m args below meth c Q D A nL G bc bs pc lv st :=
  fun H locs ls cells slots hG hS hl hc hs => lv_aload_n hX.1 hX.2.1 d hi (jlk h hl.2.2) (k H locs ls cells slots hG hS hl hc hs)
theorem jr_aload (hX : jX D s0 b0 A p s m args c cc nL own) {i : Nat} {x : Nat} (h : lv.lookup i = some (.ref x)) (d : decode cc pc = .ok (.aload i, 2)) (k : Jg p l e R s m args below meth c Q D A nL G bc bs (pc + 2) lv (.ref x :: st)) : Jg p l e R s m args below meth c Q D A nL G bc bs pc lv st :=
  fun H locs ls cells slots hG hS hl hc hs => lv_aload hX.1 hX.2.1 d (jlk h hl.2.2) (k H locs ls cells slots hG hS hl hc hs)
theorem jr_aload_nN (hX : jX D s0 b0 A p s m args c cc nL own) {k0 : Fin 4} {i : Nat} (hi : (k0 : Nat) = i) (h : lv.lookup i = some .null) (d : decode cc pc = .ok (.aload_n k0, 1)) (k : Jg p l e R s m args below meth c Q D A nL G bc bs (pc + 1) lv (.null :: st)) : Jg p l e R s m args below meth c Q D A nL G bc bs pc lv st :=
  fun H locs ls cells slots hG hS hl hc hs => lv_aload_nN hX.1 hX.2.1 d hi (jlk h hl.2.2) (k H locs ls cells slots hG hS hl hc hs)
theorem jr_aloadN (hX : jX D s0 b0 A p s m args c cc nL own) {i : Nat} (h : lv.lookup i = some .null) (d : decode cc pc = .ok (.aload i, 2)) (k : Jg p l e R s m args below meth c Q D A nL G bc bs (pc + 2) lv (.null :: st)) : Jg p l e R s m args below meth c Q D A nL G bc bs pc lv st :=
  fun H locs ls cells slots hG hS hl hc hs => lv_aloadN hX.1 hX.2.1 d (jlk h hl.2.2) (k H locs ls cells slots hG hS hl hc hs)
theorem jr_istore_n (hX : jX D s0 b0 A p s m args c cc nL own) {k0 : Fin 4} {i : Nat} {x : Int32} {lv2 : List (Nat × Value)} (hi : (k0 : Nat) = i) (hn : i < nL) (hl2 : (i, Value.int x) :: lv.filter (fun q => !(q.1 == i) && !(q.1 + 1 == i && q.2.category == 2)) = lv2) (d : decode cc pc = .ok (.istore_n k0, 1)) (k : Jg p l e R s m args below meth c Q D A nL G bc bs (pc + 1) lv2 st) : Jg p l e R s m args below meth c Q D A nL G bc bs pc lv (.int x :: st) :=
  fun H locs ls cells slots hG hS hl hc hs => lv_istore_n hX.1 hX.2.1 d hi hl hn hl2 (fun ls2 hl3 => k H locs ls2 cells slots hG hS hl3 hc hs)
theorem jr_istore (hX : jX D s0 b0 A p s m args c cc nL own) {i : Nat} {x : Int32} {lv2 : List (Nat × Value)} (hn : i < nL) (hl2 : (i, Value.int x) :: lv.filter (fun q => !(q.1 == i) && !(q.1 + 1 == i && q.2.category == 2)) = lv2) (d : decode cc pc = .ok (.istore i, 2)) (k : Jg p l e R s m args below meth c Q D A nL G bc bs (pc + 2) lv2 st) : Jg p l e R s m args below meth c Q D A nL G bc bs pc lv (.int x :: st) :=
  fun H locs ls cells slots hG hS hl hc hs => lv_istore hX.1 hX.2.1 d hl hn hl2 (fun ls2 hl3 => k H locs ls2 cells slots hG hS hl3 hc hs)
theorem jr_lstore_n (hX : jX D s0 b0 A p s m args c cc nL own) {k0 : Fin 4} {i : Nat} {x : Int64} {lv2 : List (Nat × Value)} (hi : (k0 : Nat) = i) (hn : i + 1 < nL) (hl2 : (i, Value.long x) :: lv.filter (fun q => !(q.1 == i) && (!(q.1 == i + 1) && !(q.1 + 1 == i && q.2.category == 2))) = lv2) (d : decode cc pc = .ok (.lstore_n k0, 1)) (k : Jg p l e R s m args below meth c Q D A nL G bc bs (pc + 1) lv2 st) : Jg p l e R s m args below meth c Q D A nL G bc bs pc lv (.long x :: st) :=
  fun H locs ls cells slots hG hS hl hc hs => lv_lstore_n hX.1 hX.2.1 d hi hl hn hl2 (fun ls2 hl3 => k H locs ls2 cells slots hG hS hl3 hc hs)
theorem jr_lstore (hX : jX D s0 b0 A p s m args c cc nL own) {i : Nat} {x : Int64} {lv2 : List (Nat × Value)} (hn : i + 1 < nL) (hl2 : (i, Value.long x) :: lv.filter (fun q => !(q.1 == i) && (!(q.1 == i + 1) && !(q.1 + 1 == i && q.2.category == 2))) = lv2) (d : decode cc pc = .ok (.lstore i, 2)) (k : Jg p l e R s m args below meth c Q D A nL G bc bs (pc + 2) lv2 st) : Jg p l e R s m args below meth c Q D A nL G bc bs pc lv (.long x :: st) :=
  fun H locs ls cells slots hG hS hl hc hs => lv_lstore hX.1 hX.2.1 d hl hn hl2 (fun ls2 hl3 => k H locs ls2 cells slots hG hS hl3 hc hs)
theorem jr_fstore_n (hX : jX D s0 b0 A p s m args c cc nL own) {k0 : Fin 4} {i : Nat} {x : UInt32} {lv2 : List (Nat × Value)} (hi : (k0 : Nat) = i) (hn : i < nL) (hl2 : (i, Value.float x) :: lv.filter (fun q => !(q.1 == i) && !(q.1 + 1 == i && q.2.category == 2)) = lv2) (d : decode cc pc = .ok (.fstore_n k0, 1)) (k : Jg p l e R s m args below meth c Q D A nL G bc bs (pc + 1) lv2 st) : Jg p l e R s m args below meth c Q D A nL G bc bs pc lv (.float x :: st) :=
  fun H locs ls cells slots hG hS hl hc hs => lv_fstore_n hX.1 hX.2.1 d hi hl hn hl2 (fun ls2 hl3 => k H locs ls2 cells slots hG hS hl3 hc hs)
theorem jr_fstore (hX : jX D s0 b0 A p s m args c cc nL own) {i : Nat} {x : UInt32} {lv2 : List (Nat × Value)} (hn : i < nL) (hl2 : (i, Value.float x) :: lv.filter (fun q => !(q.1 == i) && !(q.1 + 1 == i && q.2.category == 2)) = lv2) (d : decode cc pc = .ok (.fstore i, 2)) (k : Jg p l e R s m args below meth c Q D A nL G bc bs (pc + 2) lv2 st) : Jg p l e R s m args below meth c Q D A nL G bc bs pc lv (.float x :: st) :=
  fun H locs ls cells slots hG hS hl hc hs => lv_fstore hX.1 hX.2.1 d hl hn hl2 (fun ls2 hl3 => k H locs ls2 cells slots hG hS hl3 hc hs)
theorem jr_dstore_n (hX : jX D s0 b0 A p s m args c cc nL own) {k0 : Fin 4} {i : Nat} {x : UInt64} {lv2 : List (Nat × Value)} (hi : (k0 : Nat) = i) (hn : i + 1 < nL) (hl2 : (i, Value.double x) :: lv.filter (fun q => !(q.1 == i) && (!(q.1 == i + 1) && !(q.1 + 1 == i && q.2.category == 2))) = lv2) (d : decode cc pc = .ok (.dstore_n k0, 1)) (k : Jg p l e R s m args below meth c Q D A nL G bc bs (pc + 1) lv2 st) : Jg p l e R s m args below meth c Q D A nL G bc bs pc lv (.double x :: st) :=
  fun H locs ls cells slots hG hS hl hc hs => lv_dstore_n hX.1 hX.2.1 d hi hl hn hl2 (fun ls2 hl3 => k H locs ls2 cells slots hG hS hl3 hc hs)
theorem jr_dstore (hX : jX D s0 b0 A p s m args c cc nL own) {i : Nat} {x : UInt64} {lv2 : List (Nat × Value)} (hn : i + 1 < nL) (hl2 : (i, Value.double x) :: lv.filter (fun q => !(q.1 == i) && (!(q.1 == i + 1) && !(q.1 + 1 == i && q.2.category == 2))) = lv2) (d : decode cc pc = .ok (.dstore i, 2)) (k : Jg p l e R s m args below meth c Q D A nL G bc bs (pc + 2) lv2 st) : Jg p l e R s m args below meth c Q D A nL G bc bs pc lv (.double x :: st) :=
  fun H locs ls cells slots hG hS hl hc hs => lv_dstore hX.1 hX.2.1 d hl hn hl2 (fun ls2 hl3 => k H locs ls2 cells slots hG hS hl3 hc hs)
theorem jr_astore_n (hX : jX D s0 b0 A p s m args c cc nL own) {k0 : Fin 4} {i : Nat} {x : Nat} {lv2 : List (Nat × Value)} (hi : (k0 : Nat) = i) (hn : i < nL) (hl2 : (i, Value.ref x) :: lv.filter (fun q => !(q.1 == i) && !(q.1 + 1 == i && q.2.category == 2)) = lv2) (d : decode cc pc = .ok (.astore_n k0, 1)) (k : Jg p l e R s m args below meth c Q D A nL G bc bs (pc + 1) lv2 st) : Jg p l e R s m args below meth c Q D A nL G bc bs pc lv (.ref x :: st) :=
  fun H locs ls cells slots hG hS hl hc hs => lv_astore_n hX.1 hX.2.1 d hi hl hn hl2 (fun ls2 hl3 => k H locs ls2 cells slots hG hS hl3 hc hs)
theorem jr_astore (hX : jX D s0 b0 A p s m args c cc nL own) {i : Nat} {x : Nat} {lv2 : List (Nat × Value)} (hn : i < nL) (hl2 : (i, Value.ref x) :: lv.filter (fun q => !(q.1 == i) && !(q.1 + 1 == i && q.2.category == 2)) = lv2) (d : decode cc pc = .ok (.astore i, 2)) (k : Jg p l e R s m args below meth c Q D A nL G bc bs (pc + 2) lv2 st) : Jg p l e R s m args below meth c Q D A nL G bc bs pc lv (.ref x :: st) :=
  fun H locs ls cells slots hG hS hl hc hs => lv_astore hX.1 hX.2.1 d hl hn hl2 (fun ls2 hl3 => k H locs ls2 cells slots hG hS hl3 hc hs)
theorem jr_astore_nN (hX : jX D s0 b0 A p s m args c cc nL own) {k0 : Fin 4} {i : Nat} {lv2 : List (Nat × Value)} (hi : (k0 : Nat) = i) (hn : i < nL) (hl2 : (i, Value.null) :: lv.filter (fun q => !(q.1 == i) && !(q.1 + 1 == i && q.2.category == 2)) = lv2) (d : decode cc pc = .ok (.astore_n k0, 1)) (k : Jg p l e R s m args below meth c Q D A nL G bc bs (pc + 1) lv2 st) : Jg p l e R s m args below meth c Q D A nL G bc bs pc lv (.null :: st) :=
  fun H locs ls cells slots hG hS hl hc hs => lv_astore_nN hX.1 hX.2.1 d hi hl hn hl2 (fun ls2 hl3 => k H locs ls2 cells slots hG hS hl3 hc hs)
theorem jr_astoreN (hX : jX D s0 b0 A p s m args c cc nL own) {i : Nat} {lv2 : List (Nat × Value)} (hn : i < nL) (hl2 : (i, Value.null) :: lv.filter (fun q => !(q.1 == i) && !(q.1 + 1 == i && q.2.category == 2)) = lv2) (d : decode cc pc = .ok (.astore i, 2)) (k : Jg p l e R s m args below meth c Q D A nL G bc bs (pc + 2) lv2 st) : Jg p l e R s m args below meth c Q D A nL G bc bs pc lv (.null :: st) :=
  fun H locs ls cells slots hG hS hl hc hs => lv_astoreN hX.1 hX.2.1 d hl hn hl2 (fun ls2 hl3 => k H locs ls2 cells slots hG hS hl3 hc hs)
theorem jr_iinc (hX : jX D s0 b0 A p s m args c cc nL own) {i : Nat} {n : Int} {x w : Int32} {lv2 : List (Nat × Value)} (h : lv.lookup i = some (.int x)) (hv : Int32.ofInt n = w) (hn : i < nL) (hl2 : (i, Value.int (x + w)) :: lv.filter (fun q => !(q.1 == i) && !(q.1 + 1 == i && q.2.category == 2)) = lv2) (d : decode cc pc = .ok (.iinc i n, 3)) (k : Jg p l e R s m args below meth c Q D A nL G bc bs (pc + 3) lv2 st) : Jg p l e R s m args below meth c Q D A nL G bc bs pc lv st := by
  intro H locs ls cells slots hG hS hl hc hs
  obtain ⟨k0, hk0⟩ := jlk_m h
  exact lv_iinc hX.1 hX.2.1 d hl hk0 (by rw [hv]) hn hl2 (fun ls2 hl3 => k H locs ls2 cells slots hG hS hl3 hc hs)
theorem jr_iadd (hX : jX D s0 b0 A p s m args c cc nL own) {x y : Int32} (d : decode cc pc = .ok (.iadd, 1)) (k : Jg p l e R s m args below meth c Q D A nL G bc bs (pc + 1) lv (.int (x + y) :: st)) : Jg p l e R s m args below meth c Q D A nL G bc bs pc lv (.int y :: .int x :: st) :=
  fun H locs ls cells slots hG hS hl hc hs => lv_iadd hX.1 hX.2.1 d  (k H locs ls cells slots hG hS hl hc hs)
theorem jr_ladd (hX : jX D s0 b0 A p s m args c cc nL own) {x y : Int64} (d : decode cc pc = .ok (.ladd, 1)) (k : Jg p l e R s m args below meth c Q D A nL G bc bs (pc + 1) lv (.long (x + y) :: st)) : Jg p l e R s m args below meth c Q D A nL G bc bs pc lv (.long y :: .long x :: st) :=
  fun H locs ls cells slots hG hS hl hc hs => lv_ladd hX.1 hX.2.1 d  (k H locs ls cells slots hG hS hl hc hs)
theorem jr_isub (hX : jX D s0 b0 A p s m args c cc nL own) {x y : Int32} (d : decode cc pc = .ok (.isub, 1)) (k : Jg p l e R s m args below meth c Q D A nL G bc bs (pc + 1) lv (.int (x - y) :: st)) : Jg p l e R s m args below meth c Q D A nL G bc bs pc lv (.int y :: .int x :: st) :=
  fun H locs ls cells slots hG hS hl hc hs => lv_isub hX.1 hX.2.1 d  (k H locs ls cells slots hG hS hl hc hs)
theorem jr_lsub (hX : jX D s0 b0 A p s m args c cc nL own) {x y : Int64} (d : decode cc pc = .ok (.lsub, 1)) (k : Jg p l e R s m args below meth c Q D A nL G bc bs (pc + 1) lv (.long (x - y) :: st)) : Jg p l e R s m args below meth c Q D A nL G bc bs pc lv (.long y :: .long x :: st) :=
  fun H locs ls cells slots hG hS hl hc hs => lv_lsub hX.1 hX.2.1 d  (k H locs ls cells slots hG hS hl hc hs)
theorem jr_imul (hX : jX D s0 b0 A p s m args c cc nL own) {x y : Int32} (d : decode cc pc = .ok (.imul, 1)) (k : Jg p l e R s m args below meth c Q D A nL G bc bs (pc + 1) lv (.int (x * y) :: st)) : Jg p l e R s m args below meth c Q D A nL G bc bs pc lv (.int y :: .int x :: st) :=
  fun H locs ls cells slots hG hS hl hc hs => lv_imul hX.1 hX.2.1 d  (k H locs ls cells slots hG hS hl hc hs)
theorem jr_lmul (hX : jX D s0 b0 A p s m args c cc nL own) {x y : Int64} (d : decode cc pc = .ok (.lmul, 1)) (k : Jg p l e R s m args below meth c Q D A nL G bc bs (pc + 1) lv (.long (x * y) :: st)) : Jg p l e R s m args below meth c Q D A nL G bc bs pc lv (.long y :: .long x :: st) :=
  fun H locs ls cells slots hG hS hl hc hs => lv_lmul hX.1 hX.2.1 d  (k H locs ls cells slots hG hS hl hc hs)
theorem jr_iand (hX : jX D s0 b0 A p s m args c cc nL own) {x y : Int32} (d : decode cc pc = .ok (.iand, 1)) (k : Jg p l e R s m args below meth c Q D A nL G bc bs (pc + 1) lv (.int (x &&& y) :: st)) : Jg p l e R s m args below meth c Q D A nL G bc bs pc lv (.int y :: .int x :: st) :=
  fun H locs ls cells slots hG hS hl hc hs => lv_iand hX.1 hX.2.1 d  (k H locs ls cells slots hG hS hl hc hs)
theorem jr_land (hX : jX D s0 b0 A p s m args c cc nL own) {x y : Int64} (d : decode cc pc = .ok (.land, 1)) (k : Jg p l e R s m args below meth c Q D A nL G bc bs (pc + 1) lv (.long (x &&& y) :: st)) : Jg p l e R s m args below meth c Q D A nL G bc bs pc lv (.long y :: .long x :: st) :=
  fun H locs ls cells slots hG hS hl hc hs => lv_land hX.1 hX.2.1 d  (k H locs ls cells slots hG hS hl hc hs)
theorem jr_ior (hX : jX D s0 b0 A p s m args c cc nL own) {x y : Int32} (d : decode cc pc = .ok (.ior, 1)) (k : Jg p l e R s m args below meth c Q D A nL G bc bs (pc + 1) lv (.int (x ||| y) :: st)) : Jg p l e R s m args below meth c Q D A nL G bc bs pc lv (.int y :: .int x :: st) :=
  fun H locs ls cells slots hG hS hl hc hs => lv_ior hX.1 hX.2.1 d  (k H locs ls cells slots hG hS hl hc hs)
theorem jr_lor (hX : jX D s0 b0 A p s m args c cc nL own) {x y : Int64} (d : decode cc pc = .ok (.lor, 1)) (k : Jg p l e R s m args below meth c Q D A nL G bc bs (pc + 1) lv (.long (x ||| y) :: st)) : Jg p l e R s m args below meth c Q D A nL G bc bs pc lv (.long y :: .long x :: st) :=
  fun H locs ls cells slots hG hS hl hc hs => lv_lor hX.1 hX.2.1 d  (k H locs ls cells slots hG hS hl hc hs)
theorem jr_ixor (hX : jX D s0 b0 A p s m args c cc nL own) {x y : Int32} (d : decode cc pc = .ok (.ixor, 1)) (k : Jg p l e R s m args below meth c Q D A nL G bc bs (pc + 1) lv (.int (x ^^^ y) :: st)) : Jg p l e R s m args below meth c Q D A nL G bc bs pc lv (.int y :: .int x :: st) :=
  fun H locs ls cells slots hG hS hl hc hs => lv_ixor hX.1 hX.2.1 d  (k H locs ls cells slots hG hS hl hc hs)
theorem jr_lxor (hX : jX D s0 b0 A p s m args c cc nL own) {x y : Int64} (d : decode cc pc = .ok (.lxor, 1)) (k : Jg p l e R s m args below meth c Q D A nL G bc bs (pc + 1) lv (.long (x ^^^ y) :: st)) : Jg p l e R s m args below meth c Q D A nL G bc bs pc lv (.long y :: .long x :: st) :=
  fun H locs ls cells slots hG hS hl hc hs => lv_lxor hX.1 hX.2.1 d  (k H locs ls cells slots hG hS hl hc hs)
theorem jr_idiv (hX : jX D s0 b0 A p s m args c cc nL own) {x y : Int32} (hne : ¬ y = 0) (d : decode cc pc = .ok (.idiv, 1)) (k : Jg p l e R s m args below meth c Q D A nL G bc bs (pc + 1) lv (.int (x / y) :: st)) : Jg p l e R s m args below meth c Q D A nL G bc bs pc lv (.int y :: .int x :: st) :=
  fun H locs ls cells slots hG hS hl hc hs => lv_idiv hX.1 hX.2.1 d hne (k H locs ls cells slots hG hS hl hc hs)
theorem jr_irem (hX : jX D s0 b0 A p s m args c cc nL own) {x y : Int32} (hne : ¬ y = 0) (d : decode cc pc = .ok (.irem, 1)) (k : Jg p l e R s m args below meth c Q D A nL G bc bs (pc + 1) lv (.int (x - x / y * y) :: st)) : Jg p l e R s m args below meth c Q D A nL G bc bs pc lv (.int y :: .int x :: st) :=
  fun H locs ls cells slots hG hS hl hc hs => lv_irem hX.1 hX.2.1 d hne (k H locs ls cells slots hG hS hl hc hs)
theorem jr_ineg (hX : jX D s0 b0 A p s m args c cc nL own) {x : Int32} (d : decode cc pc = .ok (.ineg, 1)) (k : Jg p l e R s m args below meth c Q D A nL G bc bs (pc + 1) lv (.int (-x) :: st)) : Jg p l e R s m args below meth c Q D A nL G bc bs pc lv (.int x :: st) :=
  fun H locs ls cells slots hG hS hl hc hs => lv_ineg hX.1 hX.2.1 d  (k H locs ls cells slots hG hS hl hc hs)
theorem jr_ishr (hX : jX D s0 b0 A p s m args c cc nL own) {x y : Int32} (d : decode cc pc = .ok (.ishr, 1)) (k : Jg p l e R s m args below meth c Q D A nL G bc bs (pc + 1) lv (.int (x >>> (y &&& 31)) :: st)) : Jg p l e R s m args below meth c Q D A nL G bc bs pc lv (.int y :: .int x :: st) :=
  fun H locs ls cells slots hG hS hl hc hs => lv_ishr hX.1 hX.2.1 d  (k H locs ls cells slots hG hS hl hc hs)
theorem jr_ishl (hX : jX D s0 b0 A p s m args c cc nL own) {x y : Int32} (d : decode cc pc = .ok (.ishl, 1)) (k : Jg p l e R s m args below meth c Q D A nL G bc bs (pc + 1) lv (.int (x <<< (y &&& 31)) :: st)) : Jg p l e R s m args below meth c Q D A nL G bc bs pc lv (.int y :: .int x :: st) :=
  fun H locs ls cells slots hG hS hl hc hs => lv_ishl hX.1 hX.2.1 d  (k H locs ls cells slots hG hS hl hc hs)
theorem jr_i2l (hX : jX D s0 b0 A p s m args c cc nL own) {x : Int32} {v : Int64} (hv : x.toInt64 = v) (d : decode cc pc = .ok (.i2l, 1)) (k : Jg p l e R s m args below meth c Q D A nL G bc bs (pc + 1) lv (.long v :: st)) : Jg p l e R s m args below meth c Q D A nL G bc bs pc lv (.int x :: st) :=
  fun H locs ls cells slots hG hS hl hc hs => lv_i2l hX.1 hX.2.1 d hv (k H locs ls cells slots hG hS hl hc hs)
theorem jr_i2c (hX : jX D s0 b0 A p s m args c cc nL own) {x v : Int32} (hv : (x.toUInt32 % 65536).toInt32 = v) (d : decode cc pc = .ok (.i2c, 1)) (k : Jg p l e R s m args below meth c Q D A nL G bc bs (pc + 1) lv (.int v :: st)) : Jg p l e R s m args below meth c Q D A nL G bc bs pc lv (.int x :: st) :=
  fun H locs ls cells slots hG hS hl hc hs => lv_i2c hX.1 hX.2.1 d hv (k H locs ls cells slots hG hS hl hc hs)
theorem jr_i2f (hX : jX D s0 b0 A p s m args c cc nL own) {x : Int32} (d : decode cc pc = .ok (.i2f, 1)) (k : Jg p l e R s m args below meth c Q D A nL G bc bs (pc + 1) lv (.float (FP.i2f x) :: st)) : Jg p l e R s m args below meth c Q D A nL G bc bs pc lv (.int x :: st) :=
  fun H locs ls cells slots hG hS hl hc hs => lv_i2f hX.1 hX.2.1 d  (k H locs ls cells slots hG hS hl hc hs)
theorem jr_i2d (hX : jX D s0 b0 A p s m args c cc nL own) {x : Int32} (d : decode cc pc = .ok (.i2d, 1)) (k : Jg p l e R s m args below meth c Q D A nL G bc bs (pc + 1) lv (.double (FP.i2d x) :: st)) : Jg p l e R s m args below meth c Q D A nL G bc bs pc lv (.int x :: st) :=
  fun H locs ls cells slots hG hS hl hc hs => lv_i2d hX.1 hX.2.1 d  (k H locs ls cells slots hG hS hl hc hs)
theorem jr_f2d (hX : jX D s0 b0 A p s m args c cc nL own) {x : UInt32} (hne : vf_n64 (FP.f2d x)) (d : decode cc pc = .ok (.f2d, 1)) (k : Jg p l e R s m args below meth c Q D A nL G bc bs (pc + 1) lv (.double (FP.f2d x) :: st)) : Jg p l e R s m args below meth c Q D A nL G bc bs pc lv (.float x :: st) :=
  fun H locs ls cells slots hG hS hl hc hs => lv_f2d hX.1 hX.2.1 d hne (k H locs ls cells slots hG hS hl hc hs)
theorem jr_fdiv (hX : jX D s0 b0 A p s m args c cc nL own) {x y : UInt32} (hne : vf_n32 (FP.fdiv x y)) (d : decode cc pc = .ok (.fdiv, 1)) (k : Jg p l e R s m args below meth c Q D A nL G bc bs (pc + 1) lv (.float (FP.fdiv x y) :: st)) : Jg p l e R s m args below meth c Q D A nL G bc bs pc lv (.float y :: .float x :: st) :=
  fun H locs ls cells slots hG hS hl hc hs => lv_fdiv hX.1 hX.2.1 d hne (k H locs ls cells slots hG hS hl hc hs)
theorem jr_ddiv (hX : jX D s0 b0 A p s m args c cc nL own) {x y : UInt64} (hne : vf_n64 (FP.ddiv x y)) (d : decode cc pc = .ok (.ddiv, 1)) (k : Jg p l e R s m args below meth c Q D A nL G bc bs (pc + 1) lv (.double (FP.ddiv x y) :: st)) : Jg p l e R s m args below meth c Q D A nL G bc bs pc lv (.double y :: .double x :: st) :=
  fun H locs ls cells slots hG hS hl hc hs => lv_ddiv hX.1 hX.2.1 d hne (k H locs ls cells slots hG hS hl hc hs)
theorem jr_dcmp (hX : jX D s0 b0 A p s m args c cc nL own) {x y : UInt64} {op : CmpOp} (d : decode cc pc = .ok (.dcmp op, 1)) (k : Jg p l e R s m args below meth c Q D A nL G bc bs (pc + 1) lv (.int (Op.cmpValue (FP.dcmp x y) op) :: st)) : Jg p l e R s m args below meth c Q D A nL G bc bs pc lv (.double y :: .double x :: st) :=
  fun H locs ls cells slots hG hS hl hc hs => lv_dcmp hX.1 hX.2.1 d  (k H locs ls cells slots hG hS hl hc hs)
theorem jr_lcmp (hX : jX D s0 b0 A p s m args c cc nL own) {x y : Int64} (d : decode cc pc = .ok (.lcmp, 1)) (k : Jg p l e R s m args below meth c Q D A nL G bc bs (pc + 1) lv (.int (lg_cmp x y) :: st)) : Jg p l e R s m args below meth c Q D A nL G bc bs pc lv (.long y :: .long x :: st) :=
  fun H locs ls cells slots hG hS hl hc hs => W.lcmp hX.1 hX.2.1 d  (k H locs ls cells slots hG hS hl hc hs)
theorem jr_dup (hX : jX D s0 b0 A p s m args c cc nL own) {x : Value} (hx : x.category = 1) (d : decode cc pc = .ok (.dup, 1)) (k : Jg p l e R s m args below meth c Q D A nL G bc bs (pc + 1) lv (x :: x :: st)) : Jg p l e R s m args below meth c Q D A nL G bc bs pc lv (x :: st) :=
  fun H locs ls cells slots hG hS hl hc hs => lv_dup hX.1 hX.2.1 d hx (k H locs ls cells slots hG hS hl hc hs)
theorem jr_pop (hX : jX D s0 b0 A p s m args c cc nL own) {x : Value} (hx : x.category = 1) (d : decode cc pc = .ok (.pop, 1)) (k : Jg p l e R s m args below meth c Q D A nL G bc bs (pc + 1) lv st) : Jg p l e R s m args below meth c Q D A nL G bc bs pc lv (x :: st) :=
  fun H locs ls cells slots hG hS hl hc hs => lv_pop hX.1 hX.2.1 d hx (k H locs ls cells slots hG hS hl hc hs)
theorem jr_dup_x1 (hX : jX D s0 b0 A p s m args c cc nL own) {x y : Value} (hx : x.category = 1) (hy : y.category = 1) (d : decode cc pc = .ok (.dup_x1, 1)) (k : Jg p l e R s m args below meth c Q D A nL G bc bs (pc + 1) lv (x :: y :: x :: st)) : Jg p l e R s m args below meth c Q D A nL G bc bs pc lv (x :: y :: st) :=
  fun H locs ls cells slots hG hS hl hc hs => lv_dup_x1 hX.1 hX.2.1 d hx hy (k H locs ls cells slots hG hS hl hc hs)
theorem jr_dup_x2 (hX : jX D s0 b0 A p s m args c cc nL own) {x y z : Value} (hx : x.category = 1) (hy : y.category = 1) (hz : z.category = 1) (d : decode cc pc = .ok (.dup_x2, 1)) (k : Jg p l e R s m args below meth c Q D A nL G bc bs (pc + 1) lv (x :: y :: z :: x :: st)) : Jg p l e R s m args below meth c Q D A nL G bc bs pc lv (x :: y :: z :: st) :=
  fun H locs ls cells slots hG hS hl hc hs => lv_dup_x2 hX.1 hX.2.1 d hx hy hz (k H locs ls cells slots hG hS hl hc hs)
theorem jr_dup2 (hX : jX D s0 b0 A p s m args c cc nL own) {x y : Value} (hx : x.category = 1) (hy : y.category = 1) (d : decode cc pc = .ok (.dup2, 1)) (k : Jg p l e R s m args below meth c Q D A nL G bc bs (pc + 1) lv (x :: y :: x :: y :: st)) : Jg p l e R s m args below meth c Q D A nL G bc bs pc lv (x :: y :: st) :=
  fun H locs ls cells slots hG hS hl hc hs => lv_dup2_11 hX.1 hX.2.1 d hx hy (k H locs ls cells slots hG hS hl hc hs)
theorem jr_dup2_2 (hX : jX D s0 b0 A p s m args c cc nL own) {x : Value} (hx : x.category = 2) (d : decode cc pc = .ok (.dup2, 1)) (k : Jg p l e R s m args below meth c Q D A nL G bc bs (pc + 1) lv (x :: x :: st)) : Jg p l e R s m args below meth c Q D A nL G bc bs pc lv (x :: st) :=
  fun H locs ls cells slots hG hS hl hc hs => lv_dup2_2 hX.1 hX.2.1 d hx (k H locs ls cells slots hG hS hl hc hs)
theorem jr_if_eq (hX : jX D s0 b0 A p s m args c cc nL own) {x : Int32} {off : Int} {tgt : Nat} (ht : (pc : Int) + off = (tgt : Int)) (d : decode cc pc = .ok (.ifCond .eq off, 3)) (kt : x = 0 → Jg p l e R s m args below meth c Q D A nL G bc bs tgt lv st) (kf : ¬ x = 0 → Jg p l e R s m args below meth c Q D A nL G bc bs (pc + 3) lv st) : Jg p l e R s m args below meth c Q D A nL G bc bs pc lv (.int x :: st) :=
  fun H locs ls cells slots hG hS hl hc hs => lv_if_eq hX.1 hX.2.1 d ht (fun z => kt z H locs ls cells slots hG hS hl hc hs) (fun z => kf z H locs ls cells slots hG hS hl hc hs)
theorem jr_if_ne (hX : jX D s0 b0 A p s m args c cc nL own) {x : Int32} {off : Int} {tgt : Nat} (ht : (pc : Int) + off = (tgt : Int)) (d : decode cc pc = .ok (.ifCond .ne off, 3)) (kt : ¬ x = 0 → Jg p l e R s m args below meth c Q D A nL G bc bs tgt lv st) (kf : x = 0 → Jg p l e R s m args below meth c Q D A nL G bc bs (pc + 3) lv st) : Jg p l e R s m args below meth c Q D A nL G bc bs pc lv (.int x :: st) :=
  fun H locs ls cells slots hG hS hl hc hs => lv_if_ne hX.1 hX.2.1 d ht (fun z => kt z H locs ls cells slots hG hS hl hc hs) (fun z => kf z H locs ls cells slots hG hS hl hc hs)
theorem jr_if_lt (hX : jX D s0 b0 A p s m args c cc nL own) {x : Int32} {off : Int} {tgt : Nat} (ht : (pc : Int) + off = (tgt : Int)) (d : decode cc pc = .ok (.ifCond .lt off, 3)) (kt : x < 0 → Jg p l e R s m args below meth c Q D A nL G bc bs tgt lv st) (kf : ¬ x < 0 → Jg p l e R s m args below meth c Q D A nL G bc bs (pc + 3) lv st) : Jg p l e R s m args below meth c Q D A nL G bc bs pc lv (.int x :: st) :=
  fun H locs ls cells slots hG hS hl hc hs => lv_if_lt hX.1 hX.2.1 d ht (fun z => kt z H locs ls cells slots hG hS hl hc hs) (fun z => kf z H locs ls cells slots hG hS hl hc hs)
theorem jr_if_ge (hX : jX D s0 b0 A p s m args c cc nL own) {x : Int32} {off : Int} {tgt : Nat} (ht : (pc : Int) + off = (tgt : Int)) (d : decode cc pc = .ok (.ifCond .ge off, 3)) (kt : 0 ≤ x → Jg p l e R s m args below meth c Q D A nL G bc bs tgt lv st) (kf : ¬ 0 ≤ x → Jg p l e R s m args below meth c Q D A nL G bc bs (pc + 3) lv st) : Jg p l e R s m args below meth c Q D A nL G bc bs pc lv (.int x :: st) :=
  fun H locs ls cells slots hG hS hl hc hs => lv_if_ge hX.1 hX.2.1 d ht (fun z => kt z H locs ls cells slots hG hS hl hc hs) (fun z => kf z H locs ls cells slots hG hS hl hc hs)
theorem jr_if_gt (hX : jX D s0 b0 A p s m args c cc nL own) {x : Int32} {off : Int} {tgt : Nat} (ht : (pc : Int) + off = (tgt : Int)) (d : decode cc pc = .ok (.ifCond .gt off, 3)) (kt : 0 < x → Jg p l e R s m args below meth c Q D A nL G bc bs tgt lv st) (kf : ¬ 0 < x → Jg p l e R s m args below meth c Q D A nL G bc bs (pc + 3) lv st) : Jg p l e R s m args below meth c Q D A nL G bc bs pc lv (.int x :: st) :=
  fun H locs ls cells slots hG hS hl hc hs => lv_if_gt hX.1 hX.2.1 d ht (fun z => kt z H locs ls cells slots hG hS hl hc hs) (fun z => kf z H locs ls cells slots hG hS hl hc hs)
theorem jr_if_le (hX : jX D s0 b0 A p s m args c cc nL own) {x : Int32} {off : Int} {tgt : Nat} (ht : (pc : Int) + off = (tgt : Int)) (d : decode cc pc = .ok (.ifCond .le off, 3)) (kt : x ≤ 0 → Jg p l e R s m args below meth c Q D A nL G bc bs tgt lv st) (kf : ¬ x ≤ 0 → Jg p l e R s m args below meth c Q D A nL G bc bs (pc + 3) lv st) : Jg p l e R s m args below meth c Q D A nL G bc bs pc lv (.int x :: st) :=
  fun H locs ls cells slots hG hS hl hc hs => lv_if_le hX.1 hX.2.1 d ht (fun z => kt z H locs ls cells slots hG hS hl hc hs) (fun z => kf z H locs ls cells slots hG hS hl hc hs)
theorem jr_icmp_eq (hX : jX D s0 b0 A p s m args c cc nL own) {x y : Int32} {off : Int} {tgt : Nat} (ht : (pc : Int) + off = (tgt : Int)) (d : decode cc pc = .ok (.if_icmp .eq off, 3)) (kt : x = y → Jg p l e R s m args below meth c Q D A nL G bc bs tgt lv st) (kf : ¬ x = y → Jg p l e R s m args below meth c Q D A nL G bc bs (pc + 3) lv st) : Jg p l e R s m args below meth c Q D A nL G bc bs pc lv (.int y :: .int x :: st) :=
  fun H locs ls cells slots hG hS hl hc hs => lv_icmp_eq hX.1 hX.2.1 d ht (fun z => kt z H locs ls cells slots hG hS hl hc hs) (fun z => kf z H locs ls cells slots hG hS hl hc hs)
theorem jr_icmp_ne (hX : jX D s0 b0 A p s m args c cc nL own) {x y : Int32} {off : Int} {tgt : Nat} (ht : (pc : Int) + off = (tgt : Int)) (d : decode cc pc = .ok (.if_icmp .ne off, 3)) (kt : ¬ x = y → Jg p l e R s m args below meth c Q D A nL G bc bs tgt lv st) (kf : x = y → Jg p l e R s m args below meth c Q D A nL G bc bs (pc + 3) lv st) : Jg p l e R s m args below meth c Q D A nL G bc bs pc lv (.int y :: .int x :: st) :=
  fun H locs ls cells slots hG hS hl hc hs => lv_icmp_ne hX.1 hX.2.1 d ht (fun z => kt z H locs ls cells slots hG hS hl hc hs) (fun z => kf z H locs ls cells slots hG hS hl hc hs)
theorem jr_icmp_lt (hX : jX D s0 b0 A p s m args c cc nL own) {x y : Int32} {off : Int} {tgt : Nat} (ht : (pc : Int) + off = (tgt : Int)) (d : decode cc pc = .ok (.if_icmp .lt off, 3)) (kt : x < y → Jg p l e R s m args below meth c Q D A nL G bc bs tgt lv st) (kf : ¬ x < y → Jg p l e R s m args below meth c Q D A nL G bc bs (pc + 3) lv st) : Jg p l e R s m args below meth c Q D A nL G bc bs pc lv (.int y :: .int x :: st) :=
  fun H locs ls cells slots hG hS hl hc hs => lv_icmp_lt hX.1 hX.2.1 d ht (fun z => kt z H locs ls cells slots hG hS hl hc hs) (fun z => kf z H locs ls cells slots hG hS hl hc hs)
theorem jr_icmp_ge (hX : jX D s0 b0 A p s m args c cc nL own) {x y : Int32} {off : Int} {tgt : Nat} (ht : (pc : Int) + off = (tgt : Int)) (d : decode cc pc = .ok (.if_icmp .ge off, 3)) (kt : y ≤ x → Jg p l e R s m args below meth c Q D A nL G bc bs tgt lv st) (kf : ¬ y ≤ x → Jg p l e R s m args below meth c Q D A nL G bc bs (pc + 3) lv st) : Jg p l e R s m args below meth c Q D A nL G bc bs pc lv (.int y :: .int x :: st) :=
  fun H locs ls cells slots hG hS hl hc hs => lv_icmp_ge hX.1 hX.2.1 d ht (fun z => kt z H locs ls cells slots hG hS hl hc hs) (fun z => kf z H locs ls cells slots hG hS hl hc hs)
theorem jr_icmp_gt (hX : jX D s0 b0 A p s m args c cc nL own) {x y : Int32} {off : Int} {tgt : Nat} (ht : (pc : Int) + off = (tgt : Int)) (d : decode cc pc = .ok (.if_icmp .gt off, 3)) (kt : y < x → Jg p l e R s m args below meth c Q D A nL G bc bs tgt lv st) (kf : ¬ y < x → Jg p l e R s m args below meth c Q D A nL G bc bs (pc + 3) lv st) : Jg p l e R s m args below meth c Q D A nL G bc bs pc lv (.int y :: .int x :: st) :=
  fun H locs ls cells slots hG hS hl hc hs => lv_icmp_gt hX.1 hX.2.1 d ht (fun z => kt z H locs ls cells slots hG hS hl hc hs) (fun z => kf z H locs ls cells slots hG hS hl hc hs)
theorem jr_icmp_le (hX : jX D s0 b0 A p s m args c cc nL own) {x y : Int32} {off : Int} {tgt : Nat} (ht : (pc : Int) + off = (tgt : Int)) (d : decode cc pc = .ok (.if_icmp .le off, 3)) (kt : x ≤ y → Jg p l e R s m args below meth c Q D A nL G bc bs tgt lv st) (kf : ¬ x ≤ y → Jg p l e R s m args below meth c Q D A nL G bc bs (pc + 3) lv st) : Jg p l e R s m args below meth c Q D A nL G bc bs pc lv (.int y :: .int x :: st) :=
  fun H locs ls cells slots hG hS hl hc hs => lv_icmp_le hX.1 hX.2.1 d ht (fun z => kt z H locs ls cells slots hG hS hl hc hs) (fun z => kf z H locs ls cells slots hG hS hl hc hs)
theorem jr_acmp_eq (hX : jX D s0 b0 A p s m args c cc nL own) {x y : Option Nat} {off : Int} {tgt : Nat} (ht : (pc : Int) + off = (tgt : Int)) (d : decode cc pc = .ok (.if_acmp .eq off, 3)) (kt : x = y → Jg p l e R s m args below meth c Q D A nL G bc bs tgt lv st) (kf : ¬ x = y → Jg p l e R s m args below meth c Q D A nL G bc bs (pc + 3) lv st) : Jg p l e R s m args below meth c Q D A nL G bc bs pc lv (va_rf y :: va_rf x :: st) :=
  fun H locs ls cells slots hG hS hl hc hs => lv_acmp_eq hX.1 hX.2.1 d ht (fun z => kt z H locs ls cells slots hG hS hl hc hs) (fun z => kf z H locs ls cells slots hG hS hl hc hs)
theorem jr_acmp_ne (hX : jX D s0 b0 A p s m args c cc nL own) {x y : Option Nat} {off : Int} {tgt : Nat} (ht : (pc : Int) + off = (tgt : Int)) (d : decode cc pc = .ok (.if_acmp .ne off, 3)) (kt : ¬ x = y → Jg p l e R s m args below meth c Q D A nL G bc bs tgt lv st) (kf : x = y → Jg p l e R s m args below meth c Q D A nL G bc bs (pc + 3) lv st) : Jg p l e R s m args below meth c Q D A nL G bc bs pc lv (va_rf y :: va_rf x :: st) :=
  fun H locs ls cells slots hG hS hl hc hs => lv_acmp_ne hX.1 hX.2.1 d ht (fun z => kt z H locs ls cells slots hG hS hl hc hs) (fun z => kf z H locs ls cells slots hG hS hl hc hs)
theorem jr_acmp_eqR (hX : jX D s0 b0 A p s m args c cc nL own) {x y : Nat} {off : Int} {tgt : Nat} (ht : (pc : Int) + off = (tgt : Int)) (d : decode cc pc = .ok (.if_acmp .eq off, 3)) (kt : x = y → Jg p l e R s m args below meth c Q D A nL G bc bs tgt lv st) (kf : ¬ x = y → Jg p l e R s m args below meth c Q D A nL G bc bs (pc + 3) lv st) : Jg p l e R s m args below meth c Q D A nL G bc bs pc lv (.ref y :: .ref x :: st) :=
  jr_acmp_eq (x := some x) (y := some y) hX ht d (fun z => kt (Option.some.inj z)) (fun z => kf (fun q => z (by rw [q])))
theorem jr_acmp_neR (hX : jX D s0 b0 A p s m args c cc nL own) {x y : Nat} {off : Int} {tgt : Nat} (ht : (pc : Int) + off = (tgt : Int)) (d : decode cc pc = .ok (.if_acmp .ne off, 3)) (kt : ¬ x = y → Jg p l e R s m args below meth c Q D A nL G bc bs tgt lv st) (kf : x = y → Jg p l e R s m args below meth c Q D A nL G bc bs (pc + 3) lv st) : Jg p l e R s m args below meth c Q D A nL G bc bs pc lv (.ref y :: .ref x :: st) :=
  jr_acmp_ne (x := some x) (y := some y) hX ht d (fun z => kt (fun q => z (by rw [q]))) (fun z => kf (Option.some.inj z))
theorem jr_goto (hX : jX D s0 b0 A p s m args c cc nL own) {off : Int} {tgt : Nat} (ht : (pc : Int) + off = (tgt : Int)) (d : decode cc pc = .ok (.goto off, 3)) (k : Jg p l e R s m args below meth c Q D A nL G bc bs tgt lv st) : Jg p l e R s m args below meth c Q D A nL G bc bs pc lv st :=
  fun H locs ls cells slots hG hS hl hc hs => lv_goto hX.1 hX.2.1 d ht (k H locs ls cells slots hG hS hl hc hs)
theorem jr_ifnonnull (hX : jX D s0 b0 A p s m args c cc nL own) {x : Nat} {off : Int} {tgt : Nat} (ht : (pc : Int) + off = (tgt : Int)) (d : decode cc pc = .ok (.ifnonnull off, 3)) (k : Jg p l e R s m args below meth c Q D A nL G bc bs tgt lv st) : Jg p l e R s m args below meth c Q D A nL G bc bs pc lv (.ref x :: st) :=
  fun H locs ls cells slots hG hS hl hc hs => lv_ifnonnull hX.1 hX.2.1 d ht (k H locs ls cells slots hG hS hl hc hs)
theorem jr_ifnull (hX : jX D s0 b0 A p s m args c cc nL own) {x : Nat} {off : Int} (d : decode cc pc = .ok (.ifnull off, 3)) (k : Jg p l e R s m args below meth c Q D A nL G bc bs (pc + 3) lv st) : Jg p l e R s m args below meth c Q D A nL G bc bs pc lv (.ref x :: st) :=
  fun H locs ls cells slots hG hS hl hc hs => lv_ifnull hX.1 hX.2.1 d (k H locs ls cells slots hG hS hl hc hs)
theorem jr_ifnullN (hX : jX D s0 b0 A p s m args c cc nL own) {off : Int} {tgt : Nat} (ht : (pc : Int) + off = (tgt : Int)) (d : decode cc pc = .ok (.ifnull off, 3)) (k : Jg p l e R s m args below meth c Q D A nL G bc bs tgt lv st) : Jg p l e R s m args below meth c Q D A nL G bc bs pc lv (.null :: st) :=
  fun H locs ls cells slots hG hS hl hc hs => lv_ifnullN hX.1 hX.2.1 d ht (k H locs ls cells slots hG hS hl hc hs)
theorem jr_ifnonnullN (hX : jX D s0 b0 A p s m args c cc nL own) {off : Int} (d : decode cc pc = .ok (.ifnonnull off, 3)) (k : Jg p l e R s m args below meth c Q D A nL G bc bs (pc + 3) lv st) : Jg p l e R s m args below meth c Q D A nL G bc bs pc lv (.null :: st) :=
  fun H locs ls cells slots hG hS hl hc hs => lv_ifnonnullN hX.1 hX.2.1 d (k H locs ls cells slots hG hS hl hc hs)
theorem jr_lookup (hX : jX D s0 b0 A p s m args c cc nL own) {dflt : Int} {ps : Array (Int × Int)} {len : Nat} {x : Int32} {off : Int} {tgt : Nat} (hp : (ps.toList.zip (ps.toList.drop 1)).all (fun (a, next) => a.1 < next.1) = true) (ho : Op.lookupswitch.offset ps.toList dflt x.toInt = off) (ht : (pc : Int) + off = (tgt : Int)) (d : decode cc pc = .ok (.lookupswitch dflt ps, len)) (k : Jg p l e R s m args below meth c Q D A nL G bc bs tgt lv st) : Jg p l e R s m args below meth c Q D A nL G bc bs pc lv (.int x :: st) :=
  fun H locs ls cells slots hG hS hl hc hs => lv_lookup hX.1 hX.2.1 d hp ho ht (k H locs ls cells slots hG hS hl hc hs)
theorem jr_tableOut (hX : jX D s0 b0 A p s m args c cc nL own) {dflt lo hi : Int} {offs : Array Int} {len : Nat} {x : Int32} {tgt : Nat} (h : x.toInt < lo ∨ hi < x.toInt) (ht : (pc : Int) + dflt = (tgt : Int)) (d : decode cc pc = .ok (.tableswitch dflt lo hi offs, len)) (k : Jg p l e R s m args below meth c Q D A nL G bc bs tgt lv st) : Jg p l e R s m args below meth c Q D A nL G bc bs pc lv (.int x :: st) :=
  fun H locs ls cells slots hG hS hl hc hs => lv_tableOut hX.1 hX.2.1 d h ht (k H locs ls cells slots hG hS hl hc hs)
theorem jr_tableIn (hX : jX D s0 b0 A p s m args c cc nL own) {dflt lo hi : Int} {offs : Array Int} {len : Nat} {x : Int32} {off : Int} {tgt : Nat} (h1 : ¬ x.toInt < lo) (h2 : ¬ hi < x.toInt) (ho : offs[(x.toInt - lo).toNat]? = some off) (ht : (pc : Int) + off = (tgt : Int)) (d : decode cc pc = .ok (.tableswitch dflt lo hi offs, len)) (k : Jg p l e R s m args below meth c Q D A nL G bc bs tgt lv st) : Jg p l e R s m args below meth c Q D A nL G bc bs pc lv (.int x :: st) :=
  fun H locs ls cells slots hG hS hl hc hs => lv_tableIn hX.1 hX.2.1 d h1 h2 ho ht (k H locs ls cells slots hG hS hl hc hs)
theorem jr_topi {x : Int32} (k : ∀ y : Int32, y = x → Jg p l e R s m args below meth c Q D A nL G bc bs pc lv (.int y :: st)) : Jg p l e R s m args below meth c Q D A nL G bc bs pc lv (.int x :: st) := k x rfl
end JL
