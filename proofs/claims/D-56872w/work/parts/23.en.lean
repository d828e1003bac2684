/-! the enums' constants; rows over constant objects -/
def jCC (q : Nat) : String := if q = 2 then "SwapWhile$Code$1" else if q = 3 then "SwapWhile$Code$2" else if q = 4 then "SwapWhile$Code$3" else "SwapWhile$Code"
def jCL : List Int32 := [107, 97, 110, 103, 112, 106, 99, 116, 115, 114, 111, 119]
/-- the operands of a code: first, second, third -/
def sO1 : List Nat := [0, 0, 0, 0, 0, 0, 2, 3, 3, 0, 0, 6]
def sO2 : List Nat := [6, 0, 4, 5, 5, 1, 0, 0, 2, 6, 6, 6]
def sO3 : List Nat := [6, 6, 6, 0, 0, 6, 0, 0, 6, 6, 6, 6]
def jOC : List String := ["SwapWhile$Operand$1", "SwapWhile$Operand$2", "SwapWhile$Operand$3", "SwapWhile$Operand$4", "SwapWhile$Operand$5", "SwapWhile$Operand$6", "SwapWhile$Operand$7"]
def en_c (q : Nat) : Term := .static "SwapWhile$Code" (jCN.getD q "PUT") "LSwapWhile$Code;"
def en_o (q : Nat) : Term := .static "SwapWhile$Operand" (jON.getD q "LOCAL") "LSwapWhile$Operand;"
def en_w (q : Nat) : List Cond := [.exactly (en_c q) (jCC q), .eq (.field (en_c q) "java/lang/Enum" "ordinal" "I") (.int (Int32.ofNat q)), .eq (.field (en_c q) "SwapWhile$Code" "letter" "C") (.int (jCL.getD q 0)), .eq (.field (en_c q) "SwapWhile$Code" "first" "LSwapWhile$Operand;") (en_o (sO1.getD q 0)), .eq (.field (en_c q) "SwapWhile$Code" "second" "LSwapWhile$Operand;") (en_o (sO2.getD q 0)), .eq (.field (en_c q) "SwapWhile$Code" "third" "LSwapWhile$Operand;") (en_o (sO3.getD q 0)), .eq (.elem (.static "SwapWhile$Code" "$VALUES" "[LSwapWhile$Code;") (.int (Int32.ofNat q))) (en_c q)]
def en_p (q : Nat) : List Cond := [.exactly (en_o q) (jOC.getD q "")]
def en_all : List Cond := (List.range 12).flatMap en_w ++ (List.range 7).flatMap en_p
theorem en_in : (en_all.all fun w => decide (w ∈ flatC (Jvm.Cond.and given_1 narrow_1))) = true := by decide +kernel
theorem en_fct {D : va_G} {s0 : State} {b0 : Nat} {A : Nat → Prop} {U : State} (h : jS D s0 b0 A U) {w : Cond} (hw : w ∈ en_all) : w.before #[Value.ref b0] s0 = true := h.fct (of_decide_eq_true (List.all_eq_true.mp en_in w hw))
theorem en_mem {q : Nat} (hq : q < 12) {w : Cond} (hw : w ∈ en_w q) : w ∈ en_all := List.mem_append.mpr (Or.inl (List.mem_flatMap.mpr ⟨q, List.mem_range.mpr hq, hw⟩))
theorem en_memo {q : Nat} (hq : q < 7) {w : Cond} (hw : w ∈ en_p q) : w ∈ en_all := List.mem_append.mpr (Or.inr (List.mem_flatMap.mpr ⟨q, List.mem_range.mpr hq, hw⟩))
theorem en_eqr {args : Array Value} {s : State} {t u : Term} {a : Nat} (h : (Cond.eq t u).before args s = true) (hu : u.eval args s none [] s = some (.ref a)) : t.eval args s none [] s = some (.ref a) := by
  cases hv : t.eval args s none [] s with
  | none => simp [Cond.before, Cond.holds, Cond.value, hv] at h
  | some w =>
    simp only [Cond.before, Cond.holds, Cond.value, hv, hu] at h
    cases w <;> simp_all
theorem en_ev {D : va_G} {s0 : State} {b0 : Nat} {A : Nat → Prop} {U : State} (h : jS D s0 b0 A U) {C n d E : String} (hw : Cond.exactly (.static C n d) E ∈ en_all) : (Term.static C n d).eval #[Value.ref b0] s0 none [] s0 = some (.ref (jst s0 b0 C n d)) ∧ va_O E (jst s0 b0 C n d) A U U.heap := by
  obtain ⟨a, c, cell, k, q1, q2, q3, q4, q5, q6, -⟩ := Cond.exactly_spec (en_fct h hw)
  have e : jst s0 b0 C n d = a := jst_of q1
  rw [e]
  exact ⟨q1, va_O.moved h.2.2.1.alike (va_O.kept ⟨cell, q3, q5, by rw [q6]; exact q2, h.off a (Array.getElem?_eq_some_iff.mp q3).1⟩ h.kp)⟩
theorem en_op {D : va_G} {s0 : State} {b0 : Nat} {A : Nat → Prop} {U : State} (h : jS D s0 b0 A U) {t : Nat} (ht : t < 7) : (en_o t).eval #[Value.ref b0] s0 none [] s0 = some (.ref (jOp s0 b0 t)) ∧ va_O (jOC.getD t "") (jOp s0 b0 t) A U U.heap := en_ev h (en_memo ht (by simp [en_p, en_o]))
theorem en_cd {D : va_G} {s0 : State} {b0 : Nat} {A : Nat → Prop} {U : State} (h : jS D s0 b0 A U) {q : Nat} (hq : q < 12) : (en_c q).eval #[Value.ref b0] s0 none [] s0 = some (.ref (jCd s0 b0 q)) ∧ va_O (jCC q) (jCd s0 b0 q) A U U.heap := en_ev h (en_mem hq (by simp [en_w, en_c]))
theorem en_sO : ∀ q, q < 12 → sO1.getD q 0 < 7 ∧ sO2.getD q 0 < 7 ∧ sO3.getD q 0 < 7 := by decide
theorem en_OF {D : va_G} {s0 : State} {b0 : Nat} {A : Nat → Prop} {U : State} (h : jS D s0 b0 A U) {t : Term} {a : Nat} {o n d : String} {v : Value} (ht : t.eval #[Value.ref b0] s0 none [] s0 = some (.ref a)) (hv : (Term.field t o n d).eval #[Value.ref b0] s0 none [] s0 = some v) : va_OF o n d v a A U U.heap := va_OF.moved h.2.2.1.alike (va_OF.kept (vk_OFof ht hv h.off) h.kp)
/-- a code's letter, ordinal, operands -/
theorem en_f {D : va_G} {s0 : State} {b0 : Nat} {A : Nat → Prop} {U : State} (h : jS D s0 b0 A U) {q : Nat} (hq : q < 12) : va_OF "java/lang/Enum" "ordinal" "I" (.int (nI q)) (jCd s0 b0 q) A U U.heap ∧ va_OF "SwapWhile$Code" "letter" "C" (.int (jCL.getD q 0)) (jCd s0 b0 q) A U U.heap ∧ va_OF "SwapWhile$Code" "first" "LSwapWhile$Operand;" (.ref (jOp s0 b0 (sO1.getD q 0))) (jCd s0 b0 q) A U U.heap ∧ va_OF "SwapWhile$Code" "second" "LSwapWhile$Operand;" (.ref (jOp s0 b0 (sO2.getD q 0))) (jCd s0 b0 q) A U U.heap ∧ va_OF "SwapWhile$Code" "third" "LSwapWhile$Operand;" (.ref (jOp s0 b0 (sO3.getD q 0))) (jCd s0 b0 q) A U U.heap := by
  have e := (en_cd h hq).1
  obtain ⟨o1, o2, o3⟩ := en_sO q hq
  exact ⟨en_OF h e (va_eqt (en_fct h (en_mem hq (by simp [en_w, nI])))), en_OF h e (va_eqt (en_fct h (en_mem hq (by simp [en_w])))), en_OF h e (en_eqr (en_fct h (en_mem hq (by simp [en_w]))) (en_op h o1).1), en_OF h e (en_eqr (en_fct h (en_mem hq (by simp [en_w]))) (en_op h o2).1), en_OF h e (en_eqr (en_fct h (en_mem hq (by simp [en_w]))) (en_op h o3).1)⟩
theorem va_OFu {o n d : String} {v w : Value} {t : Nat} {A : Nat → Prop} {U : State} {H : Heap} (h : va_OF o n d v t A U H) (h2 : va_OF o n d w t A U H) : v = w := by
  obtain ⟨cf, k, i, f, cell, a1, a2, a3, a4, a5, a6⟩ := h
  obtain ⟨cf2, k2, i2, f2, cell2, c1, c2, c3, c4, c5, c6⟩ := h2
  rw [a1] at c1
  cases c1
  rw [a3] at c3
  cases c3
  rw [a5] at c5
  cases c5
  rfl
/-- the codes differ -/
theorem en_inj {D : va_G} {s0 : State} {b0 : Nat} {A : Nat → Prop} {U : State} (h : jS D s0 b0 A U) {q r : Nat} (hq : q < 12) (hr : r < 12) (e : jCd s0 b0 q = jCd s0 b0 r) : q = r := by
  have h1 := (en_f h hq).1
  have h2 := (en_f h hr).1
  rw [e] at h1
  have := va_OFu h1 h2
  exact (nI_eq (by omega) (by omega)).mp (by injection this)
theorem en_oinj {D : va_G} {s0 : State} {b0 : Nat} {A : Nat → Prop} {U : State} (h : jS D s0 b0 A U) {q r : Nat} (hq : q < 7) (hr : r < 7) (e : jOp s0 b0 q = jOp s0 b0 r) : q = r := by
  obtain ⟨cell, a1, a2, a3, a4⟩ := (en_op h hq).2
  obtain ⟨cell2, c1, c2, c3, c4⟩ := (en_op h hr).2
  rw [e] at a1
  rw [a1] at c1
  cases c1
  obtain ⟨k1, x1, x2⟩ := Vm.findClass_spec a3
  obtain ⟨k2, y1, y2⟩ := Vm.findClass_spec c3
  rw [x1] at y1
  cases y1
  have z : jOC.getD q "" = jOC.getD r "" := x2.symm.trans y2
  exact (by decide : ∀ q, q < 7 → ∀ r, r < 7 → jOC.getD q "" = jOC.getD r "" → q = r) q hq r hr z
theorem en_lc : ∀ q, q < 12 → Cond.laysStatic "SwapWhile$Code" (jCN.getD q "PUT") "LSwapWhile$Code;" ∈ lw_tbl := fun q hq => match q, hq with
  | 0, _ => q611
  | 1, _ => q2274
  | 2, _ => q2275
  | 3, _ => q1198
  | 4, _ => q2276
  | 5, _ => q2277
  | 6, _ => q2278
  | 7, _ => q2279
  | 8, _ => q2280
  | 9, _ => q2281
  | 10, _ => q2282
  | 11, _ => q799
  | n + 12, h => absurd h (by omega)
theorem en_lo : ∀ q, q < 7 → Cond.laysStatic "SwapWhile$Operand" (jON.getD q "LOCAL") "LSwapWhile$Operand;" ∈ lw_tbl := fun q hq => match q, hq with
  | 0, _ => q2283
  | 1, _ => q2285
  | 2, _ => q2286
  | 3, _ => q2287
  | 4, _ => q578
  | 5, _ => q2284
  | 6, _ => q609
  | n + 7, h => absurd h (by omega)
theorem en_Zc {D : va_G} {s0 : State} {b0 : Nat} {A : Nat → Prop} {U : State} (h : jS D s0 b0 A U) {q : Nat} (hq : q < 12) : va_Z "SwapWhile$Code" (jCN.getD q "PUT") "LSwapWhile$Code;" (.ref (jCd s0 b0 q)) A U U.heap := h.Z (en_lc q hq) q86 (en_cd h hq).1
theorem en_Zo {D : va_G} {s0 : State} {b0 : Nat} {A : Nat → Prop} {U : State} (h : jS D s0 b0 A U) {q : Nat} (hq : q < 7) : va_Z "SwapWhile$Operand" (jON.getD q "LOCAL") "LSwapWhile$Operand;" (.ref (jOp s0 b0 q)) A U U.heap := h.Z (en_lo q hq) q87 (en_op h hq).1

section JEN
variable {p : Program} {l : Launch} {e : Env} {R : Room} {s : State} {m : MethodId} {args : Array Value} {below : List Frame} {meth : Method} {c : Code} {Q : State → Prop} {D : va_G} {s0 : State} {b0 : Nat} {A : Nat → Prop} {cc : ByteArray} {nL : Nat} {own : String} {G : jG} {bc bs pc : Nat} {lv : List (Nat × Value)} {st : List Value} {post : Option Value → jG → Prop}
theorem jr_getK (hX : jX D s0 b0 A p s m args c cc nL own) {o n d2 ref : String} {index a : Nat} {v : Value} (hE : va_OF o n d2 v a A s s.heap) (hlink : Cond.fieldLink own index ref n d2 ∈ lw_all) (hsame : ∀ x, s.fieldFound? o n d2 = some x → s.fieldFound? ref n d2 = some x) (d : decode cc pc = .ok (.getfield index, 3)) (kk : Jg p l e R s m args below meth c Q D A nL G bc bs (pc + 3) lv (v :: st)) : Jg p l e R s m args below meth c Q D A nL G bc bs pc lv (.ref a :: st) :=
  fun H locs ls cells slots hG hS hl hc hs => vk_getf hX.1 hX.2.1 hE hS hX.2.2.2.1 (hX.ts _ hlink) hsame d (kk H locs ls cells slots hG hS hl hc hs)
theorem jr_callKU (hX : jX D s0 b0 A p s m args c cc nL own) {y : MethodName} {bytes : ByteArray} {maxL n index bc1 bs1 : Nat} {ret : Option FieldType} {ws : List Cond} {rm : Room} {As rest st1 : List Value} {b : Nat} {C : String} {x : MethodName} {owner : String} (hM : jM l y ws rm D s0 b0 A G (.ref b :: As) post) (cw : va_CU R s args own C owner index x y bytes maxL ret ws rm rm.cells rm.slots n) (hb : va_O C b A s s.heap) (hn : As.length = n) (hw : (rest.map fun v => v.category).sum ≤ 8) (hbc : bc1 + rm.cells ≤ bc) (hbs : bs1 + rm.slots ≤ bs) (hst : st1 = As.reverse ++ .ref b :: rest) (d : decode cc pc = .ok (.invokevirtual index, 3)) (kk : ∀ (v : Option Value) (G1 : jG), post v G1 → Jg p l e R s m args below meth c Q D A nL G1 bc1 bs1 (pc + 3) lv (v.toList ++ rest)) : Jg p l e R s m args below meth c Q D A nL G bc bs pc lv st1 :=
  jr_back hX (mc := rm.cells) (ms := rm.slots) hbc hbs (fun H locs ls cells slots hG hS hl hc0 hs => va_runU hX.fix hM cw ⟨jB.blind, va_Orecv hb hS, fun U hU hW => ⟨rfl, jB.to hG hX.S hX.2.2.2.2.2.2 hS hU hW⟩⟩ rfl hn hl.1 hst (lv_room hw) d ⟨by omega, by omega⟩) kk
theorem jr_callKV (hX : jX D s0 b0 A p s m args c cc nL own) {y : MethodName} {bytes : ByteArray} {maxL n index bc1 bs1 : Nat} {ret : Option FieldType} {ws : List Cond} {rm : Room} {As rest st1 : List Value} {b : Nat} {C : String} (hM : jM l y ws rm D s0 b0 A G (.ref b :: As) post) (cw : CallW R s args own C index y bytes maxL ret ws rm rm.cells rm.slots n) (hb : va_O C b A s s.heap) (hn : As.length = n) (hw : (rest.map fun v => v.category).sum ≤ 8) (hbc : bc1 + rm.cells ≤ bc) (hbs : bs1 + rm.slots ≤ bs) (hst : st1 = As.reverse ++ .ref b :: rest) (d : decode cc pc = .ok (.invokevirtual index, 3)) (kk : ∀ (v : Option Value) (G1 : jG), post v G1 → Jg p l e R s m args below meth c Q D A nL G1 bc1 bs1 (pc + 3) lv (v.toList ++ rest)) : Jg p l e R s m args below meth c Q D A nL G bc bs pc lv st1 :=
  jr_back hX (mc := rm.cells) (ms := rm.slots) hbc hbs (fun H locs ls cells slots hG hS hl hc0 hs => va_runV hX.fix hM cw ⟨jB.blind, va_Orecv hb hS, fun U hU hW => ⟨rfl, jB.to hG hX.S hX.2.2.2.2.2.2 hS hU hW⟩⟩ rfl hn hl.1 hst (lv_room hw) d ⟨by omega, by omega⟩) kk
end JEN
