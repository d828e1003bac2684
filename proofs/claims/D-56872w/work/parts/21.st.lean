/-! THE PURE STATE (both classes show one), and the component's picture of it -/
abbrev sIns : Type := Nat × Int32 × Int32 × Int32
/-- functions (places in the pool of instructions), numbers of fields, carries (2 * kind + (1 if back)): from, number; maps -/
abbrev sVer : Type := (Nat → List Nat) × (Nat → Nat) × (Nat → Nat → Int32) × (Nat → Nat → Int32) × (Nat → Nat → Int32)
/-- version, function, into, locals, place -/
abbrev sFr : Type := Nat × Nat × Nat × (Nat → Int32) × Nat
/-- version, kind, fields -/
abbrev sTh : Type := Nat × Nat × (Nat → Int32)
/-- mode, is back, is at once, last, state -/
abbrev sCh : Type := Nat × Bool × Bool × Nat × Nat
/-- versions with the draft, present, strands (state, frames), things, table, changes, queue, is watched, limit, puts, their capacity, steps, the pool -/
abbrev sSt : Type := List sVer × Nat × (Nat → Nat × List sFr) × List sTh × (Nat → Nat) × List sCh × List Nat × Bool × Int32 × List (Int32 × Nat) × Nat × Nat × List sIns
abbrev s_v (S : sSt) : List sVer := S.1
abbrev s_p (S : sSt) : Nat := S.2.1
abbrev s_s (S : sSt) : Nat → Nat × List sFr := S.2.2.1
abbrev s_o (S : sSt) : List sTh := S.2.2.2.1
abbrev s_t (S : sSt) : Nat → Nat := S.2.2.2.2.1
abbrev s_c (S : sSt) : List sCh := S.2.2.2.2.2.1
abbrev s_q (S : sSt) : List Nat := S.2.2.2.2.2.2.1
abbrev s_w (S : sSt) : Bool := S.2.2.2.2.2.2.2.1
abbrev s_l (S : sSt) : Int32 := S.2.2.2.2.2.2.2.2.1
abbrev s_u (S : sSt) : List (Int32 × Nat) := S.2.2.2.2.2.2.2.2.2.1
abbrev s_k (S : sSt) : Nat := S.2.2.2.2.2.2.2.2.2.2.1
abbrev s_n (S : sSt) : Nat := S.2.2.2.2.2.2.2.2.2.2.2.1
abbrev s_i (S : sSt) : List sIns := S.2.2.2.2.2.2.2.2.2.2.2.2
abbrev sw_v (S : sSt) (x : List sVer) : sSt := (x, S.2)
abbrev sw_p (S : sSt) (x : Nat) : sSt := (S.1, x, S.2.2)
abbrev sw_s (S : sSt) (x : Nat → Nat × List sFr) : sSt := (S.1, S.2.1, x, S.2.2.2)
abbrev sw_o (S : sSt) (x : List sTh) : sSt := (S.1, S.2.1, S.2.2.1, x, S.2.2.2.2)
abbrev sw_t (S : sSt) (x : Nat → Nat) : sSt := (S.1, S.2.1, S.2.2.1, S.2.2.2.1, x, S.2.2.2.2.2)
abbrev sw_c (S : sSt) (x : List sCh) : sSt := (S.1, S.2.1, S.2.2.1, S.2.2.2.1, S.2.2.2.2.1, x, S.2.2.2.2.2.2)
abbrev sw_q (S : sSt) (x : List Nat) : sSt := (S.1, S.2.1, S.2.2.1, S.2.2.2.1, S.2.2.2.2.1, S.2.2.2.2.2.1, x, S.2.2.2.2.2.2.2)
abbrev sw_w (S : sSt) (x : Bool) : sSt := (S.1, S.2.1, S.2.2.1, S.2.2.2.1, S.2.2.2.2.1, S.2.2.2.2.2.1, S.2.2.2.2.2.2.1, x, S.2.2.2.2.2.2.2.2)
abbrev sw_l (S : sSt) (x : Int32) : sSt := (S.1, S.2.1, S.2.2.1, S.2.2.2.1, S.2.2.2.2.1, S.2.2.2.2.2.1, S.2.2.2.2.2.2.1, S.2.2.2.2.2.2.2.1, x, S.2.2.2.2.2.2.2.2.2)
abbrev sw_u (S : sSt) (x : List (Int32 × Nat)) (c : Nat) : sSt := (S.1, S.2.1, S.2.2.1, S.2.2.2.1, S.2.2.2.2.1, S.2.2.2.2.2.1, S.2.2.2.2.2.2.1, S.2.2.2.2.2.2.2.1, S.2.2.2.2.2.2.2.2.1, x, c, S.2.2.2.2.2.2.2.2.2.2.2)
abbrev sw_n (S : sSt) (x : Nat) : sSt := (S.1, S.2.1, S.2.2.1, S.2.2.2.1, S.2.2.2.2.1, S.2.2.2.2.2.1, S.2.2.2.2.2.2.1, S.2.2.2.2.2.2.2.1, S.2.2.2.2.2.2.2.2.1, S.2.2.2.2.2.2.2.2.2.1, S.2.2.2.2.2.2.2.2.2.2.1, x, S.2.2.2.2.2.2.2.2.2.2.2.2)
abbrev sw_i (S : sSt) (x : List sIns) : sSt := (S.1, S.2.1, S.2.2.1, S.2.2.2.1, S.2.2.2.2.1, S.2.2.2.2.2.1, S.2.2.2.2.2.2.1, S.2.2.2.2.2.2.2.1, S.2.2.2.2.2.2.2.2.1, S.2.2.2.2.2.2.2.2.2.1, S.2.2.2.2.2.2.2.2.2.2.1, S.2.2.2.2.2.2.2.2.2.2.2.1, x)
/-- a function, changed at one place -/
def sup {α : Type} (f : Nat → α) (k : Nat) (x : α) : Nat → α := fun j => if j = k then x else f j
theorem sup_s {α : Type} {f : Nat → α} {k : Nat} {x : α} : sup f k x k = x := by simp [sup]
theorem sup_n {α : Type} {f : Nat → α} {k j : Nat} {x : α} (h : j ≠ k) : sup f k x j = f j := by simp [sup, h]
theorem sup_upd {f : Nat → Int32} {k : Nat} {x : Int32} : upd f k x = sup f k x := rfl
/-- the number of versions that are published; the draft stands behind them -/
abbrev s_m (S : sSt) : Nat := (s_v S).length - 1
abbrev v0 : sVer := (fun _ => [], fun _ => 1, fun _ _ => 0, fun _ _ => 0, fun _ _ => 0)
abbrev s_ver (S : sSt) (v : Nat) : sVer := (s_v S).getD v v0
/-- how many fields come out of a carry: forward (m = 2 * kind) or back (m = 2 * kind + 1) -/
def s_cl (S : sSt) (v m : Nat) : Nat := if m % 2 = 0 then (s_ver S v).2.1 (m / 2) else (s_ver S (v - 1)).2.1 (m / 2)
/-- the letters and names of the codes -/
def jCN : List String := ["PUT", "ADD", "NEW", "GET", "SET", "JUMP", "CALL", "TABLE", "POINT", "RETURN", "OUT", "WAIT"]
def jCd (s0 : State) (b0 : Nat) (q : Nat) : Nat := jst s0 b0 "SwapWhile$Code" (jCN.getD q "PUT") "LSwapWhile$Code;"
def jON : List String := ["LOCAL", "PLACE", "FUNCTION", "ENTRY", "KIND", "FIELD", "ANY"]
def jOp (s0 : State) (b0 : Nat) (q : Nat) : Nat := jst s0 b0 "SwapWhile$Operand" (jON.getD q "LOCAL") "LSwapWhile$Operand;"
/-- how an Instruction keeps its second and third number -/
def s_nb (q : Nat) (b : Int32) : Int32 := if q = 9 ∨ q = 10 ∨ q = 11 then 0 else b
def s_nc (q : Nat) (c : Int32) : Int32 := if q = 3 ∨ q = 4 ∨ q = 6 ∨ q = 7 then c else 0
abbrev s_rg (n : Nat) (f : Nat → Nat) : List Nat := (List.range n).map f
/-- THE COMPONENT's PICTURE -/
def shC (D : va_G) (s0 : State) (b0 : Nat) (S : sSt) (ad : jN) : jPic := fun k i j => match k with
  | 1 => if i = 0 ∧ j = 0 then some (.inl (jo 2 [.ref (ad 2 0 0), .ref (ad 2 1 0), .ref (ad 3 0 0), .ref (ad 2 2 0), .ref (ad 2 3 0), .ref (ad 2 4 0), .ref (ad 4 0 0), .ref (ad 7 (s_m S) 0), .int (nI (s_p S)), .int (s_l S), .int (jbz (s_w S)), .long (lN (s_n S))])) else none
  | 2 => if j = 0 then (match i with
    | 0 => some (.inr (s_rg (s_m S) (fun v => ad 7 v 0), 0, 200))
    | 1 => some (.inr (s_rg (s_o S).length (fun v => ad 16 v 0), 0, 200))
    | 2 => some (.inr (s_rg (s_c S).length (fun v => ad 18 v 0), 0, 200))
    | 3 => some (.inr ((s_q S).map (fun v => ad 18 v 0), 0, 200))
    | 4 => some (.inr (s_rg (s_u S).length (fun v => ad 19 v 0), s_k S, s_k S))
    | _ => none) else none
  | 3 => if i = 0 ∧ j = 0 then some (.inl (jq D 102 3 (fun q => some (ad 5 q 0)))) else none
  | 4 => if i = 0 ∧ j = 0 then some (.inl (ji D 4 (fun q => nI (s_t S q)))) else none
  | 5 => if i < 3 ∧ j = 0 then some (.inl (jo 3 [.ref (ad 6 i 0), .int (nI (s_s S i).1)])) else none
  | 6 => if i < 3 ∧ j = 0 then some (.inr (s_rg (s_s S i).2.length (fun q => ad 8 i q), 0, 200)) else none
  | 7 => if i < (s_v S).length ∧ j = 0 then some (.inl (jo 4 [.ref (ad 10 i 0), .ref (ad 12 i 0), .ref (ad 13 i 0), .ref (ad 13 i 1), .ref (ad 14 i 0)])) else none
  | 8 => if i < 3 then ((s_s S i).2[j]?).map (fun f => .inl (jo 6 [.int (nI f.1), .int (nI f.2.1), .int (nI f.2.2.1), .ref (ad 9 i j), .int (nI f.2.2.2.2)])) else none
  | 9 => if i < 3 then ((s_s S i).2[j]?).map (fun f => .inl (ji D 4 f.2.2.2.1)) else none
  | 10 => if i < (s_v S).length ∧ j = 0 then some (.inr (s_rg 5 (fun f => ad 11 i f), 0, 200)) else none
  | 11 => if i < (s_v S).length ∧ j < 5 then some (.inr (((s_ver S i).1 j).map (fun q => ad 20 q 0), 0, 200)) else none
  | 12 => if i < (s_v S).length ∧ j = 0 then some (.inl (ji D 3 (fun q => nI ((s_ver S i).2.1 q)))) else none
  | 13 => if i < (s_v S).length ∧ j < 2 then some (.inl (jq D 103 3 (fun q => if i = 0 then none else some (ad 15 i (2 * q + j))))) else none
  | 14 => if i < (s_v S).length ∧ j = 0 then some (.inl (jq D 104 5 (fun f => some (ad 23 i f)))) else none
  | 15 => if 0 < i ∧ i < (s_v S).length ∧ j < 6 then some (.inl (jo 5 [.ref (ad 21 i j), .ref (ad 22 i j)])) else none
  | 16 => if j = 0 then ((s_o S)[i]?).map (fun t => .inl (jo 7 [.int (nI t.1), .int (nI t.2.1), .ref (ad 17 i 0)])) else none
  | 17 => if j = 0 then ((s_o S)[i]?).map (fun t => .inl (ji D ((s_ver S t.1).2.1 t.2.1) t.2.2)) else none
  | 18 => if j = 0 then ((s_c S)[i]?).map (fun c => .inl (jo 8 [.int (nI c.1), .int (jbz c.2.1), .int (jbz c.2.2.1), .long (lN c.2.2.2.1), .int (nI c.2.2.2.2)])) else none
  | 19 => if j = 0 then ((s_u S)[i]?).map (fun u => .inl (ji D 2 (fun q => if q = 0 then u.1 else nI u.2))) else none
  | 20 => if j = 0 then ((s_i S)[i]?).map (fun u => .inl (jo 9 [.ref (jCd s0 b0 u.1), .int u.2.1, .int (s_nb u.1 u.2.2.1), .int (s_nc u.1 u.2.2.2)])) else none
  | 21 => if 0 < i ∧ i < (s_v S).length ∧ j < 6 then some (.inl (ji D (s_cl S i j) ((s_ver S i).2.2.1 j))) else none
  | 22 => if 0 < i ∧ i < (s_v S).length ∧ j < 6 then some (.inl (ji D (s_cl S i j) ((s_ver S i).2.2.2.1 j))) else none
  | 23 => if i < (s_v S).length ∧ j < 5 then some (.inl (ji D 11 ((s_ver S i).2.2.2.2 j))) else none
  | _ => none
/-- the component's heap -/
abbrev jCo (D : va_G) (s0 : State) (b0 : Nat) (S : sSt) (ad : jN) (T : jT) (G : jG) : Prop := jRep D s0 b0 (shC D s0 b0 S ad) ad T G
theorem arrV_ext {cI : ClassId} {N : Nat} {f g : Nat → Value} (h : ∀ i, i < N → f i = g i) : arrV cI N f = arrV cI N g := by
  unfold arrV
  congr 1
  have e : (fun j : Fin N => f j.val) = fun j : Fin N => g j.val := funext fun j => h j.val j.isLt
  rw [e]
section JST
variable {p : Program} {l : Launch} {e : Env} {R : Room} {s : State} {m : MethodId} {args : Array Value} {below : List Frame} {meth : Method} {c : Code} {Q : State → Prop} {D : va_G} {s0 : State} {b0 : Nat} {A : Nat → Prop} {cc : ByteArray} {nL : Nat} {own : String} {G : jG} {bc bs pc : Nat} {lv : List (Nat × Value)} {st : List Value}
/-- the cells of the heap are of A; the start's are not -/
theorem jr_A (hX : jX D s0 b0 A p s m args c cc nL own) (kk : (∀ a x, G a = some x → A a) → Jg p l e R s m args below meth c Q D A nL G bc bs pc lv st) : Jg p l e R s m args below meth c Q D A nL G bc bs pc lv st :=
  fun H locs ls cells slots hG hS hl hc hs => kk (fun a x h => (hG a x h).2) H locs ls cells slots hG hS hl hc hs
theorem jS.eeA {U : State} (h : jS D s0 b0 A U) : ¬ A (jEE s0 b0) := by
  obtain ⟨cell, h1, h2, h3, h4⟩ := h.EEo
  exact h4
theorem jX.ee (hX : jX D s0 b0 A p s m args c cc nL own) {n : Nat} (h : A n) : n ≠ jEE s0 b0 := fun q => hX.S.eeA (by rw [← q]; exact h)
theorem jr_ee (hX : jX D s0 b0 A p s m args c cc nL own) (kk : G (jEE s0 b0) = none → Jg p l e R s m args below meth c Q D A nL G bc bs pc lv st) : Jg p l e R s m args below meth c Q D A nL G bc bs pc lv st :=
  jr_A hX fun h => kk (by
    cases q : G (jEE s0 b0) with
    | none => rfl
    | some x => exact absurd (h _ _ q) hX.S.eeA)
/-- an array of ints, its function told otherwise -/
theorem jr_norm {a n : Nat} {f : Nat → Int32} (g : Nat → Int32) (hG : G a = some (ji D n f)) (h : ∀ i, i < n → f i = g i) (kk : Jg p l e R s m args below meth c Q D A nL (jup G a (ji D n g)) bc bs pc lv st) : Jg p l e R s m args below meth c Q D A nL G bc bs pc lv st := by
  intro H locs ls cells slots hG0 hS hl hc hs
  refine kk H locs ls cells slots (fun b x hb => ?_) hS hl hc hs
  by_cases q : b = a
  · subst q
    rw [jup_s] at hb
    cases hb
    obtain ⟨h1, h2⟩ := hG0 _ _ hG
    refine ⟨?_, h2⟩
    have h1' : H[b]? = some (vp_cell (D.1 100) (n, .inl f)) := h1
    show H[b]? = some (vp_cell (D.1 100) (n, .inl g))
    rw [h1', vp_cell_i, vp_cell_i]
    congr 1
    exact arrV_ext fun i hi => by rw [h i hi]
  · rw [jup_n q] at hb
    exact hG0 b x hb
theorem jr_normq {a k n : Nat} {f : Nat → Option Nat} (g : Nat → Option Nat) (hG : G a = some (jq D k n f)) (h : ∀ i, i < n → f i = g i) (kk : Jg p l e R s m args below meth c Q D A nL (jup G a (jq D k n g)) bc bs pc lv st) : Jg p l e R s m args below meth c Q D A nL G bc bs pc lv st := by
  intro H locs ls cells slots hG0 hS hl hc hs
  refine kk H locs ls cells slots (fun b x hb => ?_) hS hl hc hs
  by_cases q : b = a
  · subst q
    rw [jup_s] at hb
    cases hb
    obtain ⟨h1, h2⟩ := hG0 _ _ hG
    refine ⟨?_, h2⟩
    have h1' : H[b]? = some (vp_cell (D.1 k) (n, .inr (.inr (.inr (.inr f))))) := h1
    show H[b]? = some (vp_cell (D.1 k) (n, .inr (.inr (.inr (.inr g)))))
    rw [h1', vp_cell_q, vp_cell_q]
    congr 1
    exact arrV_ext fun i hi => by rw [h i hi]
  · rw [jup_n q] at hb
    exact hG0 b x hb
end JST
