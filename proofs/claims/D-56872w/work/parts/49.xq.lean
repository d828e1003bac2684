/-! THE MODEL's PICTURE, over the same state: roles 31..59; th is what 'thrown' holds -/
def jbx (s0 : State) (b0 : Nat) (v : Int32) (a : Nat) : Nat := if (-128 : Int32) ≤ v ∧ v ≤ 127 then jAI s0 b0 (v + 128).toNatClampNeg else a
def shM (D : va_G) (s0 : State) (b0 : Nat) (th : Nat) (S : sSt) (ad : jN) : jPic := fun k i j => match k with
  | 31 => if i = 0 ∧ j = 0 then some (.inl (jo 11 [.int (nI th), .ref (ad 32 0 0), .ref (ad 37 (s_m S) 0), .int (nI (s_p S)), .ref (ad 32 1 0), .ref (ad 32 2 0), .ref (ad 34 0 0), .ref (ad 32 3 0), .ref (ad 32 4 0), .int (jbz (s_w S)), .int (s_l S), .ref (ad 32 5 0), .ref (ad 32 6 0), .long (lN (s_n S))])) else none
  | 32 => if j = 0 then (match i with
    | 0 => some (.inr (s_rg (s_m S) (fun v => ad 37 v 0), 0, 200))
    | 1 => some (.inr (s_rg 3 (fun v => ad 35 v 0), 0, 200))
    | 2 => some (.inr (s_rg (s_o S).length (fun v => ad 46 v 0), 0, 200))
    | 3 => some (.inr (s_rg (s_c S).length (fun v => ad 48 v 0), 0, 200))
    | 4 => some (.inr ((s_q S).map (fun v => ad 48 v 0), 0, 200))
    | 5 => some (.inr (s_rg (s_u S).length (fun v => jbx s0 b0 ((s_u S).getD v (0, 0)).1 (ad 49 v 0)), s_k S, s_k S))
    | 6 => some (.inr (s_rg (s_u S).length (fun v => jAI s0 b0 (((s_u S).getD v (0, 0)).2 + 128)), s_k S, s_k S))
    | _ => none) else none
  | 34 => if i = 0 ∧ j = 0 then some (.inl (ji D 4 (fun q => nI (s_t S q)))) else none
  | 35 => if i < 3 ∧ j = 0 then some (.inl (jo 13 [.int (nI (s_s S i).1), .ref (ad 36 i 0)])) else none
  | 36 => if i < 3 ∧ j = 0 then some (.inr (s_rg (s_s S i).2.length (fun q => ad 38 i q), 0, 200)) else none
  | 37 => if i < (s_v S).length ∧ j = 0 then some (.inl (jo 12 [.ref (ad 40 i 0), .ref (ad 42 i 0), .ref (ad 43 i 0), .ref (ad 43 i 1), .ref (ad 43 i 2), .ref (ad 43 i 3), .ref (ad 44 i 0)])) else none
  | 38 => if i < 3 then ((s_s S i).2[j]?).map (fun f => .inl (jo 15 [.int (nI f.1), .int (nI f.2.1), .int (nI f.2.2.2.2), .ref (ad 39 i j), .int (nI f.2.2.1)])) else none
  | 39 => if i < 3 then ((s_s S i).2[j]?).map (fun f => .inl (ji D 4 f.2.2.2.1)) else none
  | 40 => if i < (s_v S).length ∧ j = 0 then some (.inr (s_rg 5 (fun f => ad 41 i f), 0, 200)) else none
  | 41 => if i < (s_v S).length ∧ j < 5 then some (.inr (((s_ver S i).1 j).map (fun q => ad 50 q 0), 0, 200)) else none
  | 42 => if i < (s_v S).length ∧ j = 0 then some (.inl (ji D 3 (fun q => nI ((s_ver S i).2.1 q)))) else none
  | 43 => if i < (s_v S).length ∧ j < 4 then some (.inl (ji D 12 (fun q => if j = 0 then (s_ver S i).2.2.1 (2 * (q / 4)) (q % 4) else if j = 1 then (s_ver S i).2.2.2.1 (2 * (q / 4)) (q % 4) else if j = 2 then (s_ver S i).2.2.1 (2 * (q / 4) + 1) (q % 4) else (s_ver S i).2.2.2.1 (2 * (q / 4) + 1) (q % 4)))) else none
  | 44 => if i < (s_v S).length ∧ j = 0 then some (.inl (ji D 55 (fun q => (s_ver S i).2.2.2.2 (q / 11) (q % 11)))) else none
  | 46 => if j = 0 then ((s_o S)[i]?).map (fun t => .inl (jo 16 [.int (nI t.2.1), .int (nI t.1), .ref (ad 47 i 0)])) else none
  | 47 => if j = 0 then ((s_o S)[i]?).map (fun t => .inl (ji D ((s_ver S t.1).2.1 t.2.1) t.2.2)) else none
  | 48 => if j = 0 then ((s_c S)[i]?).map (fun c => .inl (jo 17 [.int (nI i), .int (nI c.1), .int (jbz c.2.1), .int (jbz c.2.2.1), .long (lN c.2.2.2.1), .int (nI c.2.2.2.2)])) else none
  | 49 => if j = 0 then (match (s_u S)[i]? with
    | some u => if (-128 : Int32) ≤ u.1 ∧ u.1 ≤ 127 then none else some (.inl (jo 10 [.int u.1]))
    | none => none) else none
  | 50 => if j = 0 then ((s_i S)[i]?).map (fun u => .inl (jo 14 [.int (jCL.getD u.1 0), .int u.2.1, .int u.2.2.1, .int u.2.2.2])) else none
  | _ => none
abbrev jMo (D : va_G) (s0 : State) (b0 : Nat) (th : Nat) (S : sSt) (ad : jN) (T : jT) (G : jG) : Prop := jRep D s0 b0 (shM D s0 b0 th S ad) ad T G
theorem mo_x {D : va_G} {s0 : State} {b0 : Nat} {th : Nat} {S : sSt} {ad : jN} {T : jT} {G : jG} (h : jMo D s0 b0 th S ad T G) : G (ad 31 0 0) = some (jo 11 [.int (nI th), .ref (ad 32 0 0), .ref (ad 37 (s_m S) 0), .int (nI (s_p S)), .ref (ad 32 1 0), .ref (ad 32 2 0), .ref (ad 34 0 0), .ref (ad 32 3 0), .ref (ad 32 4 0), .int (jbz (s_w S)), .int (s_l S), .ref (ad 32 5 0), .ref (ad 32 6 0), .long (lN (s_n S))]) := h.c (k := 31) (i := 0) (j := 0) rfl
