/-! WRITES TO THE MODEL's PICTURE (ported by program from the component's) -/
theorem shM_s {D : va_G} {s0 : State} {b0 th : Nat} {S : sSt} {ad : jN} {k i j : Nat} {x : Nat → Nat × List sFr} (h35 : k ≠ 35) (h36 : k ≠ 36) (h38 : k ≠ 38) (h39 : k ≠ 39) : shM D s0 b0 th (sw_s S x) ad k i j = shM D s0 b0 th S ad k i j := by
  rcases k with _ | _ | _ | _ | _ | _ | _ | _ | _ | _ | _ | _ | _ | _ | _ | _ | _ | _ | _ | _ | _ | _ | _ | _ | _ | _ | _ | _ | _ | _ | _ | _ | _ | _ | _ | _ | _ | _ | _ | _ | _ | _ | _ | _ | _ | _ | _ | _ | _ | _ | _ | k
  all_goals first | exact absurd rfl h35 | exact absurd rfl h36 | exact absurd rfl h38 | exact absurd rfl h39 | rfl

theorem shM_p {D : va_G} {s0 : State} {b0 th : Nat} {S : sSt} {ad : jN} {k i j : Nat} {x : Nat} (h31 : k ≠ 31) : shM D s0 b0 th (sw_p S x) ad k i j = shM D s0 b0 th S ad k i j := by
  rcases k with _ | _ | _ | _ | _ | _ | _ | _ | _ | _ | _ | _ | _ | _ | _ | _ | _ | _ | _ | _ | _ | _ | _ | _ | _ | _ | _ | _ | _ | _ | _ | _ | _ | _ | _ | _ | _ | _ | _ | _ | _ | _ | _ | _ | _ | _ | _ | _ | _ | _ | _ | k
  all_goals first | exact absurd rfl h31 | rfl

theorem shM_o {D : va_G} {s0 : State} {b0 th : Nat} {S : sSt} {ad : jN} {k i j : Nat} {x : List sTh} (h32 : k ≠ 32) (h46 : k ≠ 46) (h47 : k ≠ 47) : shM D s0 b0 th (sw_o S x) ad k i j = shM D s0 b0 th S ad k i j := by
  rcases k with _ | _ | _ | _ | _ | _ | _ | _ | _ | _ | _ | _ | _ | _ | _ | _ | _ | _ | _ | _ | _ | _ | _ | _ | _ | _ | _ | _ | _ | _ | _ | _ | _ | _ | _ | _ | _ | _ | _ | _ | _ | _ | _ | _ | _ | _ | _ | _ | _ | _ | _ | k
  all_goals first | exact absurd rfl h32 | exact absurd rfl h46 | exact absurd rfl h47 | rfl

theorem shM_t {D : va_G} {s0 : State} {b0 th : Nat} {S : sSt} {ad : jN} {k i j : Nat} {x : Nat → Nat} (h34 : k ≠ 34) : shM D s0 b0 th (sw_t S x) ad k i j = shM D s0 b0 th S ad k i j := by
  rcases k with _ | _ | _ | _ | _ | _ | _ | _ | _ | _ | _ | _ | _ | _ | _ | _ | _ | _ | _ | _ | _ | _ | _ | _ | _ | _ | _ | _ | _ | _ | _ | _ | _ | _ | _ | _ | _ | _ | _ | _ | _ | _ | _ | _ | _ | _ | _ | _ | _ | _ | _ | k
  all_goals first | exact absurd rfl h34 | rfl

theorem shM_c {D : va_G} {s0 : State} {b0 th : Nat} {S : sSt} {ad : jN} {k i j : Nat} {x : List sCh} (h32 : k ≠ 32) (h48 : k ≠ 48) : shM D s0 b0 th (sw_c S x) ad k i j = shM D s0 b0 th S ad k i j := by
  rcases k with _ | _ | _ | _ | _ | _ | _ | _ | _ | _ | _ | _ | _ | _ | _ | _ | _ | _ | _ | _ | _ | _ | _ | _ | _ | _ | _ | _ | _ | _ | _ | _ | _ | _ | _ | _ | _ | _ | _ | _ | _ | _ | _ | _ | _ | _ | _ | _ | _ | _ | _ | k
  all_goals first | exact absurd rfl h32 | exact absurd rfl h48 | rfl

theorem shM_q {D : va_G} {s0 : State} {b0 th : Nat} {S : sSt} {ad : jN} {k i j : Nat} {x : List Nat} (h32 : k ≠ 32) : shM D s0 b0 th (sw_q S x) ad k i j = shM D s0 b0 th S ad k i j := by
  rcases k with _ | _ | _ | _ | _ | _ | _ | _ | _ | _ | _ | _ | _ | _ | _ | _ | _ | _ | _ | _ | _ | _ | _ | _ | _ | _ | _ | _ | _ | _ | _ | _ | _ | _ | _ | _ | _ | _ | _ | _ | _ | _ | _ | _ | _ | _ | _ | _ | _ | _ | _ | k
  all_goals first | exact absurd rfl h32 | rfl

theorem shM_w {D : va_G} {s0 : State} {b0 th : Nat} {S : sSt} {ad : jN} {k i j : Nat} {x : Bool} (h31 : k ≠ 31) : shM D s0 b0 th (sw_w S x) ad k i j = shM D s0 b0 th S ad k i j := by
  rcases k with _ | _ | _ | _ | _ | _ | _ | _ | _ | _ | _ | _ | _ | _ | _ | _ | _ | _ | _ | _ | _ | _ | _ | _ | _ | _ | _ | _ | _ | _ | _ | _ | _ | _ | _ | _ | _ | _ | _ | _ | _ | _ | _ | _ | _ | _ | _ | _ | _ | _ | _ | k
  all_goals first | exact absurd rfl h31 | rfl

theorem shM_l {D : va_G} {s0 : State} {b0 th : Nat} {S : sSt} {ad : jN} {k i j : Nat} {x : Int32} (h31 : k ≠ 31) : shM D s0 b0 th (sw_l S x) ad k i j = shM D s0 b0 th S ad k i j := by
  rcases k with _ | _ | _ | _ | _ | _ | _ | _ | _ | _ | _ | _ | _ | _ | _ | _ | _ | _ | _ | _ | _ | _ | _ | _ | _ | _ | _ | _ | _ | _ | _ | _ | _ | _ | _ | _ | _ | _ | _ | _ | _ | _ | _ | _ | _ | _ | _ | _ | _ | _ | _ | k
  all_goals first | exact absurd rfl h31 | rfl

theorem shM_n {D : va_G} {s0 : State} {b0 th : Nat} {S : sSt} {ad : jN} {k i j : Nat} {x : Nat} (h31 : k ≠ 31) : shM D s0 b0 th (sw_n S x) ad k i j = shM D s0 b0 th S ad k i j := by
  rcases k with _ | _ | _ | _ | _ | _ | _ | _ | _ | _ | _ | _ | _ | _ | _ | _ | _ | _ | _ | _ | _ | _ | _ | _ | _ | _ | _ | _ | _ | _ | _ | _ | _ | _ | _ | _ | _ | _ | _ | _ | _ | _ | _ | _ | _ | _ | _ | _ | _ | _ | _ | k
  all_goals first | exact absurd rfl h31 | rfl

theorem shM_i {D : va_G} {s0 : State} {b0 th : Nat} {S : sSt} {ad : jN} {k i j : Nat} {x : List sIns} (h50 : k ≠ 50) : shM D s0 b0 th (sw_i S x) ad k i j = shM D s0 b0 th S ad k i j := by
  rcases k with _ | _ | _ | _ | _ | _ | _ | _ | _ | _ | _ | _ | _ | _ | _ | _ | _ | _ | _ | _ | _ | _ | _ | _ | _ | _ | _ | _ | _ | _ | _ | _ | _ | _ | _ | _ | _ | _ | _ | _ | _ | _ | _ | _ | _ | _ | _ | _ | _ | _ | _ | k
  all_goals first | exact absurd rfl h50 | rfl

theorem shM_u {D : va_G} {s0 : State} {b0 th : Nat} {S : sSt} {ad : jN} {k i j : Nat} {x : List (Int32 × Nat)} {y : Nat} (h32 : k ≠ 32) (h49 : k ≠ 49) : shM D s0 b0 th (sw_u S x y) ad k i j = shM D s0 b0 th S ad k i j := by
  have hd : ∀ (S : sSt) (m : Nat), shM D s0 b0 th S ad (m + 51) i j = none := fun S m => rfl
  by_cases hk : k < 51
  · have h : k = 0 ∨ k = 1 ∨ k = 2 ∨ k = 3 ∨ k = 4 ∨ k = 5 ∨ k = 6 ∨ k = 7 ∨ k = 8 ∨ k = 9 ∨ k = 10 ∨ k = 11 ∨ k = 12 ∨ k = 13 ∨ k = 14 ∨ k = 15 ∨ k = 16 ∨ k = 17 ∨ k = 18 ∨ k = 19 ∨ k = 20 ∨ k = 21 ∨ k = 22 ∨ k = 23 ∨ k = 24 ∨ k = 25 ∨ k = 26 ∨ k = 27 ∨ k = 28 ∨ k = 29 ∨ k = 30 ∨ k = 31 ∨ k = 32 ∨ k = 33 ∨ k = 34 ∨ k = 35 ∨ k = 36 ∨ k = 37 ∨ k = 38 ∨ k = 39 ∨ k = 40 ∨ k = 41 ∨ k = 42 ∨ k = 43 ∨ k = 44 ∨ k = 45 ∨ k = 46 ∨ k = 47 ∨ k = 48 ∨ k = 49 ∨ k = 50 := by omega
    rcases h with rfl | rfl | rfl | rfl | rfl | rfl | rfl | rfl | rfl | rfl | rfl | rfl | rfl | rfl | rfl | rfl | rfl | rfl | rfl | rfl | rfl | rfl | rfl | rfl | rfl | rfl | rfl | rfl | rfl | rfl | rfl | rfl | rfl | rfl | rfl | rfl | rfl | rfl | rfl | rfl | rfl | rfl | rfl | rfl | rfl | rfl | rfl | rfl | rfl | rfl | rfl
    all_goals first | exact absurd rfl h32 | exact absurd rfl h49 | simp only [shM]
  · obtain ⟨m, rfl⟩ : ∃ m, k = m + 51 := ⟨k - 51, by omega⟩
    rw [hd, hd]

theorem shM_a38 {D : va_G} {s0 : State} {b0 th : Nat} {S : sSt} {ad : jN} {k i j i0 j0 q : Nat} (h36 : k ≠ 36) : shM D s0 b0 th S (jas ad 38 i0 j0 q) k i j = shM D s0 b0 th S ad k i j := by
  rcases k with _ | _ | _ | _ | _ | _ | _ | _ | _ | _ | _ | _ | _ | _ | _ | _ | _ | _ | _ | _ | _ | _ | _ | _ | _ | _ | _ | _ | _ | _ | _ | _ | _ | _ | _ | _ | _ | _ | _ | _ | _ | _ | _ | _ | _ | _ | _ | _ | _ | _ | _ | k
  all_goals first | exact absurd rfl h36 | rfl

theorem shM_a39 {D : va_G} {s0 : State} {b0 th : Nat} {S : sSt} {ad : jN} {k i j i0 j0 q : Nat} (h38 : k ≠ 38) : shM D s0 b0 th S (jas ad 39 i0 j0 q) k i j = shM D s0 b0 th S ad k i j := by
  rcases k with _ | _ | _ | _ | _ | _ | _ | _ | _ | _ | _ | _ | _ | _ | _ | _ | _ | _ | _ | _ | _ | _ | _ | _ | _ | _ | _ | _ | _ | _ | _ | _ | _ | _ | _ | _ | _ | _ | _ | _ | _ | _ | _ | _ | _ | _ | _ | _ | _ | _ | _ | k
  all_goals first | exact absurd rfl h38 | rfl

theorem shM_a46 {D : va_G} {s0 : State} {b0 th : Nat} {S : sSt} {ad : jN} {k i j i0 j0 q : Nat} (h32 : k ≠ 32) : shM D s0 b0 th S (jas ad 46 i0 j0 q) k i j = shM D s0 b0 th S ad k i j := by
  rcases k with _ | _ | _ | _ | _ | _ | _ | _ | _ | _ | _ | _ | _ | _ | _ | _ | _ | _ | _ | _ | _ | _ | _ | _ | _ | _ | _ | _ | _ | _ | _ | _ | _ | _ | _ | _ | _ | _ | _ | _ | _ | _ | _ | _ | _ | _ | _ | _ | _ | _ | _ | k
  all_goals first | exact absurd rfl h32 | rfl

theorem shM_a47 {D : va_G} {s0 : State} {b0 th : Nat} {S : sSt} {ad : jN} {k i j i0 j0 q : Nat} (h46 : k ≠ 46) : shM D s0 b0 th S (jas ad 47 i0 j0 q) k i j = shM D s0 b0 th S ad k i j := by
  rcases k with _ | _ | _ | _ | _ | _ | _ | _ | _ | _ | _ | _ | _ | _ | _ | _ | _ | _ | _ | _ | _ | _ | _ | _ | _ | _ | _ | _ | _ | _ | _ | _ | _ | _ | _ | _ | _ | _ | _ | _ | _ | _ | _ | _ | _ | _ | _ | _ | _ | _ | _ | k
  all_goals first | exact absurd rfl h46 | rfl

theorem shM_a48 {D : va_G} {s0 : State} {b0 th : Nat} {S : sSt} {ad : jN} {k i j i0 j0 q : Nat} (h32 : k ≠ 32) : shM D s0 b0 th S (jas ad 48 i0 j0 q) k i j = shM D s0 b0 th S ad k i j := by
  rcases k with _ | _ | _ | _ | _ | _ | _ | _ | _ | _ | _ | _ | _ | _ | _ | _ | _ | _ | _ | _ | _ | _ | _ | _ | _ | _ | _ | _ | _ | _ | _ | _ | _ | _ | _ | _ | _ | _ | _ | _ | _ | _ | _ | _ | _ | _ | _ | _ | _ | _ | _ | k
  all_goals first | exact absurd rfl h32 | rfl

theorem shM_a49 {D : va_G} {s0 : State} {b0 th : Nat} {S : sSt} {ad : jN} {k i j i0 j0 q : Nat} (h32 : k ≠ 32) : shM D s0 b0 th S (jas ad 49 i0 j0 q) k i j = shM D s0 b0 th S ad k i j := by
  rcases k with _ | _ | _ | _ | _ | _ | _ | _ | _ | _ | _ | _ | _ | _ | _ | _ | _ | _ | _ | _ | _ | _ | _ | _ | _ | _ | _ | _ | _ | _ | _ | _ | _ | _ | _ | _ | _ | _ | _ | _ | _ | _ | _ | _ | _ | _ | _ | _ | _ | _ | _ | k
  all_goals first | exact absurd rfl h32 | rfl

theorem shM_a50 {D : va_G} {s0 : State} {b0 th : Nat} {S : sSt} {ad : jN} {k i j i0 j0 q : Nat} (h41 : k ≠ 41) : shM D s0 b0 th S (jas ad 50 i0 j0 q) k i j = shM D s0 b0 th S ad k i j := by
  rcases k with _ | _ | _ | _ | _ | _ | _ | _ | _ | _ | _ | _ | _ | _ | _ | _ | _ | _ | _ | _ | _ | _ | _ | _ | _ | _ | _ | _ | _ | _ | _ | _ | _ | _ | _ | _ | _ | _ | _ | _ | _ | _ | _ | _ | _ | _ | _ | _ | _ | _ | _ | k
  all_goals first | exact absurd rfl h41 | rfl

theorem mo_wp {D : va_G} {s0 : State} {b0 th : Nat} {S : sSt} {ad : jN} {T : jT} {G : jG} (h : jMo D s0 b0 th S ad T G) (x : Nat) : jMo D s0 b0 th (sw_p S x) ad T (jup G (ad 31 0 0) (jo 11 [.int (nI th), .ref (ad 32 0 0), .ref (ad 37 (s_m S) 0), .int (nI x), .ref (ad 32 1 0), .ref (ad 32 2 0), .ref (ad 34 0 0), .ref (ad 32 3 0), .ref (ad 32 4 0), .int (jbz (s_w S)), .int (s_l S), .ref (ad 32 5 0), .ref (ad 32 6 0), .long (lN (s_n S))])) := by
  refine jRep.put h (k := 31) (i := 0) (j := 0) (s0' := .inl (jo 11 [.int (nI th), .ref (ad 32 0 0), .ref (ad 37 (s_m S) 0), .int (nI (s_p S)), .ref (ad 32 1 0), .ref (ad 32 2 0), .ref (ad 34 0 0), .ref (ad 32 3 0), .ref (ad 32 4 0), .int (jbz (s_w S)), .int (s_l S), .ref (ad 32 5 0), .ref (ad 32 6 0), .long (lN (s_n S))])) rfl (fun s hs => (Option.some.inj hs).symm) (fun k' i' j' s hne hs => Or.inl ?_)
  rw [← hs]
  by_cases h31 : k' = 31
  · subst h31
    show (if i' = 0 ∧ j' = 0 then _ else none) = (if i' = 0 ∧ j' = 0 then _ else none)
    rw [if_neg (fun z => hne ⟨rfl, z.1, z.2⟩), if_neg (fun z => hne ⟨rfl, z.1, z.2⟩)]
  · exact (shM_p h31).symm

theorem mo_ww {D : va_G} {s0 : State} {b0 th : Nat} {S : sSt} {ad : jN} {T : jT} {G : jG} (h : jMo D s0 b0 th S ad T G) (x : Bool) : jMo D s0 b0 th (sw_w S x) ad T (jup G (ad 31 0 0) (jo 11 [.int (nI th), .ref (ad 32 0 0), .ref (ad 37 (s_m S) 0), .int (nI (s_p S)), .ref (ad 32 1 0), .ref (ad 32 2 0), .ref (ad 34 0 0), .ref (ad 32 3 0), .ref (ad 32 4 0), .int (jbz x), .int (s_l S), .ref (ad 32 5 0), .ref (ad 32 6 0), .long (lN (s_n S))])) := by
  refine jRep.put h (k := 31) (i := 0) (j := 0) (s0' := .inl (jo 11 [.int (nI th), .ref (ad 32 0 0), .ref (ad 37 (s_m S) 0), .int (nI (s_p S)), .ref (ad 32 1 0), .ref (ad 32 2 0), .ref (ad 34 0 0), .ref (ad 32 3 0), .ref (ad 32 4 0), .int (jbz (s_w S)), .int (s_l S), .ref (ad 32 5 0), .ref (ad 32 6 0), .long (lN (s_n S))])) rfl (fun s hs => (Option.some.inj hs).symm) (fun k' i' j' s hne hs => Or.inl ?_)
  rw [← hs]
  by_cases h31 : k' = 31
  · subst h31
    show (if i' = 0 ∧ j' = 0 then _ else none) = (if i' = 0 ∧ j' = 0 then _ else none)
    rw [if_neg (fun z => hne ⟨rfl, z.1, z.2⟩), if_neg (fun z => hne ⟨rfl, z.1, z.2⟩)]
  · exact (shM_w h31).symm

theorem mo_wl {D : va_G} {s0 : State} {b0 th : Nat} {S : sSt} {ad : jN} {T : jT} {G : jG} (h : jMo D s0 b0 th S ad T G) (x : Int32) : jMo D s0 b0 th (sw_l S x) ad T (jup G (ad 31 0 0) (jo 11 [.int (nI th), .ref (ad 32 0 0), .ref (ad 37 (s_m S) 0), .int (nI (s_p S)), .ref (ad 32 1 0), .ref (ad 32 2 0), .ref (ad 34 0 0), .ref (ad 32 3 0), .ref (ad 32 4 0), .int (jbz (s_w S)), .int x, .ref (ad 32 5 0), .ref (ad 32 6 0), .long (lN (s_n S))])) := by
  refine jRep.put h (k := 31) (i := 0) (j := 0) (s0' := .inl (jo 11 [.int (nI th), .ref (ad 32 0 0), .ref (ad 37 (s_m S) 0), .int (nI (s_p S)), .ref (ad 32 1 0), .ref (ad 32 2 0), .ref (ad 34 0 0), .ref (ad 32 3 0), .ref (ad 32 4 0), .int (jbz (s_w S)), .int (s_l S), .ref (ad 32 5 0), .ref (ad 32 6 0), .long (lN (s_n S))])) rfl (fun s hs => (Option.some.inj hs).symm) (fun k' i' j' s hne hs => Or.inl ?_)
  rw [← hs]
  by_cases h31 : k' = 31
  · subst h31
    show (if i' = 0 ∧ j' = 0 then _ else none) = (if i' = 0 ∧ j' = 0 then _ else none)
    rw [if_neg (fun z => hne ⟨rfl, z.1, z.2⟩), if_neg (fun z => hne ⟨rfl, z.1, z.2⟩)]
  · exact (shM_l h31).symm

theorem mo_wn {D : va_G} {s0 : State} {b0 th : Nat} {S : sSt} {ad : jN} {T : jT} {G : jG} (h : jMo D s0 b0 th S ad T G) (x : Nat) : jMo D s0 b0 th (sw_n S x) ad T (jup G (ad 31 0 0) (jo 11 [.int (nI th), .ref (ad 32 0 0), .ref (ad 37 (s_m S) 0), .int (nI (s_p S)), .ref (ad 32 1 0), .ref (ad 32 2 0), .ref (ad 34 0 0), .ref (ad 32 3 0), .ref (ad 32 4 0), .int (jbz (s_w S)), .int (s_l S), .ref (ad 32 5 0), .ref (ad 32 6 0), .long (lN x)])) := by
  refine jRep.put h (k := 31) (i := 0) (j := 0) (s0' := .inl (jo 11 [.int (nI th), .ref (ad 32 0 0), .ref (ad 37 (s_m S) 0), .int (nI (s_p S)), .ref (ad 32 1 0), .ref (ad 32 2 0), .ref (ad 34 0 0), .ref (ad 32 3 0), .ref (ad 32 4 0), .int (jbz (s_w S)), .int (s_l S), .ref (ad 32 5 0), .ref (ad 32 6 0), .long (lN (s_n S))])) rfl (fun s hs => (Option.some.inj hs).symm) (fun k' i' j' s hne hs => Or.inl ?_)
  rw [← hs]
  by_cases h31 : k' = 31
  · subst h31
    show (if i' = 0 ∧ j' = 0 then _ else none) = (if i' = 0 ∧ j' = 0 then _ else none)
    rw [if_neg (fun z => hne ⟨rfl, z.1, z.2⟩), if_neg (fun z => hne ⟨rfl, z.1, z.2⟩)]
  · exact (shM_n h31).symm

theorem mo_wfr {D : va_G} {s0 : State} {b0 th : Nat} {S : sSt} {ad : jN} {T : jT} {G : jG} {i j : Nat} {x y : sFr} (h : jMo D s0 b0 th S ad T G) (hi : i < 3) (hx : (s_s S i).2[j]? = some x) (hl : y.2.2.2.1 = x.2.2.2.1) : jMo D s0 b0 th (s_fw S i j y) ad T (jup G (ad 38 i j) (jo 15 [.int (nI y.1), .int (nI y.2.1), .int (nI y.2.2.2.2), .ref (ad 39 i j), .int (nI y.2.2.1)])) := by
  have hj : j < (s_s S i).2.length := lt_ofl hx
  refine jRep.put h (k := 38) (i := i) (j := j) (s0' := .inl (jo 15 [.int (nI x.1), .int (nI x.2.1), .int (nI x.2.2.2.2), .ref (ad 39 i j), .int (nI x.2.2.1)])) ?_ ?_ ?_
  · show (if i < 3 then Option.map _ ((s_s S i).2[j]?) else none) = _
    rw [if_pos hi, hx]; rfl
  · intro s hs
    have hs' : (if i < 3 then Option.map _ ((sup (s_s S) i ((s_s S i).1, (s_s S i).2.set j y) i).2[j]?) else none) = some s := hs
    rw [if_pos hi, sup_s] at hs'
    simp only [List.getElem?_set_self hj, Option.map_some, Option.some.injEq] at hs'
    exact hs'.symm
  · intro k' i' j' s hne hs
    refine Or.inl ?_
    rw [← hs]
    by_cases h5 : k' = 35
    · subst h5
      show (if i' < 3 ∧ j' = 0 then some (Sum.inl (jo 13 [.int (nI (s_s S i').1), .ref (ad 36 i' 0)])) else none) = (if i' < 3 ∧ j' = 0 then some (Sum.inl (jo 13 [.int (nI (sup (s_s S) i ((s_s S i).1, (s_s S i).2.set j y) i').1), .ref (ad 36 i' 0)])) else none)
      by_cases e : i' = i
      · subst e; simp only [sup_s]
      · simp only [sup_n e]
    by_cases h6 : k' = 36
    · subst h6
      show (if i' < 3 ∧ j' = 0 then some (Sum.inr (s_rg (s_s S i').2.length (fun q => ad 38 i' q), 0, 200)) else none) = (if i' < 3 ∧ j' = 0 then some (Sum.inr (s_rg (sup (s_s S) i ((s_s S i).1, (s_s S i).2.set j y) i').2.length (fun q => ad 38 i' q), 0, 200)) else none)
      by_cases e : i' = i
      · subst e; simp only [sup_s, List.length_set]
      · simp only [sup_n e]
    by_cases h8 : k' = 38
    · subst h8
      show (if i' < 3 then Option.map _ ((s_s S i').2[j']?) else none) = (if i' < 3 then Option.map _ ((sup (s_s S) i ((s_s S i).1, (s_s S i).2.set j y) i').2[j']?) else none)
      by_cases e : i' = i
      · subst e
        have e2 : j ≠ j' := fun q => hne ⟨rfl, rfl, q.symm⟩
        simp only [sup_s, List.getElem?_set_ne e2]
      · simp only [sup_n e]
    by_cases h9 : k' = 39
    · subst h9
      show (if i' < 3 then Option.map _ ((s_s S i').2[j']?) else none) = (if i' < 3 then Option.map _ ((sup (s_s S) i ((s_s S i).1, (s_s S i).2.set j y) i').2[j']?) else none)
      by_cases e : i' = i
      · subst e
        by_cases e2 : j = j'
        · subst e2
          simp only [sup_s, List.getElem?_set_self hj, hx, Option.map_some, hl]
        · simp only [sup_s, List.getElem?_set_ne e2]
      · simp only [sup_n e]
    exact (shM_s h5 h6 h8 h9).symm

theorem mo_wst {D : va_G} {s0 : State} {b0 th : Nat} {S : sSt} {ad : jN} {T : jT} {G : jG} {i : Nat} (h : jMo D s0 b0 th S ad T G) (hi : i < 3) (x : Nat) : jMo D s0 b0 th (s_st S i x) ad T (jup G (ad 35 i 0) (jo 13 [.int (nI x), .ref (ad 36 i 0)])) := by
  refine jRep.put h (k := 35) (i := i) (j := 0) (s0' := .inl (jo 13 [.int (nI (s_s S i).1), .ref (ad 36 i 0)])) (if_pos ⟨hi, rfl⟩) (fun s hs => ?_) (fun k' i' j' s hne hs => Or.inl ?_)
  · have hs' : (if i < 3 ∧ 0 = 0 then some (Sum.inl (jo 13 [.int (nI (sup (s_s S) i (x, (s_s S i).2) i).1), .ref (ad 36 i 0)]) : jSh) else none) = some s := hs
    rw [if_pos ⟨hi, rfl⟩, sup_s] at hs'
    exact (Option.some.inj hs').symm
  · rw [← hs]
    have e2 : ∀ q, (sup (s_s S) i (x, (s_s S i).2) q).2 = (s_s S q).2 := fun q => by
      by_cases e : q = i
      · subst e; rw [sup_s]
      · rw [sup_n e]
    by_cases h5 : k' = 35
    · subst h5
      show (if i' < 3 ∧ j' = 0 then some (Sum.inl (jo 13 [.int (nI (s_s S i').1), .ref (ad 36 i' 0)]) : jSh) else none) = (if i' < 3 ∧ j' = 0 then some (Sum.inl (jo 13 [.int (nI (sup (s_s S) i (x, (s_s S i).2) i').1), .ref (ad 36 i' 0)]) : jSh) else none)
      by_cases hj : j' = 0
      · rw [sup_n (fun z => hne ⟨rfl, z, hj⟩)]
      · rw [if_neg (fun z => hj z.2), if_neg (fun z => hj z.2)]
    by_cases h6 : k' = 36
    · subst h6
      show _ = (if i' < 3 ∧ j' = 0 then some (Sum.inr (s_rg (sup (s_s S) i (x, (s_s S i).2) i').2.length (fun q => ad 38 i' q), 0, 200) : jSh) else none)
      rw [e2]; rfl
    by_cases h8 : k' = 38
    · subst h8
      show _ = (if i' < 3 then Option.map _ ((sup (s_s S) i (x, (s_s S i).2) i').2[j']?) else none)
      rw [e2]; rfl
    by_cases h9 : k' = 39
    · subst h9
      show _ = (if i' < 3 then Option.map _ ((sup (s_s S) i (x, (s_s S i).2) i').2[j']?) else none)
      rw [e2]; rfl
    exact (shM_s h5 h6 h8 h9).symm

theorem mo_wloc {D : va_G} {s0 : State} {b0 th : Nat} {S : sSt} {ad : jN} {T : jT} {G : jG} {i j : Nat} {x : sFr} (h : jMo D s0 b0 th S ad T G) (hi : i < 3) (hx : (s_s S i).2[j]? = some x) (loc : Nat → Int32) : jMo D s0 b0 th (s_lw S i j x loc) ad T (jup G (ad 39 i j) (ji D 4 loc)) := by
  have hj : j < (s_s S i).2.length := lt_ofl hx
  have hsame : ∀ q, q ≠ i → sup (s_s S) i ((s_s S i).1, (s_s S i).2.set j (x.1, x.2.1, x.2.2.1, loc, x.2.2.2.2)) q = s_s S q := fun q e => sup_n e
  refine jRep.put h (k := 39) (i := i) (j := j) (s0' := .inl (ji D 4 x.2.2.2.1)) (by
    show (if i < 3 then Option.map _ ((s_s S i).2[j]?) else none) = _
    rw [if_pos hi, hx]; rfl) (fun s hs => ?_) (fun k' i' j' s hne hs => Or.inl ?_)
  · have hs' : (if i < 3 then Option.map (fun f : sFr => (Sum.inl (ji D 4 f.2.2.2.1) : jSh)) ((sup (s_s S) i ((s_s S i).1, (s_s S i).2.set j (x.1, x.2.1, x.2.2.1, loc, x.2.2.2.2)) i).2[j]?) else none) = some s := hs
    rw [if_pos hi, sup_s] at hs'
    simp only [List.getElem?_set_self hj, Option.map_some, Option.some.injEq] at hs'
    exact hs'.symm
  · rw [← hs]
    by_cases h5 : k' = 35
    · subst h5
      show (if i' < 3 ∧ j' = 0 then some (Sum.inl (jo 13 [.int (nI (s_s S i').1), .ref (ad 36 i' 0)]) : jSh) else none) = (if i' < 3 ∧ j' = 0 then some (Sum.inl (jo 13 [.int (nI (sup (s_s S) i ((s_s S i).1, (s_s S i).2.set j (x.1, x.2.1, x.2.2.1, loc, x.2.2.2.2)) i').1), .ref (ad 36 i' 0)]) : jSh) else none)
      by_cases e : i' = i
      · subst e; rw [sup_s]
      · rw [hsame _ e]
    by_cases h6 : k' = 36
    · subst h6
      show (if i' < 3 ∧ j' = 0 then some (Sum.inr (s_rg (s_s S i').2.length (fun q => ad 38 i' q), 0, 200) : jSh) else none) = (if i' < 3 ∧ j' = 0 then some (Sum.inr (s_rg (sup (s_s S) i ((s_s S i).1, (s_s S i).2.set j (x.1, x.2.1, x.2.2.1, loc, x.2.2.2.2)) i').2.length (fun q => ad 38 i' q), 0, 200) : jSh) else none)
      by_cases e : i' = i
      · subst e; rw [sup_s, List.length_set]
      · rw [hsame _ e]
    by_cases h8 : k' = 38
    · subst h8
      show (if i' < 3 then Option.map (fun f : sFr => (Sum.inl (jo 15 [.int (nI f.1), .int (nI f.2.1), .int (nI f.2.2.2.2), .ref (ad 39 i' j'), .int (nI f.2.2.1)]) : jSh)) ((s_s S i').2[j']?) else none) = (if i' < 3 then Option.map (fun f : sFr => (Sum.inl (jo 15 [.int (nI f.1), .int (nI f.2.1), .int (nI f.2.2.2.2), .ref (ad 39 i' j'), .int (nI f.2.2.1)]) : jSh)) ((sup (s_s S) i ((s_s S i).1, (s_s S i).2.set j (x.1, x.2.1, x.2.2.1, loc, x.2.2.2.2)) i').2[j']?) else none)
      by_cases e : i' = i
      · subst e
        rw [sup_s]
        by_cases e2 : j = j'
        · subst e2
          simp only [List.getElem?_set_self hj, hx, Option.map_some]
        · simp only [List.getElem?_set_ne e2]
      · rw [hsame _ e]
    by_cases h9 : k' = 39
    · subst h9
      show (if i' < 3 then Option.map (fun f : sFr => (Sum.inl (ji D 4 f.2.2.2.1) : jSh)) ((s_s S i').2[j']?) else none) = (if i' < 3 then Option.map (fun f : sFr => (Sum.inl (ji D 4 f.2.2.2.1) : jSh)) ((sup (s_s S) i ((s_s S i).1, (s_s S i).2.set j (x.1, x.2.1, x.2.2.1, loc, x.2.2.2.2)) i').2[j']?) else none)
      by_cases e : i' = i
      · subst e
        have e2 : j ≠ j' := fun z => hne ⟨rfl, rfl, z.symm⟩
        rw [sup_s]
        simp only [List.getElem?_set_ne e2]
      · rw [hsame _ e]
    exact (shM_s h5 h6 h8 h9).symm

theorem mo_wtb {D : va_G} {s0 : State} {b0 th : Nat} {S : sSt} {ad : jN} {T : jT} {G : jG} (h : jMo D s0 b0 th S ad T G) (x : Nat → Nat) : jMo D s0 b0 th (sw_t S x) ad T (jup G (ad 34 0 0) (ji D 4 (fun q => nI (x q)))) := by
  refine jRep.put h (k := 34) (i := 0) (j := 0) (s0' := .inl (ji D 4 (fun q => nI (s_t S q)))) rfl (fun s hs => (Option.some.inj hs).symm) (fun k' i' j' s hne hs => Or.inl ?_)
  rw [← hs]
  by_cases h1 : k' = 34
  · subst h1
    show (if i' = 0 ∧ j' = 0 then _ else none) = (if i' = 0 ∧ j' = 0 then _ else none)
    rw [if_neg (fun z => hne ⟨rfl, z⟩), if_neg (fun z => hne ⟨rfl, z⟩)]
  · exact (shM_t h1).symm

theorem mo_frs {D : va_G} {s0 : State} {b0 th : Nat} {A : Nat → Prop} {S : sSt} {ad : jN} {T : jT} {G G1 : jG} {i ea cap cap1 : Nat} {mo mo1 : Int32} {fs : List sFr} (h : jMo D s0 b0 th S ad T G) (hi : i < 3) (hE : G1 (jEE s0 b0) = none) (hL : jLS D s0 b0 G (ad 36 i 0) (s_rg (s_s S i).2.length (fun q => ad 38 i q)) mo cap ea) (hea : cap ≠ 0 → T ea = (136, i, 0)) (hU : jLU D s0 b0 A G G1 (ad 36 i 0) ea (s_rg fs.length (fun q => ad 38 i q)) mo1 cap1) (hc : cap1 ≤ 200)
    (hn : ∀ j x, fs[j]? = some x → (s_s S i).2[j]? = some x ∨ (T (ad 38 i j) = (38, i, j) ∧ G (ad 38 i j) = some (jo 15 [.int (nI x.1), .int (nI x.2.1), .int (nI x.2.2.2.2), .ref (ad 39 i j), .int (nI x.2.2.1)]) ∧ T (ad 39 i j) = (39, i, j) ∧ G (ad 39 i j) = some (ji D 4 x.2.2.2.1))) :
    ∃ T1 : jT, jMo D s0 b0 th (sw_s S (sup (s_s S) i ((s_s S i).1, fs))) ad T1 G1 ∧ ∀ b, G b ≠ none → T b ≠ (36, i, 0) → T b ≠ (136, i, 0) → b ≠ jEE s0 b0 → T1 b = T b ∧ G1 b = G b := by
  refine jRep.lst h hE (k := 36) (i := i) (j := 0) (sl := .inr (s_rg (s_s S i).2.length (fun q => ad 38 i q), 0, 200)) (if_pos ⟨hi, rfl⟩) hL hea hU (fun s hs => ?_) (fun k' i' j' s hne hs => ?_)
  · have hs' : (if i < 3 ∧ 0 = 0 then some (Sum.inr (s_rg (sup (s_s S) i ((s_s S i).1, fs) i).2.length (fun q => ad 38 i q), 0, 200) : jSh) else none) = some s := hs
    rw [if_pos ⟨hi, rfl⟩, sup_s] at hs'
    exact ⟨0, 200, (Option.some.inj hs').symm, Nat.zero_le _, hc⟩
  · by_cases h5 : k' = 35
    · subst h5
      refine Or.inl ?_
      rw [← hs]
      show (if i' < 3 ∧ j' = 0 then some (Sum.inl (jo 13 [.int (nI (s_s S i').1), .ref (ad 36 i' 0)]) : jSh) else none) = (if i' < 3 ∧ j' = 0 then some (Sum.inl (jo 13 [.int (nI (sup (s_s S) i ((s_s S i).1, fs) i').1), .ref (ad 36 i' 0)]) : jSh) else none)
      by_cases e : i' = i
      · subst e; rw [sup_s]
      · rw [sup_n e]
    by_cases h6 : k' = 36
    · subst h6
      refine Or.inl ?_
      rw [← hs]
      show (if i' < 3 ∧ j' = 0 then some (Sum.inr (s_rg (s_s S i').2.length (fun q => ad 38 i' q), 0, 200) : jSh) else none) = (if i' < 3 ∧ j' = 0 then some (Sum.inr (s_rg (sup (s_s S) i ((s_s S i).1, fs) i').2.length (fun q => ad 38 i' q), 0, 200) : jSh) else none)
      by_cases hj : j' = 0
      · rw [sup_n (fun z => hne ⟨rfl, z, hj⟩)]
      · rw [if_neg (fun z => hj z.2), if_neg (fun z => hj z.2)]
    by_cases h8 : k' = 38
    · subst h8
      have hs' : (if i' < 3 then Option.map (fun f : sFr => (Sum.inl (jo 15 [.int (nI f.1), .int (nI f.2.1), .int (nI f.2.2.2.2), .ref (ad 39 i' j'), .int (nI f.2.2.1)]) : jSh)) ((sup (s_s S) i ((s_s S i).1, fs) i').2[j']?) else none) = some s := hs
      by_cases e : i' = i
      · subst e
        rw [if_pos hi, sup_s] at hs'
        obtain ⟨x, hx, rfl⟩ := Option.map_eq_some_iff.mp hs'
        rcases hn j' x hx with z | ⟨z1, z2, -, -⟩
        · refine Or.inl ?_
          show (if i' < 3 then Option.map _ ((s_s S i').2[j']?) else none) = _
          rw [if_pos hi, z]; rfl
        · exact Or.inr ⟨by omega, by omega, z1, z2⟩
      · rw [sup_n e] at hs'
        exact Or.inl hs'
    by_cases h9 : k' = 39
    · subst h9
      have hs' : (if i' < 3 then Option.map (fun f : sFr => (Sum.inl (ji D 4 f.2.2.2.1) : jSh)) ((sup (s_s S) i ((s_s S i).1, fs) i').2[j']?) else none) = some s := hs
      by_cases e : i' = i
      · subst e
        rw [if_pos hi, sup_s] at hs'
        obtain ⟨x, hx, rfl⟩ := Option.map_eq_some_iff.mp hs'
        rcases hn j' x hx with z | ⟨-, -, z1, z2⟩
        · refine Or.inl ?_
          show (if i' < 3 then Option.map _ ((s_s S i').2[j']?) else none) = _
          rw [if_pos hi, z]; rfl
        · exact Or.inr ⟨by omega, by omega, z1, z2⟩
      · rw [sup_n e] at hs'
        exact Or.inl hs'
    exact Or.inl ((shM_s h5 h6 h8 h9).symm.trans hs)

theorem mo_ad89 {D : va_G} {s0 : State} {b0 th : Nat} {S : sSt} {ad : jN} {T : jT} {G : jG} {i n q : Nat} (h : jMo D s0 b0 th S ad T G) (hi : i < 3) (hn : (T n).1 = 0) (hq : (T q).1 = 0) (hqn : q ≠ n) (h1 : G n ≠ none) (h2 : G q ≠ none) (h3 : n ≠ jEE s0 b0) (h4 : q ≠ jEE s0 b0) :
    jMo D s0 b0 th S (jas (jas ad 38 i (s_s S i).2.length n) 39 i (s_s S i).2.length q) (jTs (jTs T n 38 i (s_s S i).2.length) q 39 i (s_s S i).2.length) G := by
  have g1 := h.ado hn h1 h3 38 i (s_s S i).2.length
  have g2 := g1.ado (a := q) (by rw [jTs_n hqn]; exact hq) h2 h4 39 i (s_s S i).2.length
  refine g2.sub fun k' i' j' s hs => ?_
  have hnone : ∀ {α : Type} (f : sFr → α), (if i < 3 then Option.map f ((s_s S i).2[(s_s S i).2.length]?) else none) = none := fun f => by
    rw [if_pos hi, List.getElem?_eq_none (Nat.le_refl _)]; rfl
  by_cases h9 : k' = 39 ∧ i' = i ∧ j' = (s_s S i).2.length
  · obtain ⟨rfl, rfl, rfl⟩ := h9
    exact absurd hs (by
      show (if i' < 3 then Option.map _ ((s_s S i').2[(s_s S i').2.length]?) else none) ≠ some s
      rw [hnone]; simp)
  by_cases h8 : k' = 38 ∧ i' = i ∧ j' = (s_s S i).2.length
  · obtain ⟨rfl, rfl, rfl⟩ := h8
    exact absurd hs (by
      show (if i' < 3 then Option.map _ ((s_s S i').2[(s_s S i').2.length]?) else none) ≠ some s
      rw [hnone]; simp)
  show (if _ then _ else (if _ then _ else _)) = _
  rw [if_neg h9, if_neg h8, ← hs]
  by_cases e8 : k' = 38
  · subst e8
    show (if i' < 3 then Option.map (fun f : sFr => (Sum.inl (jo 15 [.int (nI f.1), .int (nI f.2.1), .int (nI f.2.2.2.2), .ref (ad 39 i' j'), .int (nI f.2.2.1)]) : jSh)) ((s_s S i').2[j']?) else none) = (if i' < 3 then Option.map (fun f : sFr => (Sum.inl (jo 15 [.int (nI f.1), .int (nI f.2.1), .int (nI f.2.2.2.2), .ref (jas (jas ad 38 i (s_s S i).2.length n) 39 i (s_s S i).2.length q 39 i' j'), .int (nI f.2.2.1)]) : jSh)) ((s_s S i').2[j']?) else none)
    rw [jas_n (fun z => h8 ⟨rfl, z.2⟩), jas_n (fun z => by omega)]
  · rw [shM_a39 e8]
    by_cases e6 : k' = 36
    · subst e6
      show (if i' < 3 ∧ j' = 0 then some (Sum.inr (s_rg (s_s S i').2.length (fun q => ad 38 i' q), 0, 200) : jSh) else none) = (if i' < 3 ∧ j' = 0 then some (Sum.inr (s_rg (s_s S i').2.length (fun q => jas ad 38 i (s_s S i).2.length n 38 i' q), 0, 200) : jSh) else none)
      have e : s_rg (s_s S i').2.length (fun q => jas ad 38 i (s_s S i).2.length n 38 i' q) = s_rg (s_s S i').2.length (fun q => ad 38 i' q) := List.map_congr_left fun q hq => jas_n fun z => by
        obtain ⟨-, z1, z2⟩ := z
        have := List.mem_range.mp hq
        rw [z1] at this
        omega
      rw [e]
    · exact (shM_a38 e6).symm

section
variable {D : va_G} {s0 : State} {b0 th : Nat} {S : sSt} {ad : jN} {T : jT} {G : jG} {i j : Nat}
theorem mo_t31 (h : jMo D s0 b0 th S ad T G) : T (ad 31 0 0) = (31, 0, 0) := h.t (k := 31) (i := 0) (j := 0) rfl
theorem mo_lns (h : jMo D s0 b0 th S ad T G) : ∃ (mo : Int32) (cap ea : Nat), jLS D s0 b0 G (ad 32 1 0) (s_rg 3 (fun v => ad 35 v 0)) mo cap ea ∧ 0 ≤ cap ∧ cap ≤ 200 ∧ (cap ≠ 0 → T ea = (132, 1, 0)) := h.l (k := 32) (i := 1) (j := 0) rfl
theorem mo_ths (h : jMo D s0 b0 th S ad T G) : ∃ (mo : Int32) (cap ea : Nat), jLS D s0 b0 G (ad 32 2 0) (s_rg (s_o S).length (fun v => ad 46 v 0)) mo cap ea ∧ 0 ≤ cap ∧ cap ≤ 200 ∧ (cap ≠ 0 → T ea = (132, 2, 0)) := h.l (k := 32) (i := 2) (j := 0) rfl
theorem mo_chs (h : jMo D s0 b0 th S ad T G) : ∃ (mo : Int32) (cap ea : Nat), jLS D s0 b0 G (ad 32 3 0) (s_rg (s_c S).length (fun v => ad 48 v 0)) mo cap ea ∧ 0 ≤ cap ∧ cap ≤ 200 ∧ (cap ≠ 0 → T ea = (132, 3, 0)) := h.l (k := 32) (i := 3) (j := 0) rfl
theorem mo_que (h : jMo D s0 b0 th S ad T G) : ∃ (mo : Int32) (cap ea : Nat), jLS D s0 b0 G (ad 32 4 0) ((s_q S).map (fun v => ad 48 v 0)) mo cap ea ∧ 0 ≤ cap ∧ cap ≤ 200 ∧ (cap ≠ 0 → T ea = (132, 4, 0)) := h.l (k := 32) (i := 4) (j := 0) rfl
theorem mo_am (h : jMo D s0 b0 th S ad T G) : ∃ (mo : Int32) (cap ea : Nat), jLS D s0 b0 G (ad 32 5 0) (s_rg (s_u S).length (fun v => jbx s0 b0 ((s_u S).getD v (0, 0)).1 (ad 49 v 0))) mo cap ea ∧ s_k S ≤ cap ∧ cap ≤ s_k S ∧ (cap ≠ 0 → T ea = (132, 5, 0)) := h.l (k := 32) (i := 5) (j := 0) rfl
theorem mo_av (h : jMo D s0 b0 th S ad T G) : ∃ (mo : Int32) (cap ea : Nat), jLS D s0 b0 G (ad 32 6 0) (s_rg (s_u S).length (fun v => jAI s0 b0 (((s_u S).getD v (0, 0)).2 + 128))) mo cap ea ∧ s_k S ≤ cap ∧ cap ≤ s_k S ∧ (cap ≠ 0 → T ea = (132, 6, 0)) := h.l (k := 32) (i := 6) (j := 0) rfl
theorem mo_frl (h : jMo D s0 b0 th S ad T G) (hi : i < 3) : ∃ (mo : Int32) (cap ea : Nat), jLS D s0 b0 G (ad 36 i 0) (s_rg (s_s S i).2.length (fun q => ad 38 i q)) mo cap ea ∧ 0 ≤ cap ∧ cap ≤ 200 ∧ (cap ≠ 0 → T ea = (136, i, 0)) := h.l (k := 36) (i := i) (j := 0) (if_pos ⟨hi, rfl⟩)
theorem mo_tbl (h : jMo D s0 b0 th S ad T G) : G (ad 34 0 0) = some (ji D 4 (fun q => nI (s_t S q))) := h.c (k := 34) (i := 0) (j := 0) rfl
theorem mo_fr (h : jMo D s0 b0 th S ad T G) (hi : i < 3) {x : sFr} (hx : (s_s S i).2[j]? = some x) : G (ad 38 i j) = some (jo 15 [.int (nI x.1), .int (nI x.2.1), .int (nI x.2.2.2.2), .ref (ad 39 i j), .int (nI x.2.2.1)]) := h.c (k := 38) (i := i) (j := j) (by
  show (if i < 3 then Option.map _ ((s_s S i).2[j]?) else none) = _
  rw [if_pos hi, hx]; rfl)
theorem mo_loc (h : jMo D s0 b0 th S ad T G) (hi : i < 3) {x : sFr} (hx : (s_s S i).2[j]? = some x) : G (ad 39 i j) = some (ji D 4 x.2.2.2.1) := h.c (k := 39) (i := i) (j := j) (by
  show (if i < 3 then Option.map _ ((s_s S i).2[j]?) else none) = _
  rw [if_pos hi, hx]; rfl)
theorem mo_th (h : jMo D s0 b0 th S ad T G) {x : sTh} (hx : (s_o S)[i]? = some x) : G (ad 46 i 0) = some (jo 16 [.int (nI x.2.1), .int (nI x.1), .ref (ad 47 i 0)]) := h.c (k := 46) (i := i) (j := 0) (by
  show (if 0 = 0 then Option.map _ ((s_o S)[i]?) else none) = _
  rw [if_pos rfl, hx]; rfl)
theorem mo_thf (h : jMo D s0 b0 th S ad T G) {x : sTh} (hx : (s_o S)[i]? = some x) : G (ad 47 i 0) = some (ji D ((s_ver S x.1).2.1 x.2.1) x.2.2) := h.c (k := 47) (i := i) (j := 0) (by
  show (if 0 = 0 then Option.map _ ((s_o S)[i]?) else none) = _
  rw [if_pos rfl, hx]; rfl)
theorem mo_plc (h : jMo D s0 b0 th S ad T G) {v : Nat} (hv : v < (s_v S).length) : G (ad 44 v 0) = some (ji D 55 (fun q => (s_ver S v).2.2.2.2 (q / 11) (q % 11))) := h.c (k := 44) (i := v) (j := 0) (if_pos ⟨hv, rfl⟩)
theorem mo_cry (h : jMo D s0 b0 th S ad T G) {v : Nat} (hv : v < (s_v S).length) (hj : j < 4) : G (ad 43 v j) = some (ji D 12 (fun q => if j = 0 then (s_ver S v).2.2.1 (2 * (q / 4)) (q % 4) else if j = 1 then (s_ver S v).2.2.2.1 (2 * (q / 4)) (q % 4) else if j = 2 then (s_ver S v).2.2.1 (2 * (q / 4) + 1) (q % 4) else (s_ver S v).2.2.2.1 (2 * (q / 4) + 1) (q % 4))) := h.c (k := 43) (i := v) (j := j) (if_pos ⟨hv, hj⟩)
theorem mo_cd (h : jMo D s0 b0 th S ad T G) {q : Nat} (hq : q < (s_i S).length) : G (ad 50 q 0) = some (jo 14 [.int (jCL.getD (s_ins S q).1 0), .int (s_ins S q).2.1, .int (s_ins S q).2.2.1, .int (s_ins S q).2.2.2]) := h.c (k := 50) (i := q) (j := 0) (by
  have e : (s_i S)[q]? = some (s_ins S q) := by rw [List.getElem?_eq_getElem hq]; simp [s_ins, hq]
  show (if 0 = 0 then _ else none) = _
  rw [if_pos rfl, e]
  rfl)
end
