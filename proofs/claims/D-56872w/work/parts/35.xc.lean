/-! writes to the component's picture -/
theorem shC_a8 {D : va_G} {s0 : State} {b0 : Nat} {S : sSt} {ad : jN} {k i j i0 j0 q : Nat} (h6 : k ≠ 6) : shC D s0 b0 S (jas ad 8 i0 j0 q) k i j = shC D s0 b0 S ad k i j := by
  rcases k with _ | _ | _ | _ | _ | _ | _ | _ | _ | _ | _ | _ | _ | _ | _ | _ | _ | _ | _ | _ | _ | _ | _ | _ | k
  all_goals first | rfl | exact absurd rfl h6

theorem shC_a9 {D : va_G} {s0 : State} {b0 : Nat} {S : sSt} {ad : jN} {k i j i0 j0 q : Nat} (h8 : k ≠ 8) : shC D s0 b0 S (jas ad 9 i0 j0 q) k i j = shC D s0 b0 S ad k i j := by
  rcases k with _ | _ | _ | _ | _ | _ | _ | _ | _ | _ | _ | _ | _ | _ | _ | _ | _ | _ | _ | _ | _ | _ | _ | _ | k
  all_goals first | rfl | exact absurd rfl h8

theorem shC_a16 {D : va_G} {s0 : State} {b0 : Nat} {S : sSt} {ad : jN} {k i j i0 j0 q : Nat} (h2 : k ≠ 2) : shC D s0 b0 S (jas ad 16 i0 j0 q) k i j = shC D s0 b0 S ad k i j := by
  rcases k with _ | _ | _ | _ | _ | _ | _ | _ | _ | _ | _ | _ | _ | _ | _ | _ | _ | _ | _ | _ | _ | _ | _ | _ | k
  all_goals first | rfl | exact absurd rfl h2

theorem shC_a18 {D : va_G} {s0 : State} {b0 : Nat} {S : sSt} {ad : jN} {k i j i0 j0 q : Nat} (h2 : k ≠ 2) : shC D s0 b0 S (jas ad 18 i0 j0 q) k i j = shC D s0 b0 S ad k i j := by
  rcases k with _ | _ | _ | _ | _ | _ | _ | _ | _ | _ | _ | _ | _ | _ | _ | _ | _ | _ | _ | _ | _ | _ | _ | _ | k
  all_goals first | rfl | exact absurd rfl h2

theorem shC_a19 {D : va_G} {s0 : State} {b0 : Nat} {S : sSt} {ad : jN} {k i j i0 j0 q : Nat} (h2 : k ≠ 2) : shC D s0 b0 S (jas ad 19 i0 j0 q) k i j = shC D s0 b0 S ad k i j := by
  rcases k with _ | _ | _ | _ | _ | _ | _ | _ | _ | _ | _ | _ | _ | _ | _ | _ | _ | _ | _ | _ | _ | _ | _ | _ | k
  all_goals first | rfl | exact absurd rfl h2

theorem shC_a20 {D : va_G} {s0 : State} {b0 : Nat} {S : sSt} {ad : jN} {k i j i0 j0 q : Nat} (h11 : k ≠ 11) : shC D s0 b0 S (jas ad 20 i0 j0 q) k i j = shC D s0 b0 S ad k i j := by
  rcases k with _ | _ | _ | _ | _ | _ | _ | _ | _ | _ | _ | _ | _ | _ | _ | _ | _ | _ | _ | _ | _ | _ | _ | _ | k
  all_goals first | rfl | exact absurd rfl h11

theorem shC_a7 {D : va_G} {s0 : State} {b0 : Nat} {S : sSt} {ad : jN} {k i j i0 j0 q : Nat} (h1 : k ≠ 1) (h2 : k ≠ 2) : shC D s0 b0 S (jas ad 7 i0 j0 q) k i j = shC D s0 b0 S ad k i j := by
  rcases k with _ | _ | _ | _ | _ | _ | _ | _ | _ | _ | _ | _ | _ | _ | _ | _ | _ | _ | _ | _ | _ | _ | _ | _ | k
  all_goals first | rfl | exact absurd rfl h1 | exact absurd rfl h2

theorem jRep.sub {D : va_G} {s0 : State} {b0 : Nat} {sh sh' : jPic} {ad : jN} {T : jT} {G : jG} (h : jRep D s0 b0 sh ad T G) (hh : ∀ k i j s, sh' k i j = some s → sh k i j = some s) : jRep D s0 b0 sh' ad T G := ⟨fun k i j s hs => h.1 k i j s (hh k i j s hs), h.2⟩

theorem co_wp {D : va_G} {s0 : State} {b0 : Nat} {S : sSt} {ad : jN} {T : jT} {G : jG} (h : jCo D s0 b0 S ad T G) (x : Nat) : jCo D s0 b0 (sw_p S x) ad T (jup G (ad 1 0 0) (jo 2 [.ref (ad 2 0 0), .ref (ad 2 1 0), .ref (ad 3 0 0), .ref (ad 2 2 0), .ref (ad 2 3 0), .ref (ad 2 4 0), .ref (ad 4 0 0), .ref (ad 7 (s_m S) 0), .int (nI x), .int (s_l S), .int (jbz (s_w S)), .long (lN (s_n S))])) := by
  refine jRep.put h (k := 1) (i := 0) (j := 0) (s0' := .inl (jo 2 [.ref (ad 2 0 0), .ref (ad 2 1 0), .ref (ad 3 0 0), .ref (ad 2 2 0), .ref (ad 2 3 0), .ref (ad 2 4 0), .ref (ad 4 0 0), .ref (ad 7 (s_m S) 0), .int (nI (s_p S)), .int (s_l S), .int (jbz (s_w S)), .long (lN (s_n S))])) rfl (fun s hs => ?_) (fun k' i' j' s hne hs => Or.inl ?_)
  · exact (Option.some.inj hs).symm
  · rw [← hs]
    by_cases h1 : k' = 1
    · subst h1
      show (if i' = 0 ∧ j' = 0 then _ else none) = (if i' = 0 ∧ j' = 0 then _ else none)
      rw [if_neg (fun z => hne ⟨rfl, z⟩), if_neg (fun z => hne ⟨rfl, z⟩)]
    · exact (shC_p h1).symm

theorem co_wl {D : va_G} {s0 : State} {b0 : Nat} {S : sSt} {ad : jN} {T : jT} {G : jG} (h : jCo D s0 b0 S ad T G) (x : Int32) : jCo D s0 b0 (sw_l S x) ad T (jup G (ad 1 0 0) (jo 2 [.ref (ad 2 0 0), .ref (ad 2 1 0), .ref (ad 3 0 0), .ref (ad 2 2 0), .ref (ad 2 3 0), .ref (ad 2 4 0), .ref (ad 4 0 0), .ref (ad 7 (s_m S) 0), .int (nI (s_p S)), .int x, .int (jbz (s_w S)), .long (lN (s_n S))])) := by
  refine jRep.put h (k := 1) (i := 0) (j := 0) (s0' := .inl (jo 2 [.ref (ad 2 0 0), .ref (ad 2 1 0), .ref (ad 3 0 0), .ref (ad 2 2 0), .ref (ad 2 3 0), .ref (ad 2 4 0), .ref (ad 4 0 0), .ref (ad 7 (s_m S) 0), .int (nI (s_p S)), .int (s_l S), .int (jbz (s_w S)), .long (lN (s_n S))])) rfl (fun s hs => ?_) (fun k' i' j' s hne hs => Or.inl ?_)
  · exact (Option.some.inj hs).symm
  · rw [← hs]
    by_cases h1 : k' = 1
    · subst h1
      show (if i' = 0 ∧ j' = 0 then _ else none) = (if i' = 0 ∧ j' = 0 then _ else none)
      rw [if_neg (fun z => hne ⟨rfl, z⟩), if_neg (fun z => hne ⟨rfl, z⟩)]
    · exact (shC_l h1).symm

theorem co_ww {D : va_G} {s0 : State} {b0 : Nat} {S : sSt} {ad : jN} {T : jT} {G : jG} (h : jCo D s0 b0 S ad T G) (x : Bool) : jCo D s0 b0 (sw_w S x) ad T (jup G (ad 1 0 0) (jo 2 [.ref (ad 2 0 0), .ref (ad 2 1 0), .ref (ad 3 0 0), .ref (ad 2 2 0), .ref (ad 2 3 0), .ref (ad 2 4 0), .ref (ad 4 0 0), .ref (ad 7 (s_m S) 0), .int (nI (s_p S)), .int (s_l S), .int (jbz x), .long (lN (s_n S))])) := by
  refine jRep.put h (k := 1) (i := 0) (j := 0) (s0' := .inl (jo 2 [.ref (ad 2 0 0), .ref (ad 2 1 0), .ref (ad 3 0 0), .ref (ad 2 2 0), .ref (ad 2 3 0), .ref (ad 2 4 0), .ref (ad 4 0 0), .ref (ad 7 (s_m S) 0), .int (nI (s_p S)), .int (s_l S), .int (jbz (s_w S)), .long (lN (s_n S))])) rfl (fun s hs => ?_) (fun k' i' j' s hne hs => Or.inl ?_)
  · exact (Option.some.inj hs).symm
  · rw [← hs]
    by_cases h1 : k' = 1
    · subst h1
      show (if i' = 0 ∧ j' = 0 then _ else none) = (if i' = 0 ∧ j' = 0 then _ else none)
      rw [if_neg (fun z => hne ⟨rfl, z⟩), if_neg (fun z => hne ⟨rfl, z⟩)]
    · exact (shC_w h1).symm

theorem co_wn {D : va_G} {s0 : State} {b0 : Nat} {S : sSt} {ad : jN} {T : jT} {G : jG} (h : jCo D s0 b0 S ad T G) (x : Nat) : jCo D s0 b0 (sw_n S x) ad T (jup G (ad 1 0 0) (jo 2 [.ref (ad 2 0 0), .ref (ad 2 1 0), .ref (ad 3 0 0), .ref (ad 2 2 0), .ref (ad 2 3 0), .ref (ad 2 4 0), .ref (ad 4 0 0), .ref (ad 7 (s_m S) 0), .int (nI (s_p S)), .int (s_l S), .int (jbz (s_w S)), .long (lN x)])) := by
  refine jRep.put h (k := 1) (i := 0) (j := 0) (s0' := .inl (jo 2 [.ref (ad 2 0 0), .ref (ad 2 1 0), .ref (ad 3 0 0), .ref (ad 2 2 0), .ref (ad 2 3 0), .ref (ad 2 4 0), .ref (ad 4 0 0), .ref (ad 7 (s_m S) 0), .int (nI (s_p S)), .int (s_l S), .int (jbz (s_w S)), .long (lN (s_n S))])) rfl (fun s hs => ?_) (fun k' i' j' s hne hs => Or.inl ?_)
  · exact (Option.some.inj hs).symm
  · rw [← hs]
    by_cases h1 : k' = 1
    · subst h1
      show (if i' = 0 ∧ j' = 0 then _ else none) = (if i' = 0 ∧ j' = 0 then _ else none)
      rw [if_neg (fun z => hne ⟨rfl, z⟩), if_neg (fun z => hne ⟨rfl, z⟩)]
    · exact (shC_n h1).symm

abbrev s_st (S : sSt) (i c : Nat) : sSt := sw_s S (sup (s_s S) i (c, (s_s S i).2))
theorem co_wst {D : va_G} {s0 : State} {b0 : Nat} {S : sSt} {ad : jN} {T : jT} {G : jG} {i : Nat} (h : jCo D s0 b0 S ad T G) (hi : i < 3) (x : Nat) : jCo D s0 b0 (s_st S i x) ad T (jup G (ad 5 i 0) (jo 3 [.ref (ad 6 i 0), .int (nI x)])) := by
  refine jRep.put h (k := 5) (i := i) (j := 0) (s0' := .inl (jo 3 [.ref (ad 6 i 0), .int (nI (s_s S i).1)])) (if_pos ⟨hi, rfl⟩) (fun s hs => ?_) (fun k' i' j' s hne hs => Or.inl ?_)
  · have hs' : (if i < 3 ∧ 0 = 0 then some (Sum.inl (jo 3 [.ref (ad 6 i 0), .int (nI (sup (s_s S) i (x, (s_s S i).2) i).1)]) : jSh) else none) = some s := hs
    rw [if_pos ⟨hi, rfl⟩, sup_s] at hs'
    exact (Option.some.inj hs').symm
  · rw [← hs]
    have e2 : ∀ q, (sup (s_s S) i (x, (s_s S i).2) q).2 = (s_s S q).2 := fun q => by
      by_cases e : q = i
      · subst e; rw [sup_s]
      · rw [sup_n e]
    by_cases h5 : k' = 5
    · subst h5
      show (if i' < 3 ∧ j' = 0 then some (Sum.inl (jo 3 [.ref (ad 6 i' 0), .int (nI (s_s S i').1)]) : jSh) else none) = (if i' < 3 ∧ j' = 0 then some (Sum.inl (jo 3 [.ref (ad 6 i' 0), .int (nI (sup (s_s S) i (x, (s_s S i).2) i').1)]) : jSh) else none)
      by_cases hj : j' = 0
      · rw [sup_n (fun z => hne ⟨rfl, z, hj⟩)]
      · rw [if_neg (fun z => hj z.2), if_neg (fun z => hj z.2)]
    by_cases h6 : k' = 6
    · subst h6
      show _ = (if i' < 3 ∧ j' = 0 then some (Sum.inr (s_rg (sup (s_s S) i (x, (s_s S i).2) i').2.length (fun q => ad 8 i' q), 0, 200) : jSh) else none)
      rw [e2]; rfl
    by_cases h8 : k' = 8
    · subst h8
      show _ = (if i' < 3 then Option.map _ ((sup (s_s S) i (x, (s_s S i).2) i').2[j']?) else none)
      rw [e2]; rfl
    by_cases h9 : k' = 9
    · subst h9
      show _ = (if i' < 3 then Option.map _ ((sup (s_s S) i (x, (s_s S i).2) i').2[j']?) else none)
      rw [e2]; rfl
    exact (shC_s h5 h6 h8 h9).symm

abbrev s_lw (S : sSt) (i j : Nat) (x : sFr) (loc : Nat → Int32) : sSt := s_fw S i j (x.1, x.2.1, x.2.2.1, loc, x.2.2.2.2)
theorem co_wloc {D : va_G} {s0 : State} {b0 : Nat} {S : sSt} {ad : jN} {T : jT} {G : jG} {i j : Nat} {x : sFr} (h : jCo D s0 b0 S ad T G) (hi : i < 3) (hx : (s_s S i).2[j]? = some x) (loc : Nat → Int32) : jCo D s0 b0 (s_lw S i j x loc) ad T (jup G (ad 9 i j) (ji D 4 loc)) := by
  have hj : j < (s_s S i).2.length := lt_ofl hx
  have hsame : ∀ q, q ≠ i → sup (s_s S) i ((s_s S i).1, (s_s S i).2.set j (x.1, x.2.1, x.2.2.1, loc, x.2.2.2.2)) q = s_s S q := fun q e => sup_n e
  refine jRep.put h (k := 9) (i := i) (j := j) (s0' := .inl (ji D 4 x.2.2.2.1)) (by
    show (if i < 3 then Option.map _ ((s_s S i).2[j]?) else none) = _
    rw [if_pos hi, hx]; rfl) (fun s hs => ?_) (fun k' i' j' s hne hs => Or.inl ?_)
  · have hs' : (if i < 3 then Option.map (fun f : sFr => (Sum.inl (ji D 4 f.2.2.2.1) : jSh)) ((sup (s_s S) i ((s_s S i).1, (s_s S i).2.set j (x.1, x.2.1, x.2.2.1, loc, x.2.2.2.2)) i).2[j]?) else none) = some s := hs
    rw [if_pos hi, sup_s] at hs'
    simp only [List.getElem?_set_self hj, Option.map_some, Option.some.injEq] at hs'
    exact hs'.symm
  · rw [← hs]
    by_cases h5 : k' = 5
    · subst h5
      show (if i' < 3 ∧ j' = 0 then some (Sum.inl (jo 3 [.ref (ad 6 i' 0), .int (nI (s_s S i').1)]) : jSh) else none) = (if i' < 3 ∧ j' = 0 then some (Sum.inl (jo 3 [.ref (ad 6 i' 0), .int (nI (sup (s_s S) i ((s_s S i).1, (s_s S i).2.set j (x.1, x.2.1, x.2.2.1, loc, x.2.2.2.2)) i').1)]) : jSh) else none)
      by_cases e : i' = i
      · subst e; rw [sup_s]
      · rw [hsame _ e]
    by_cases h6 : k' = 6
    · subst h6
      show (if i' < 3 ∧ j' = 0 then some (Sum.inr (s_rg (s_s S i').2.length (fun q => ad 8 i' q), 0, 200) : jSh) else none) = (if i' < 3 ∧ j' = 0 then some (Sum.inr (s_rg (sup (s_s S) i ((s_s S i).1, (s_s S i).2.set j (x.1, x.2.1, x.2.2.1, loc, x.2.2.2.2)) i').2.length (fun q => ad 8 i' q), 0, 200) : jSh) else none)
      by_cases e : i' = i
      · subst e; rw [sup_s, List.length_set]
      · rw [hsame _ e]
    by_cases h8 : k' = 8
    · subst h8
      show (if i' < 3 then Option.map (fun f : sFr => (Sum.inl (jo 6 [.int (nI f.1), .int (nI f.2.1), .int (nI f.2.2.1), .ref (ad 9 i' j'), .int (nI f.2.2.2.2)]) : jSh)) ((s_s S i').2[j']?) else none) = (if i' < 3 then Option.map (fun f : sFr => (Sum.inl (jo 6 [.int (nI f.1), .int (nI f.2.1), .int (nI f.2.2.1), .ref (ad 9 i' j'), .int (nI f.2.2.2.2)]) : jSh)) ((sup (s_s S) i ((s_s S i).1, (s_s S i).2.set j (x.1, x.2.1, x.2.2.1, loc, x.2.2.2.2)) i').2[j']?) else none)
      by_cases e : i' = i
      · subst e
        rw [sup_s]
        by_cases e2 : j = j'
        · subst e2
          simp only [List.getElem?_set_self hj, hx, Option.map_some]
        · simp only [List.getElem?_set_ne e2]
      · rw [hsame _ e]
    by_cases h9 : k' = 9
    · subst h9
      show (if i' < 3 then Option.map (fun f : sFr => (Sum.inl (ji D 4 f.2.2.2.1) : jSh)) ((s_s S i').2[j']?) else none) = (if i' < 3 then Option.map (fun f : sFr => (Sum.inl (ji D 4 f.2.2.2.1) : jSh)) ((sup (s_s S) i ((s_s S i).1, (s_s S i).2.set j (x.1, x.2.1, x.2.2.1, loc, x.2.2.2.2)) i').2[j']?) else none)
      by_cases e : i' = i
      · subst e
        have e2 : j ≠ j' := fun z => hne ⟨rfl, rfl, z.symm⟩
        rw [sup_s]
        simp only [List.getElem?_set_ne e2]
      · rw [hsame _ e]
    exact (shC_s h5 h6 h8 h9).symm

theorem co_wtb {D : va_G} {s0 : State} {b0 : Nat} {S : sSt} {ad : jN} {T : jT} {G : jG} (h : jCo D s0 b0 S ad T G) (x : Nat → Nat) : jCo D s0 b0 (sw_t S x) ad T (jup G (ad 4 0 0) (ji D 4 (fun q => nI (x q)))) := by
  refine jRep.put h (k := 4) (i := 0) (j := 0) (s0' := .inl (ji D 4 (fun q => nI (s_t S q)))) rfl (fun s hs => (Option.some.inj hs).symm) (fun k' i' j' s hne hs => Or.inl ?_)
  rw [← hs]
  by_cases h1 : k' = 4
  · subst h1
    show (if i' = 0 ∧ j' = 0 then _ else none) = (if i' = 0 ∧ j' = 0 then _ else none)
    rw [if_neg (fun z => hne ⟨rfl, z⟩), if_neg (fun z => hne ⟨rfl, z⟩)]
  · exact (shC_t h1).symm

/-- the list of a strand's frames is written; frames that are new have their cells -/
theorem co_frs {D : va_G} {s0 : State} {b0 : Nat} {A : Nat → Prop} {S : sSt} {ad : jN} {T : jT} {G G1 : jG} {i ea cap cap1 : Nat} {mo mo1 : Int32} {fs : List sFr} (h : jCo D s0 b0 S ad T G) (hi : i < 3) (hE : G1 (jEE s0 b0) = none) (hL : jLS D s0 b0 G (ad 6 i 0) (s_rg (s_s S i).2.length (fun q => ad 8 i q)) mo cap ea) (hea : cap ≠ 0 → T ea = (106, i, 0)) (hU : jLU D s0 b0 A G G1 (ad 6 i 0) ea (s_rg fs.length (fun q => ad 8 i q)) mo1 cap1) (hc : cap1 ≤ 200)
    (hn : ∀ j x, fs[j]? = some x → (s_s S i).2[j]? = some x ∨ (T (ad 8 i j) = (8, i, j) ∧ G (ad 8 i j) = some (jo 6 [.int (nI x.1), .int (nI x.2.1), .int (nI x.2.2.1), .ref (ad 9 i j), .int (nI x.2.2.2.2)]) ∧ T (ad 9 i j) = (9, i, j) ∧ G (ad 9 i j) = some (ji D 4 x.2.2.2.1))) :
    ∃ T1 : jT, jCo D s0 b0 (sw_s S (sup (s_s S) i ((s_s S i).1, fs))) ad T1 G1 ∧ ∀ b, G b ≠ none → T b ≠ (6, i, 0) → T b ≠ (106, i, 0) → b ≠ jEE s0 b0 → T1 b = T b ∧ G1 b = G b := by
  refine jRep.lst h hE (k := 6) (i := i) (j := 0) (sl := .inr (s_rg (s_s S i).2.length (fun q => ad 8 i q), 0, 200)) (if_pos ⟨hi, rfl⟩) hL hea hU (fun s hs => ?_) (fun k' i' j' s hne hs => ?_)
  · have hs' : (if i < 3 ∧ 0 = 0 then some (Sum.inr (s_rg (sup (s_s S) i ((s_s S i).1, fs) i).2.length (fun q => ad 8 i q), 0, 200) : jSh) else none) = some s := hs
    rw [if_pos ⟨hi, rfl⟩, sup_s] at hs'
    exact ⟨0, 200, (Option.some.inj hs').symm, Nat.zero_le _, hc⟩
  · by_cases h5 : k' = 5
    · subst h5
      refine Or.inl ?_
      rw [← hs]
      show (if i' < 3 ∧ j' = 0 then some (Sum.inl (jo 3 [.ref (ad 6 i' 0), .int (nI (s_s S i').1)]) : jSh) else none) = (if i' < 3 ∧ j' = 0 then some (Sum.inl (jo 3 [.ref (ad 6 i' 0), .int (nI (sup (s_s S) i ((s_s S i).1, fs) i').1)]) : jSh) else none)
      by_cases e : i' = i
      · subst e; rw [sup_s]
      · rw [sup_n e]
    by_cases h6 : k' = 6
    · subst h6
      refine Or.inl ?_
      rw [← hs]
      show (if i' < 3 ∧ j' = 0 then some (Sum.inr (s_rg (s_s S i').2.length (fun q => ad 8 i' q), 0, 200) : jSh) else none) = (if i' < 3 ∧ j' = 0 then some (Sum.inr (s_rg (sup (s_s S) i ((s_s S i).1, fs) i').2.length (fun q => ad 8 i' q), 0, 200) : jSh) else none)
      by_cases hj : j' = 0
      · rw [sup_n (fun z => hne ⟨rfl, z, hj⟩)]
      · rw [if_neg (fun z => hj z.2), if_neg (fun z => hj z.2)]
    by_cases h8 : k' = 8
    · subst h8
      have hs' : (if i' < 3 then Option.map (fun f : sFr => (Sum.inl (jo 6 [.int (nI f.1), .int (nI f.2.1), .int (nI f.2.2.1), .ref (ad 9 i' j'), .int (nI f.2.2.2.2)]) : jSh)) ((sup (s_s S) i ((s_s S i).1, fs) i').2[j']?) else none) = some s := hs
      by_cases e : i' = i
      · subst e
        rw [if_pos hi, sup_s] at hs'
        obtain ⟨x, hx, rfl⟩ := Option.map_eq_some_iff.mp hs'
        rcases hn j' x hx with z | ⟨z1, z2, -, -⟩
        · refine Or.inl ?_
          show (if i' < 3 then Option.map _ ((s_s S i').2[j']?) else none) = _
          rw [if_pos hi, z]; rfl
        · exact Or.inr ⟨by omega, by omega, z1, z2⟩
      · rw [sup_n e] at hs'
        exact Or.inl hs'
    by_cases h9 : k' = 9
    · subst h9
      have hs' : (if i' < 3 then Option.map (fun f : sFr => (Sum.inl (ji D 4 f.2.2.2.1) : jSh)) ((sup (s_s S) i ((s_s S i).1, fs) i').2[j']?) else none) = some s := hs
      by_cases e : i' = i
      · subst e
        rw [if_pos hi, sup_s] at hs'
        obtain ⟨x, hx, rfl⟩ := Option.map_eq_some_iff.mp hs'
        rcases hn j' x hx with z | ⟨-, -, z1, z2⟩
        · refine Or.inl ?_
          show (if i' < 3 then Option.map _ ((s_s S i').2[j']?) else none) = _
          rw [if_pos hi, z]; rfl
        · exact Or.inr ⟨by omega, by omega, z1, z2⟩
      · rw [sup_n e] at hs'
        exact Or.inl hs'
    exact Or.inl ((shC_s h5 h6 h8 h9).symm.trans hs)
