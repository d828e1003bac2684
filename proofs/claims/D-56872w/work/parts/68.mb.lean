/-! THINGS AND CHANGES OF THE MODEL's PICTURE (ported by program) -/
theorem mo_cto {D : va_G} {s0 : State} {b0 th : Nat} {S : sSt} {ad : jN} {T : jT} {G G1 : jG} {i a q : Nat} {t : sTh} (hR : jMo D s0 b0 th S ad T G) (ht : (s_o S)[i]? = some t) (hn : jNw G G1) (hq : G1 q = some (ji D ((s_ver S a).2.1 t.2.1) (s_car S t.2.1 t.1 a t.2.2))) (hor : (t.1 = a ∧ q = ad 47 i 0 ∧ G1 = G) ∨ (t.1 ≠ a ∧ G q = none ∧ q ≠ jEE s0 b0)) :
    ∃ (ad1 : jN) (T1 : jT), jMo D s0 b0 th (s_cto S i a) ad1 T1 (jup G1 (ad 46 i 0) (jo 16 [.int (nI t.2.1), .int (nI a), .ref q])) ∧ jFm 46 48 T G T1 (jup G1 (ad 46 i 0) (jo 16 [.int (nI t.2.1), .int (nI a), .ref q])) ∧ ad1 47 i 0 = q ∧ ∀ k' i' j', k' ≠ 47 → ad1 k' i' j' = ad k' i' j' := by
  have hil : i < (s_o S).length := lt_ofl ht
  rw [s_cto_e ht]
  rcases hor with ⟨e1, e2, e3⟩ | ⟨e1, e2, e3⟩
  · subst e1; subst e2; subst e3
    refine ⟨ad, T, ?_, ?_, rfl, fun _ _ _ _ => rfl⟩
    · rw [jup_id (mo_th hR ht), s_car_id, show (s_o S).set i (t.1, t.2.1, t.2.2) = s_o S by
        obtain ⟨hj, he⟩ := List.getElem?_eq_some_iff.mp ht
        subst he
        exact List.set_getElem_self hj]
      exact hR
    · rw [jup_id (mo_th hR ht)]; exact jFm.refl
  · have h1 := jRep.nw hR hn
    have hT0 : (T q).1 = 0 := hR.un e2
    have h2 := h1.ado hT0 (by rw [hq]; simp) e3 47 i 0
    have hs16 : shM D s0 b0 th S ad 46 i 0 = some (.inl (jo 16 [.int (nI t.2.1), .int (nI t.1), .ref (ad 47 i 0)])) := by
      show (if 0 = 0 then Option.map _ ((s_o S)[i]?) else none) = _
      rw [if_pos rfl, ht]; rfl
    have ht16 := hR.t hs16
    refine ⟨jas ad 47 i 0 q, jTs T q 47 i 0, ?_, fun b hb hk => ?_, jas_s, fun k' i' j' hk => jas_n (fun z => hk z.1)⟩
    · refine jRep.put (ad := jas ad 47 i 0 q) (k := 46) (i := i) (j := 0) h2 (s0' := .inl (jo 16 [.int (nI t.2.1), .int (nI t.1), .ref (ad 47 i 0)])) (by show (if _ then _ else _) = _; rw [if_neg (by omega)]; exact hs16) ?_ ?_
      · intro s hs
        have hs' : (if 0 = 0 then Option.map (fun t9 : sTh => (Sum.inl (jo 16 [.int (nI t9.2.1), .int (nI t9.1), .ref (jas ad 47 i 0 q 47 i 0)]) : jSh)) (((s_o S).set i (a, t.2.1, s_car S t.2.1 t.1 a t.2.2))[i]?) else none) = some s := hs
        rw [if_pos rfl, List.getElem?_set_self hil, jas_s] at hs'
        exact (Option.some.inj hs').symm
      · intro k' i' j' s hne hs
        by_cases h17 : k' = 47 ∧ i' = i ∧ j' = 0
        · obtain ⟨rfl, rfl, rfl⟩ := h17
          refine Or.inr ⟨by omega, by omega, ?_⟩
          have hs' : (if 0 = 0 then Option.map (fun t9 : sTh => (Sum.inl (ji D ((s_ver S t9.1).2.1 t9.2.1) t9.2.2) : jSh)) (((s_o S).set i' (a, t.2.1, s_car S t.2.1 t.1 a t.2.2))[i']?) else none) = some s := hs
          rw [if_pos rfl, List.getElem?_set_self hil] at hs'
          rw [← Option.some.inj hs', jas_s]
          exact ⟨jTs_s, hq⟩
        · refine Or.inl ?_
          show (if _ then _ else _) = _
          rw [if_neg h17, ← hs]
          by_cases h16 : k' = 46
          · subst h16
            show (if j' = 0 then Option.map (fun t9 : sTh => (Sum.inl (jo 16 [.int (nI t9.2.1), .int (nI t9.1), .ref (ad 47 i' 0)]) : jSh)) ((s_o S)[i']?) else none) = (if j' = 0 then Option.map (fun t9 : sTh => (Sum.inl (jo 16 [.int (nI t9.2.1), .int (nI t9.1), .ref (jas ad 47 i 0 q 47 i' 0)]) : jSh)) (((s_o S).set i (a, t.2.1, s_car S t.2.1 t.1 a t.2.2))[i']?) else none)
            by_cases hj : j' = 0
            · have hi : i ≠ i' := fun z => hne ⟨rfl, z.symm, hj⟩
              rw [List.getElem?_set_ne hi, jas_n (fun z => hi z.2.1.symm)]
            · rw [if_neg hj, if_neg hj]
          · rw [shM_a47 h16]
            by_cases hh : k' = 47
            · subst hh
              show (if j' = 0 then Option.map (fun t9 : sTh => (Sum.inl (ji D ((s_ver S t9.1).2.1 t9.2.1) t9.2.2) : jSh)) ((s_o S)[i']?) else none) = (if j' = 0 then Option.map (fun t9 : sTh => (Sum.inl (ji D ((s_ver S t9.1).2.1 t9.2.1) t9.2.2) : jSh)) (((s_o S).set i (a, t.2.1, s_car S t.2.1 t.1 a t.2.2))[i']?) else none)
              by_cases hj : j' = 0
              · have hi : i ≠ i' := fun z => h17 ⟨rfl, z.symm, hj⟩
                rw [List.getElem?_set_ne hi]
              · rw [if_neg hj, if_neg hj]
            · by_cases h2' : k' = 32
              · subst h2'
                rcases i' with _ | _ | _ | _ | _ | _ | _ | i'
                · rfl
                · rfl
                · show (if j' = 0 then some (Sum.inr (s_rg (s_o S).length (fun v => ad 46 v 0), 0, 200)) else none) = (if j' = 0 then some (Sum.inr (s_rg ((s_o S).set i (a, t.2.1, s_car S t.2.1 t.1 a t.2.2)).length (fun v => ad 46 v 0), 0, 200)) else none)
                  rw [List.length_set]
                · rfl
                · rfl
                · rfl
                · rfl
                · rfl
              · exact (shM_o h2' h16 hh).symm
    · have hbq : b ≠ q := fun z => hb (by rw [z]; exact e2)
      have hb16 : b ≠ ad 46 i 0 := fun z => hk (by rw [z, ht16]; exact ⟨by omega, by omega⟩)
      refine ⟨jTs_n hbq, ?_⟩
      rw [jup_n hb16]
      cases z : G b with
      | none => exact absurd z hb
      | some x => exact hn _ _ z

theorem mo_wtf {D : va_G} {s0 : State} {b0 th : Nat} {S : sSt} {ad : jN} {T : jT} {G : jG} {o : Nat} {t : sTh} (h : jMo D s0 b0 th S ad T G) (ht : (s_o S)[o]? = some t) (fl : Nat → Int32) : jMo D s0 b0 th (sw_o S ((s_o S).set o (t.1, t.2.1, fl))) ad T (jup G (ad 47 o 0) (ji D ((s_ver S t.1).2.1 t.2.1) fl)) := by
  have hol : o < (s_o S).length := lt_ofl ht
  refine jRep.put h (k := 47) (i := o) (j := 0) (s0' := .inl (ji D ((s_ver S t.1).2.1 t.2.1) t.2.2)) (by
    show (if 0 = 0 then Option.map _ ((s_o S)[o]?) else none) = _
    rw [if_pos rfl, ht]; rfl) (fun s hs => ?_) (fun k' i' j' s hne hs => Or.inl ?_)
  · have hs' : (if 0 = 0 then Option.map (fun t9 : sTh => (Sum.inl (ji D ((s_ver S t9.1).2.1 t9.2.1) t9.2.2) : jSh)) (((s_o S).set o (t.1, t.2.1, fl))[o]?) else none) = some s := hs
    rw [if_pos rfl, List.getElem?_set_self hol] at hs'
    exact (Option.some.inj hs').symm
  · rw [← hs]
    by_cases h16 : k' = 46
    · subst h16
      show (if j' = 0 then Option.map (fun t9 : sTh => (Sum.inl (jo 16 [.int (nI t9.2.1), .int (nI t9.1), .ref (ad 47 i' 0)]) : jSh)) ((s_o S)[i']?) else none) = (if j' = 0 then Option.map (fun t9 : sTh => (Sum.inl (jo 16 [.int (nI t9.2.1), .int (nI t9.1), .ref (ad 47 i' 0)]) : jSh)) (((s_o S).set o (t.1, t.2.1, fl))[i']?) else none)
      by_cases e : o = i'
      · subst e
        rw [List.getElem?_set_self hol, ht]; rfl
      · rw [List.getElem?_set_ne e]
    by_cases h17 : k' = 47
    · subst h17
      show (if j' = 0 then Option.map (fun t9 : sTh => (Sum.inl (ji D ((s_ver S t9.1).2.1 t9.2.1) t9.2.2) : jSh)) ((s_o S)[i']?) else none) = (if j' = 0 then Option.map (fun t9 : sTh => (Sum.inl (ji D ((s_ver S t9.1).2.1 t9.2.1) t9.2.2) : jSh)) (((s_o S).set o (t.1, t.2.1, fl))[i']?) else none)
      by_cases hj : j' = 0
      · have e : o ≠ i' := fun z => hne ⟨rfl, z.symm, hj⟩
        rw [List.getElem?_set_ne e]
      · rw [if_neg hj, if_neg hj]
    by_cases h2 : k' = 32
    · subst h2
      rcases i' with _ | _ | _ | _ | _ | _ | _ | i'
      · rfl
      · rfl
      · show (if j' = 0 then some (Sum.inr (s_rg (s_o S).length (fun v => ad 46 v 0), 0, 200) : jSh) else none) = (if j' = 0 then some (Sum.inr (s_rg ((s_o S).set o (t.1, t.2.1, fl)).length (fun v => ad 46 v 0), 0, 200) : jSh) else none)
        rw [List.length_set]
      · rfl
      · rfl
      · rfl
      · rfl
      · rfl
    exact (shM_o h2 h16 h17).symm

theorem mo_ad67 {D : va_G} {s0 : State} {b0 th : Nat} {S : sSt} {ad : jN} {T : jT} {G : jG} {n q : Nat} (h : jMo D s0 b0 th S ad T G) (hn : (T n).1 = 0) (hq : (T q).1 = 0) (hqn : q ≠ n) (h1 : G n ≠ none) (h2 : G q ≠ none) (h3 : n ≠ jEE s0 b0) (h4 : q ≠ jEE s0 b0) :
    jMo D s0 b0 th S (jas (jas ad 46 (s_o S).length 0 n) 47 (s_o S).length 0 q) (jTs (jTs T n 46 (s_o S).length 0) q 47 (s_o S).length 0) G := by
  have g1 := h.ado hn h1 h3 46 (s_o S).length 0
  have g2 := g1.ado (a := q) (by rw [jTs_n hqn]; exact hq) h2 h4 47 (s_o S).length 0
  refine g2.sub fun k' i' j' s hs => ?_
  have hnone : ∀ {α : Type} (f : sTh → α), (if 0 = 0 then Option.map f ((s_o S)[(s_o S).length]?) else none) = none := fun f => by
    rw [if_pos rfl, List.getElem?_eq_none (Nat.le_refl _)]; rfl
  by_cases h9 : k' = 47 ∧ i' = (s_o S).length ∧ j' = 0
  · obtain ⟨rfl, rfl, rfl⟩ := h9
    exact absurd hs (by
      show (if 0 = 0 then Option.map _ ((s_o S)[(s_o S).length]?) else none) ≠ some s
      rw [hnone]; simp)
  by_cases h8 : k' = 46 ∧ i' = (s_o S).length ∧ j' = 0
  · obtain ⟨rfl, rfl, rfl⟩ := h8
    exact absurd hs (by
      show (if 0 = 0 then Option.map _ ((s_o S)[(s_o S).length]?) else none) ≠ some s
      rw [hnone]; simp)
  show (if _ then _ else (if _ then _ else _)) = _
  rw [if_neg h9, if_neg h8, ← hs]
  by_cases e8 : k' = 46
  · subst e8
    show (if j' = 0 then Option.map (fun t : sTh => (Sum.inl (jo 16 [.int (nI t.2.1), .int (nI t.1), .ref (ad 47 i' 0)]) : jSh)) ((s_o S)[i']?) else none) = (if j' = 0 then Option.map (fun t : sTh => (Sum.inl (jo 16 [.int (nI t.2.1), .int (nI t.1), .ref (jas (jas ad 46 (s_o S).length 0 n) 47 (s_o S).length 0 q 47 i' 0)]) : jSh)) ((s_o S)[i']?) else none)
    by_cases hj : j' = 0
    · rw [jas_n (fun z => h8 ⟨rfl, z.2.1, hj⟩), jas_n (fun z => by omega)]
    · rw [if_neg hj, if_neg hj]
  · rw [shM_a47 e8]
    by_cases e6 : k' = 32
    · subst e6
      rcases i' with _ | _ | _ | _ | _ | _ | _ | i'
      · rfl
      · rfl
      · show (if j' = 0 then some (Sum.inr (s_rg (s_o S).length (fun v => ad 46 v 0), 0, 200) : jSh) else none) = (if j' = 0 then some (Sum.inr (s_rg (s_o S).length (fun v => jas ad 46 (s_o S).length 0 n 46 v 0), 0, 200) : jSh) else none)
        have e : s_rg (s_o S).length (fun v => jas ad 46 (s_o S).length 0 n 46 v 0) = s_rg (s_o S).length (fun v => ad 46 v 0) := List.map_congr_left fun q hq => jas_n fun z => by
          have := List.mem_range.mp hq
          omega
        rw [e]
      · rfl
      · rfl
      · rfl
      · rfl
      · rfl
    · exact (shM_a46 e6).symm

theorem mo_tps {D : va_G} {s0 : State} {b0 th : Nat} {A : Nat → Prop} {S : sSt} {ad : jN} {T : jT} {G G1 : jG} {ea cap cap1 : Nat} {mo mo1 : Int32} {fs : List sTh} (h : jMo D s0 b0 th S ad T G) (hE : G1 (jEE s0 b0) = none) (hL : jLS D s0 b0 G (ad 32 2 0) (s_rg (s_o S).length (fun v => ad 46 v 0)) mo cap ea) (hea : cap ≠ 0 → T ea = (132, 2, 0)) (hU : jLU D s0 b0 A G G1 (ad 32 2 0) ea (s_rg fs.length (fun v => ad 46 v 0)) mo1 cap1) (hc : cap1 ≤ 200)
    (hn : ∀ j x, fs[j]? = some x → (s_o S)[j]? = some x ∨ (T (ad 46 j 0) = (46, j, 0) ∧ G (ad 46 j 0) = some (jo 16 [.int (nI x.2.1), .int (nI x.1), .ref (ad 47 j 0)]) ∧ T (ad 47 j 0) = (47, j, 0) ∧ G (ad 47 j 0) = some (ji D ((s_ver S x.1).2.1 x.2.1) x.2.2))) :
    ∃ T1 : jT, jMo D s0 b0 th (sw_o S fs) ad T1 G1 ∧ ∀ b, G b ≠ none → T b ≠ (32, 2, 0) → T b ≠ (132, 2, 0) → b ≠ jEE s0 b0 → T1 b = T b ∧ G1 b = G b := by
  refine jRep.lst h hE (k := 32) (i := 2) (j := 0) (sl := .inr (s_rg (s_o S).length (fun v => ad 46 v 0), 0, 200)) rfl hL hea hU (fun s hs => ⟨0, 200, (Option.some.inj hs).symm, Nat.zero_le _, hc⟩) (fun k' i' j' s hne hs => ?_)
  by_cases h16 : k' = 46
  · subst h16
    have hs' : (if j' = 0 then Option.map (fun t : sTh => (Sum.inl (jo 16 [.int (nI t.2.1), .int (nI t.1), .ref (ad 47 i' 0)]) : jSh)) (fs[i']?) else none) = some s := hs
    by_cases hj : j' = 0
    · subst hj
      rw [if_pos rfl] at hs'
      obtain ⟨x, hx, rfl⟩ := Option.map_eq_some_iff.mp hs'
      rcases hn i' x hx with z | ⟨z1, z2, -, -⟩
      · refine Or.inl ?_
        show (if 0 = 0 then Option.map _ ((s_o S)[i']?) else none) = _
        rw [if_pos rfl, z]; rfl
      · exact Or.inr ⟨by omega, by omega, z1, z2⟩
    · rw [if_neg hj] at hs'; cases hs'
  by_cases h17 : k' = 47
  · subst h17
    have hs' : (if j' = 0 then Option.map (fun t : sTh => (Sum.inl (ji D ((s_ver S t.1).2.1 t.2.1) t.2.2) : jSh)) (fs[i']?) else none) = some s := hs
    by_cases hj : j' = 0
    · subst hj
      rw [if_pos rfl] at hs'
      obtain ⟨x, hx, rfl⟩ := Option.map_eq_some_iff.mp hs'
      rcases hn i' x hx with z | ⟨-, -, z1, z2⟩
      · refine Or.inl ?_
        show (if 0 = 0 then Option.map _ ((s_o S)[i']?) else none) = _
        rw [if_pos rfl, z]; rfl
      · exact Or.inr ⟨by omega, by omega, z1, z2⟩
    · rw [if_neg hj] at hs'; cases hs'
  refine Or.inl ?_
  rw [← hs]
  by_cases h2 : k' = 32
  · subst h2
    rcases i' with _ | _ | _ | _ | _ | _ | _ | i'
    · rfl
    · rfl
    · show (if j' = 0 then some (Sum.inr (s_rg (s_o S).length (fun v => ad 46 v 0), 0, 200) : jSh) else none) = (if j' = 0 then some (Sum.inr (s_rg fs.length (fun v => ad 46 v 0), 0, 200) : jSh) else none)
      have hj : j' ≠ 0 := fun z => hne ⟨rfl, rfl, z⟩
      rw [if_neg hj, if_neg hj]
    · rfl
    · rfl
    · rfl
    · rfl
    · rfl
  · exact (shM_o h2 h16 h17).symm

theorem mo_ad48 {D : va_G} {s0 : State} {b0 th : Nat} {S : sSt} {ad : jN} {T : jT} {G : jG} {n : Nat} (hW : ∀ q ∈ s_q S, q < (s_c S).length) (h : jMo D s0 b0 th S ad T G) (hn : (T n).1 = 0) (h1 : G n ≠ none) (h3 : n ≠ jEE s0 b0) :
    jMo D s0 b0 th S (jas ad 48 (s_c S).length 0 n) (jTs T n 48 (s_c S).length 0) G := by
  refine (h.ado hn h1 h3 48 (s_c S).length 0).sub fun k' i' j' s hs => ?_
  by_cases h8 : k' = 48 ∧ i' = (s_c S).length ∧ j' = 0
  · obtain ⟨rfl, rfl, rfl⟩ := h8
    exact absurd hs (by
      show (if 0 = 0 then Option.map _ ((s_c S)[(s_c S).length]?) else none) ≠ some s
      rw [if_pos rfl, List.getElem?_eq_none (Nat.le_refl _)]; simp)
  show (if _ then _ else _) = _
  rw [if_neg h8, ← hs]
  by_cases e6 : k' = 32
  · subst e6
    rcases i' with _ | _ | _ | _ | _ | _ | _ | i'
    · rfl
    · rfl
    · rfl
    · show (if j' = 0 then some (Sum.inr (s_rg (s_c S).length (fun v => ad 48 v 0), 0, 200) : jSh) else none) = (if j' = 0 then some (Sum.inr (s_rg (s_c S).length (fun v => jas ad 48 (s_c S).length 0 n 48 v 0), 0, 200) : jSh) else none)
      have e : s_rg (s_c S).length (fun v => jas ad 48 (s_c S).length 0 n 48 v 0) = s_rg (s_c S).length (fun v => ad 48 v 0) := List.map_congr_left fun q hq => jas_n fun z => by
        have := List.mem_range.mp hq
        omega
      rw [e]
    · show (if j' = 0 then some (Sum.inr ((s_q S).map (fun v => ad 48 v 0), 0, 200) : jSh) else none) = (if j' = 0 then some (Sum.inr ((s_q S).map (fun v => jas ad 48 (s_c S).length 0 n 48 v 0), 0, 200) : jSh) else none)
      have e : (s_q S).map (fun v => jas ad 48 (s_c S).length 0 n 48 v 0) = (s_q S).map (fun v => ad 48 v 0) := List.map_congr_left fun q hq => jas_n fun z => by
        have := hW q hq
        omega
      rw [e]
    · rfl
    · rfl
    · rfl
  · exact (shM_a48 e6).symm

theorem mo_cls {D : va_G} {s0 : State} {b0 th : Nat} {A : Nat → Prop} {S : sSt} {ad : jN} {T : jT} {G G1 : jG} {ea cap cap1 : Nat} {mo mo1 : Int32} {fs : List sCh} (h : jMo D s0 b0 th S ad T G) (hE : G1 (jEE s0 b0) = none) (hL : jLS D s0 b0 G (ad 32 3 0) (s_rg (s_c S).length (fun v => ad 48 v 0)) mo cap ea) (hea : cap ≠ 0 → T ea = (132, 3, 0)) (hU : jLU D s0 b0 A G G1 (ad 32 3 0) ea (s_rg fs.length (fun v => ad 48 v 0)) mo1 cap1) (hc : cap1 ≤ 200)
    (hn : ∀ j x, fs[j]? = some x → (s_c S)[j]? = some x ∨ (T (ad 48 j 0) = (48, j, 0) ∧ G (ad 48 j 0) = some (jo 17 [.int (nI j), .int (nI x.1), .int (jbz x.2.1), .int (jbz x.2.2.1), .long (lN x.2.2.2.1), .int (nI x.2.2.2.2)]))) :
    ∃ T1 : jT, jMo D s0 b0 th (sw_c S fs) ad T1 G1 ∧ ∀ b, G b ≠ none → T b ≠ (32, 3, 0) → T b ≠ (132, 3, 0) → b ≠ jEE s0 b0 → T1 b = T b ∧ G1 b = G b := by
  refine jRep.lst h hE (k := 32) (i := 3) (j := 0) (sl := .inr (s_rg (s_c S).length (fun v => ad 48 v 0), 0, 200)) rfl hL hea hU (fun s hs => ⟨0, 200, (Option.some.inj hs).symm, Nat.zero_le _, hc⟩) (fun k' i' j' s hne hs => ?_)
  by_cases h16 : k' = 48
  · subst h16
    have hs' : (if j' = 0 then Option.map (fun c : sCh => (Sum.inl (jo 17 [.int (nI i'), .int (nI c.1), .int (jbz c.2.1), .int (jbz c.2.2.1), .long (lN c.2.2.2.1), .int (nI c.2.2.2.2)]) : jSh)) (fs[i']?) else none) = some s := hs
    by_cases hj : j' = 0
    · subst hj
      rw [if_pos rfl] at hs'
      obtain ⟨x, hx, rfl⟩ := Option.map_eq_some_iff.mp hs'
      rcases hn i' x hx with z | ⟨z1, z2⟩
      · refine Or.inl ?_
        show (if 0 = 0 then Option.map _ ((s_c S)[i']?) else none) = _
        rw [if_pos rfl, z]; rfl
      · exact Or.inr ⟨by omega, by omega, z1, z2⟩
    · rw [if_neg hj] at hs'; cases hs'
  refine Or.inl ?_
  rw [← hs]
  by_cases h2 : k' = 32
  · subst h2
    rcases i' with _ | _ | _ | _ | _ | _ | _ | i'
    · rfl
    · rfl
    · rfl
    · show (if j' = 0 then some (Sum.inr (s_rg (s_c S).length (fun v => ad 48 v 0), 0, 200) : jSh) else none) = (if j' = 0 then some (Sum.inr (s_rg fs.length (fun v => ad 48 v 0), 0, 200) : jSh) else none)
      have hj : j' ≠ 0 := fun z => hne ⟨rfl, rfl, z⟩
      rw [if_neg hj, if_neg hj]
    · rfl
    · rfl
    · rfl
    · rfl
  · exact (shM_c h2 h16).symm

theorem mo_qls {D : va_G} {s0 : State} {b0 th : Nat} {A : Nat → Prop} {S : sSt} {ad : jN} {T : jT} {G G1 : jG} {ea cap cap1 : Nat} {mo mo1 : Int32} {qs : List Nat} (h : jMo D s0 b0 th S ad T G) (hE : G1 (jEE s0 b0) = none) (hL : jLS D s0 b0 G (ad 32 4 0) ((s_q S).map (fun v => ad 48 v 0)) mo cap ea) (hea : cap ≠ 0 → T ea = (132, 4, 0)) (hU : jLU D s0 b0 A G G1 (ad 32 4 0) ea (qs.map (fun v => ad 48 v 0)) mo1 cap1) (hc : cap1 ≤ 200) :
    ∃ T1 : jT, jMo D s0 b0 th (sw_q S qs) ad T1 G1 ∧ ∀ b, G b ≠ none → T b ≠ (32, 4, 0) → T b ≠ (132, 4, 0) → b ≠ jEE s0 b0 → T1 b = T b ∧ G1 b = G b := by
  refine jRep.lst h hE (k := 32) (i := 4) (j := 0) (sl := .inr ((s_q S).map (fun v => ad 48 v 0), 0, 200)) rfl hL hea hU (fun s hs => ⟨0, 200, (Option.some.inj hs).symm, Nat.zero_le _, hc⟩) (fun k' i' j' s hne hs => Or.inl ?_)
  rw [← hs]
  by_cases h2 : k' = 32
  · subst h2
    rcases i' with _ | _ | _ | _ | _ | _ | _ | i'
    · rfl
    · rfl
    · rfl
    · rfl
    · show (if j' = 0 then some (Sum.inr ((s_q S).map (fun v => ad 48 v 0), 0, 200) : jSh) else none) = (if j' = 0 then some (Sum.inr (qs.map (fun v => ad 48 v 0), 0, 200) : jSh) else none)
      have hj : j' ≠ 0 := fun z => hne ⟨rfl, rfl, z⟩
      rw [if_neg hj, if_neg hj]
    · rfl
    · rfl
    · rfl
  · exact (shM_q h2).symm

theorem mo_wch {D : va_G} {s0 : State} {b0 th : Nat} {S : sSt} {ad : jN} {T : jT} {G : jG} {ci : Nat} {ch : sCh} (h : jMo D s0 b0 th S ad T G) (hch : (s_c S)[ci]? = some ch) (st : Nat) : jMo D s0 b0 th (s_cw S ci ch st) ad T (jup G (ad 48 ci 0) (jo 17 [.int (nI ci), .int (nI ch.1), .int (jbz ch.2.1), .int (jbz ch.2.2.1), .long (lN ch.2.2.2.1), .int (nI st)])) := by
  have hl : ci < (s_c S).length := lt_ofl hch
  refine jRep.put h (k := 48) (i := ci) (j := 0) (s0' := .inl (jo 17 [.int (nI ci), .int (nI ch.1), .int (jbz ch.2.1), .int (jbz ch.2.2.1), .long (lN ch.2.2.2.1), .int (nI ch.2.2.2.2)])) (by
    show (if 0 = 0 then Option.map _ ((s_c S)[ci]?) else none) = _
    rw [if_pos rfl, hch]; rfl) (fun s hs => ?_) (fun k' i' j' s hne hs => Or.inl ?_)
  · have hs' : (if 0 = 0 then Option.map (fun c : sCh => (Sum.inl (jo 17 [.int (nI ci), .int (nI c.1), .int (jbz c.2.1), .int (jbz c.2.2.1), .long (lN c.2.2.2.1), .int (nI c.2.2.2.2)]) : jSh)) (((s_c S).set ci (ch.1, ch.2.1, ch.2.2.1, ch.2.2.2.1, st))[ci]?) else none) = some s := hs
    rw [if_pos rfl, List.getElem?_set_self hl] at hs'
    exact (Option.some.inj hs').symm
  · rw [← hs]
    by_cases h18 : k' = 48
    · subst h18
      show (if j' = 0 then Option.map (fun c : sCh => (Sum.inl (jo 17 [.int (nI i'), .int (nI c.1), .int (jbz c.2.1), .int (jbz c.2.2.1), .long (lN c.2.2.2.1), .int (nI c.2.2.2.2)]) : jSh)) ((s_c S)[i']?) else none) = (if j' = 0 then Option.map (fun c : sCh => (Sum.inl (jo 17 [.int (nI i'), .int (nI c.1), .int (jbz c.2.1), .int (jbz c.2.2.1), .long (lN c.2.2.2.1), .int (nI c.2.2.2.2)]) : jSh)) (((s_c S).set ci (ch.1, ch.2.1, ch.2.2.1, ch.2.2.2.1, st))[i']?) else none)
      by_cases hj : j' = 0
      · have e : ci ≠ i' := fun z => hne ⟨rfl, z.symm, hj⟩
        rw [List.getElem?_set_ne e]
      · rw [if_neg hj, if_neg hj]
    by_cases h2 : k' = 32
    · subst h2
      rcases i' with _ | _ | _ | _ | _ | _ | _ | i'
      · rfl
      · rfl
      · rfl
      · show (if j' = 0 then some (Sum.inr (s_rg (s_c S).length (fun v => ad 48 v 0), 0, 200) : jSh) else none) = (if j' = 0 then some (Sum.inr (s_rg ((s_c S).set ci (ch.1, ch.2.1, ch.2.2.1, ch.2.2.2.1, st)).length (fun v => ad 48 v 0), 0, 200) : jSh) else none)
        rw [List.length_set]
      · rfl
      · rfl
      · rfl
      · rfl
    exact (shM_c h2 h18).symm

section
variable {D : va_G} {s0 : State} {b0 th : Nat} {S : sSt} {ad : jN} {T : jT} {G : jG}
theorem mo_t48 (h : jMo D s0 b0 th S ad T G) {ci : Nat} {ch : sCh} (hch : (s_c S)[ci]? = some ch) : T (ad 48 ci 0) = (48, ci, 0) := h.t (k := 48) (i := ci) (j := 0) (s := .inl (jo 17 [.int (nI ci), .int (nI ch.1), .int (jbz ch.2.1), .int (jbz ch.2.2.1), .long (lN ch.2.2.2.1), .int (nI ch.2.2.2.2)])) (by show (if 0 = 0 then Option.map _ ((s_c S)[ci]?) else none) = _; rw [if_pos rfl, hch]; rfl)
theorem mo_t32 (h : jMo D s0 b0 th S ad T G) {i : Nat} (hi : i < 7) : T (ad 32 i 0) = (32, i, 0) := by
  rcases i with _ | _ | _ | _ | _ | _ | _ | i
  · exact h.t (k := 32) (i := 0) (j := 0) rfl
  · exact h.t (k := 32) (i := 1) (j := 0) rfl
  · exact h.t (k := 32) (i := 2) (j := 0) rfl
  · exact h.t (k := 32) (i := 3) (j := 0) rfl
  · exact h.t (k := 32) (i := 4) (j := 0) rfl
  · exact h.t (k := 32) (i := 5) (j := 0) rfl
  · exact h.t (k := 32) (i := 6) (j := 0) rfl
  · omega
theorem mo_t36 (h : jMo D s0 b0 th S ad T G) {i : Nat} (hi : i < 3) : T (ad 36 i 0) = (36, i, 0) := h.t (k := 36) (i := i) (j := 0) (s := .inr (s_rg (s_s S i).2.length (fun q => ad 38 i q), 0, 200)) (by show (if i < 3 ∧ 0 = 0 then _ else none) = _; rw [if_pos ⟨hi, rfl⟩])
end
theorem mo_fm {s0 : State} {b0 : Nat} {T T1 : jT} {G G1 : jG} {k i j : Nat} (hk : 30 < k ∧ k < 60) (hE : G (jEE s0 b0) = none) (h : ∀ b, G b ≠ none → T b ≠ (k, i, j) → T b ≠ (k + 100, i, j) → b ≠ jEE s0 b0 → T1 b = T b ∧ G1 b = G b) : jFm 31 60 T G T1 G1 := fun b hb hn => h b hb (fun z => hn (by rw [z]; show 31 ≤ k % 100 ∧ k % 100 < 60; omega)) (fun z => hn (by rw [z]; show 31 ≤ (k + 100) % 100 ∧ (k + 100) % 100 < 60; omega)) (fun z => hb (by rw [z]; exact hE))
