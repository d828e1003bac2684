/-! the model: what is put out -/
theorem mo_ad49 {D : va_G} {s0 : State} {b0 th : Nat} {S : sSt} {ad : jN} {T : jT} {G : jG} {n : Nat} (h : jMo D s0 b0 th S ad T G) (hn : (T n).1 = 0) (h1 : G n ≠ none) (h3 : n ≠ jEE s0 b0) :
    jMo D s0 b0 th S (jas ad 49 (s_u S).length 0 n) (jTs T n 49 (s_u S).length 0) G := by
  refine (h.ado hn h1 h3 49 (s_u S).length 0).sub fun k' i' j' s hs => ?_
  by_cases h8 : k' = 49 ∧ i' = (s_u S).length ∧ j' = 0
  · obtain ⟨rfl, rfl, rfl⟩ := h8
    exact absurd hs (by
      show (if 0 = 0 then (match (s_u S)[(s_u S).length]? with | some u => if ((-128 : Int32) ≤ u.1 ∧ u.1 ≤ 127) then none else some (Sum.inl (jo 10 [.int u.1]) : jSh) | none => none) else none) ≠ some s
      rw [if_pos rfl, List.getElem?_eq_none (Nat.le_refl _)]; simp)
  show (if _ then _ else _) = _
  rw [if_neg h8, ← hs]
  by_cases e6 : k' = 32
  · subst e6
    rcases i' with _ | _ | _ | _ | _ | _ | _ | i'
    · rfl
    · rfl
    · rfl
    · rfl
    · rfl
    · show (if j' = 0 then some (Sum.inr (s_rg (s_u S).length (fun v => jbx s0 b0 ((s_u S).getD v (0, 0)).1 (ad 49 v 0)), s_k S, s_k S) : jSh) else none) = (if j' = 0 then some (Sum.inr (s_rg (s_u S).length (fun v => jbx s0 b0 ((s_u S).getD v (0, 0)).1 (jas ad 49 (s_u S).length 0 n 49 v 0)), s_k S, s_k S) : jSh) else none)
      have e : s_rg (s_u S).length (fun v => jbx s0 b0 ((s_u S).getD v (0, 0)).1 (jas ad 49 (s_u S).length 0 n 49 v 0)) = s_rg (s_u S).length (fun v => jbx s0 b0 ((s_u S).getD v (0, 0)).1 (ad 49 v 0)) := List.map_congr_left fun q hq => by
        have := List.mem_range.mp hq
        rw [jas_n (fun z => by omega)]
      rw [e]
    · rfl
    · rfl
  · exact (shM_a49 e6).symm
theorem mo_box {D : va_G} {s0 : State} {b0 th : Nat} {S : sSt} {ad : jN} {T : jT} {G : jG} {A : Nat → Prop} {G1 : jG} {v : Int32} {y : Nat} (h : jMo D s0 b0 th S ad T G) (hy : (((-128 : Int32) ≤ v ∧ v ≤ 127) ∧ y = jAI s0 b0 (v + 128).toNatClampNeg ∧ (v + 128).toNatClampNeg < 256 ∧ G1 = G) ∨ (¬ ((-128 : Int32) ≤ v ∧ v ≤ 127) ∧ G y = none ∧ A y ∧ G1 = jup G y (jo 10 [.int v]))) (hAe : A y → y ≠ jEE s0 b0) :
    ∃ (ad1 : jN) (T1 : jT), jMo D s0 b0 th S ad1 T1 G1 ∧ jNw G G1 ∧ (∀ b, G b ≠ none → T1 b = T b) ∧ (∀ k i j, ¬ (k = 49 ∧ i = (s_u S).length ∧ j = 0) → ad1 k i j = ad k i j) ∧ y = jbx s0 b0 v (ad1 49 (s_u S).length 0) ∧ (¬ ((-128 : Int32) ≤ v ∧ v ≤ 127) → T1 (ad1 49 (s_u S).length 0) = (49, (s_u S).length, 0) ∧ G1 (ad1 49 (s_u S).length 0) = some (jo 10 [.int v])) ∧ jOb s0 b0 D G1 y := by
  rcases hy with ⟨h1, h2, h3, h4⟩ | ⟨h1, h2, h3, h4⟩
  · subst h4
    refine ⟨ad, T, h, jNw.refl, fun _ _ => rfl, fun _ _ _ _ => rfl, ?_, fun z => absurd h1 z, Or.inr (Or.inr ⟨_, h3, h2⟩)⟩
    unfold jbx
    rw [if_pos h1]
    exact h2
  · subst h4
    have hn : jNw G (jup G y (jo 10 [.int v])) := jNw.new h2
    refine ⟨_, _, mo_ad49 (n := y) (jRep.nw h hn) (h.un h2) (by rw [jup_s]; simp) (hAe h3), hn, fun b hb => jTs_n (fun z => hb (by rw [z]; exact h2)), fun k i j hk => jas_n hk, ?_, fun _ => ?_, ob_o (ci := 10) jup_s (r := (RJ24, TJ24, 1)) rfl q2243⟩
    · unfold jbx
      rw [if_neg h1, jas_s]
    · rw [jas_s]
      exact ⟨jTs_s, jup_s⟩
/-- the picture while the list of amounts is ahead of the list of their versions -/
def sh5 (D : va_G) (s0 : State) (b0 th : Nat) (S : sSt) (fs : List (Int32 × Nat)) (cap1 : Nat) (ad : jN) : jPic := fun k i j => if k = 32 ∧ i = 6 ∧ j = 0 then some (.inr (s_rg (s_u S).length (fun v => jAI s0 b0 (((s_u S).getD v (0, 0)).2 + 128)), s_k S, s_k S)) else shM D s0 b0 th (sw_u S fs cap1) ad k i j
theorem sh5_n {D : va_G} {s0 : State} {b0 th : Nat} {S : sSt} {fs : List (Int32 × Nat)} {cap1 : Nat} {ad : jN} {k i j : Nat} (h : ¬ (k = 32 ∧ i = 6 ∧ j = 0)) : sh5 D s0 b0 th S fs cap1 ad k i j = shM D s0 b0 th (sw_u S fs cap1) ad k i j := if_neg h
theorem shM_u32 {D : va_G} {s0 : State} {b0 th : Nat} {S : sSt} {ad : jN} {i j : Nat} {x : List (Int32 × Nat)} {y : Nat} (h5 : i ≠ 5) (h6 : i ≠ 6) : shM D s0 b0 th (sw_u S x y) ad 32 i j = shM D s0 b0 th S ad 32 i j := by
  rcases i with _ | _ | _ | _ | _ | _ | _ | i
  all_goals first | exact absurd rfl h5 | exact absurd rfl h6 | (simp only [shM]; rfl) | simp only [shM]
theorem mo_u5 {D : va_G} {s0 : State} {b0 th : Nat} {S : sSt} {ad : jN} {T : jT} {G : jG} {A : Nat → Prop} {G1 : jG} {ea cap cap1 : Nat} {mo mo1 : Int32} {fs : List (Int32 × Nat)} (h : jMo D s0 b0 th S ad T G) (hE : G1 (jEE s0 b0) = none) (hL : jLS D s0 b0 G (ad 32 5 0) (s_rg (s_u S).length (fun v => jbx s0 b0 ((s_u S).getD v (0, 0)).1 (ad 49 v 0))) mo cap ea) (hea : cap ≠ 0 → T ea = (132, 5, 0)) (hU : jLU D s0 b0 A G G1 (ad 32 5 0) ea (s_rg fs.length (fun v => jbx s0 b0 (fs.getD v (0, 0)).1 (ad 49 v 0))) mo1 cap1)
    (hn : ∀ j x, fs[j]? = some x → (s_u S)[j]? = some x ∨ (¬ ((-128 : Int32) ≤ x.1 ∧ x.1 ≤ 127) → T (ad 49 j 0) = (49, j, 0) ∧ G (ad 49 j 0) = some (jo 10 [.int x.1]))) :
    ∃ T1 : jT, jRep D s0 b0 (sh5 D s0 b0 th S fs cap1 ad) ad T1 G1 ∧ ∀ b, G b ≠ none → T b ≠ (32, 5, 0) → T b ≠ (132, 5, 0) → b ≠ jEE s0 b0 → T1 b = T b ∧ G1 b = G b := by
  refine jRep.lst h hE (k := 32) (i := 5) (j := 0) (sl := .inr (s_rg (s_u S).length (fun v => jbx s0 b0 ((s_u S).getD v (0, 0)).1 (ad 49 v 0)), s_k S, s_k S)) rfl hL hea hU (fun s hs => ⟨cap1, cap1, ?_, Nat.le_refl _, Nat.le_refl _⟩) (fun k' i' j' s hne hs => ?_)
  · rw [sh5_n (by omega)] at hs
    exact (Option.some.inj hs).symm
  by_cases h6 : k' = 32 ∧ i' = 6 ∧ j' = 0
  · obtain ⟨rfl, rfl, rfl⟩ := h6
    refine Or.inl ?_
    rw [← hs]
    exact (if_pos ⟨rfl, rfl, rfl⟩ : sh5 D s0 b0 th S fs cap1 ad 32 6 0 = _).symm
  rw [sh5_n h6] at hs
  by_cases h16 : k' = 49
  · subst h16
    have hs' : (if j' = 0 then (match fs[i']? with | some u => if ((-128 : Int32) ≤ u.1 ∧ u.1 ≤ 127) then none else some (Sum.inl (jo 10 [.int u.1]) : jSh) | none => none) else none) = some s := hs
    by_cases hj : j' = 0
    · subst hj
      rw [if_pos rfl] at hs'
      cases hx : fs[i']? with
      | none => rw [hx] at hs'; cases hs'
      | some x =>
        rw [hx] at hs'
        have hs2 : (if ((-128 : Int32) ≤ x.1 ∧ x.1 ≤ 127) then none else some (Sum.inl (jo 10 [.int x.1]) : jSh)) = some s := hs'
        by_cases hi : ((-128 : Int32) ≤ x.1 ∧ x.1 ≤ 127)
        · rw [if_pos hi] at hs2; cases hs2
        · rw [if_neg hi] at hs2
          rcases hn i' x hx with z | z
          · refine Or.inl ?_
            show (if 0 = 0 then (match (s_u S)[i']? with | some u => if ((-128 : Int32) ≤ u.1 ∧ u.1 ≤ 127) then none else some (Sum.inl (jo 10 [.int u.1]) : jSh) | none => none) else none) = some s
            rw [if_pos rfl, z]
            show (if ((-128 : Int32) ≤ x.1 ∧ x.1 ≤ 127) then none else some (Sum.inl (jo 10 [.int x.1]) : jSh)) = some s
            rw [if_neg hi]; exact hs2
          · obtain ⟨z1, z2⟩ := z hi
            refine Or.inr ⟨by omega, by omega, ?_⟩
            rw [← Option.some.inj hs2]
            exact ⟨z1, z2⟩
    · rw [if_neg hj] at hs'; cases hs'
  refine Or.inl ?_
  rw [← hs]
  by_cases h2 : k' = 32
  · subst h2
    by_cases e5 : i' = 5
    · subst e5
      have hj : j' ≠ 0 := fun z => hne ⟨rfl, rfl, z⟩
      simp only [shM]
      rw [if_neg hj, if_neg hj]
    by_cases e6 : i' = 6
    · subst e6
      have hj : j' ≠ 0 := fun z => h6 ⟨rfl, rfl, z⟩
      simp only [shM]
      rw [if_neg hj, if_neg hj]
    exact (shM_u32 e5 e6).symm
  · exact (shM_u h2 h16).symm
theorem mo_u6 {D : va_G} {s0 : State} {b0 th : Nat} {S : sSt} {ad : jN} {T : jT} {G : jG} {A : Nat → Prop} {G1 : jG} {ea cap cap1 : Nat} {mo mo1 : Int32} {fs : List (Int32 × Nat)} (h : jRep D s0 b0 (sh5 D s0 b0 th S fs cap1 ad) ad T G) (hE : G1 (jEE s0 b0) = none) (hL : jLS D s0 b0 G (ad 32 6 0) (s_rg (s_u S).length (fun v => jAI s0 b0 (((s_u S).getD v (0, 0)).2 + 128))) mo cap ea) (hea : cap ≠ 0 → T ea = (132, 6, 0)) (hU : jLU D s0 b0 A G G1 (ad 32 6 0) ea (s_rg fs.length (fun v => jAI s0 b0 ((fs.getD v (0, 0)).2 + 128))) mo1 cap1) :
    ∃ T1 : jT, jMo D s0 b0 th (sw_u S fs cap1) ad T1 G1 ∧ ∀ b, G b ≠ none → T b ≠ (32, 6, 0) → T b ≠ (132, 6, 0) → b ≠ jEE s0 b0 → T1 b = T b ∧ G1 b = G b := by
  refine jRep.lst h hE (k := 32) (i := 6) (j := 0) (sl := .inr (s_rg (s_u S).length (fun v => jAI s0 b0 (((s_u S).getD v (0, 0)).2 + 128)), s_k S, s_k S)) (if_pos ⟨rfl, rfl, rfl⟩) hL hea hU (fun s hs => ⟨cap1, cap1, (Option.some.inj hs).symm, Nat.le_refl _, Nat.le_refl _⟩) (fun k' i' j' s hne hs => Or.inl ?_)
  rw [sh5_n hne]
  exact hs
theorem ob_bx {D : va_G} {s0 : State} {b0 th : Nat} {S : sSt} {ad : jN} {T : jT} {G : jG} (h : jMo D s0 b0 th S ad T G) {v : Nat} (hv : v < (s_u S).length) : jOb s0 b0 D G (jbx s0 b0 ((s_u S).getD v (0, 0)).1 (ad 49 v 0)) := by
  unfold jbx
  by_cases hi : (-128 : Int32) ≤ ((s_u S).getD v (0, 0)).1 ∧ ((s_u S).getD v (0, 0)).1 ≤ 127
  · rw [if_pos hi]
    exact Or.inr (Or.inr ⟨_, (box_in hi).2, rfl⟩)
  · rw [if_neg hi]
    have hg : (s_u S)[v]? = some ((s_u S).getD v (0, 0)) := by rw [List.getD_eq_getElem?_getD, List.getElem?_eq_getElem hv]; rfl
    have h9 := h.c (k := 49) (i := v) (j := 0) (c := jo 10 [.int ((s_u S).getD v (0, 0)).1]) (by
      show (if 0 = 0 then (match (s_u S)[v]? with | some u => if ((-128 : Int32) ≤ u.1 ∧ u.1 ≤ 127) then none else some (Sum.inl (jo 10 [.int u.1]) : jSh) | none => none) else none) = _
      rw [if_pos rfl, hg]
      show (if (-128 : Int32) ≤ ((s_u S).getD v (0, 0)).1 ∧ ((s_u S).getD v (0, 0)).1 ≤ 127 then none else _) = _
      rw [if_neg hi])
    exact ob_o (ci := 10) h9 (r := (RJ24, TJ24, 1)) rfl q2243
