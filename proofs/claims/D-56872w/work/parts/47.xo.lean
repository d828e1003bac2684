/-! a change's state; Arrays.fill; Integer -/
abbrev s_cw (S : sSt) (ci : Nat) (ch : sCh) (st : Nat) : sSt := sw_c S ((s_c S).set ci (ch.1, ch.2.1, ch.2.2.1, ch.2.2.2.1, st))
theorem co_wch {D : va_G} {s0 : State} {b0 : Nat} {S : sSt} {ad : jN} {T : jT} {G : jG} {ci : Nat} {ch : sCh} (h : jCo D s0 b0 S ad T G) (hch : (s_c S)[ci]? = some ch) (st : Nat) : jCo D s0 b0 (s_cw S ci ch st) ad T (jup G (ad 18 ci 0) (jo 8 [.int (nI ch.1), .int (jbz ch.2.1), .int (jbz ch.2.2.1), .long (lN ch.2.2.2.1), .int (nI st)])) := by
  have hl : ci < (s_c S).length := lt_ofl hch
  refine jRep.put h (k := 18) (i := ci) (j := 0) (s0' := .inl (jo 8 [.int (nI ch.1), .int (jbz ch.2.1), .int (jbz ch.2.2.1), .long (lN ch.2.2.2.1), .int (nI ch.2.2.2.2)])) (by
    show (if 0 = 0 then Option.map _ ((s_c S)[ci]?) else none) = _
    rw [if_pos rfl, hch]; rfl) (fun s hs => ?_) (fun k' i' j' s hne hs => Or.inl ?_)
  · have hs' : (if 0 = 0 then Option.map (fun c : sCh => (Sum.inl (jo 8 [.int (nI c.1), .int (jbz c.2.1), .int (jbz c.2.2.1), .long (lN c.2.2.2.1), .int (nI c.2.2.2.2)]) : jSh)) (((s_c S).set ci (ch.1, ch.2.1, ch.2.2.1, ch.2.2.2.1, st))[ci]?) else none) = some s := hs
    rw [if_pos rfl, List.getElem?_set_self hl] at hs'
    exact (Option.some.inj hs').symm
  · rw [← hs]
    by_cases h18 : k' = 18
    · subst h18
      show (if j' = 0 then Option.map (fun c : sCh => (Sum.inl (jo 8 [.int (nI c.1), .int (jbz c.2.1), .int (jbz c.2.2.1), .long (lN c.2.2.2.1), .int (nI c.2.2.2.2)]) : jSh)) ((s_c S)[i']?) else none) = (if j' = 0 then Option.map (fun c : sCh => (Sum.inl (jo 8 [.int (nI c.1), .int (jbz c.2.1), .int (jbz c.2.2.1), .long (lN c.2.2.2.1), .int (nI c.2.2.2.2)]) : jSh)) (((s_c S).set ci (ch.1, ch.2.1, ch.2.2.1, ch.2.2.2.1, st))[i']?) else none)
      by_cases hj : j' = 0
      · have e : ci ≠ i' := fun z => hne ⟨rfl, z.symm, hj⟩
        rw [List.getElem?_set_ne e]
      · rw [if_neg hj, if_neg hj]
    by_cases h2 : k' = 2
    · subst h2
      rcases i' with _ | _ | _ | _ | _ | i'
      · rfl
      · rfl
      · show (if j' = 0 then some (Sum.inr (s_rg (s_c S).length (fun v => ad 18 v 0), 0, 200) : jSh) else none) = (if j' = 0 then some (Sum.inr (s_rg ((s_c S).set ci (ch.1, ch.2.1, ch.2.2.1, ch.2.2.2.1, st)).length (fun v => ad 18 v 0), 0, 200) : jSh) else none)
        rw [List.length_set]
      · rfl
      · rfl
      · rfl
    exact (shC_c h2 h18).symm

set_option maxHeartbeats 4000000 in
set_option maxRecDepth 100000 in
theorem met_fill (l : Launch) (D : va_G) (s0 : State) (b0 : Nat) (A : Nat → Prop) (G : jG) (a n : Nat) (f : Nat → Int32) (v : Int32) (ha : G a = some (ji D n f)) (hn : n ≤ 1000) : jM l yJ5_fill (ws_ yJ5_fill cJ5_fill 4 none) (jR 0 0 0) D s0 b0 A G [.ref a, .int v] (fun w G1 => w = none ∧ G1 = jup G a (ji D n (fun _ => v))) := by
  refine jM.of (by decide +kernel) (own := RJ5) rfl (Nat.le_of_ble_eq_true rfl) ?_
  intro p e s m args below meth c hX hr hlk hnm
  refine jr_iconst (v := 0) hX rfl dJ5_fill_0 ?_
  refine jr_istore_n (i := 2) hX rfl (by decide) rfl dJ5_fill_1 ?_
  refine jr_aload_n (i := 0) hX rfl rfl dJ5_fill_2 ?_
  refine jr_alen (t := 0) hX ha rfl rfl dJ5_fill_3 ?_
  refine jr_istore_n (i := 3) hX rfl (by decide) rfl dJ5_fill_4 ?_
  have loop : ∀ (n9 i : Nat) (g : Nat → Int32), n - i = n9 → i ≤ n → (∀ k, k < i → g k = v) → Jg p l e (jR 0 0 0) s m args below meth c (MQ below (jQ D A (fun w G1 => w = none ∧ G1 = jup G a (ji D n (fun _ => v)))) args s 0 0 A) D A 4 (jup G a (ji D n g)) 0 0 5 [(2, .int (nI i)), (3, .int (nI n)), (0, .ref a), (1, .int v)] [] := by
    intro n9
    induction n9 using Nat.strongRecOn with
    | ind n9 ih0 =>
    intro i g hn9 hik h5
    have ih : ∀ m9, m9 < n9 → ∀ (i : Nat) (g : Nat → Int32), n - i = m9 → i ≤ n → (∀ k, k < i → g k = v) → Jg p l e (jR 0 0 0) s m args below meth c (MQ below (jQ D A (fun w G1 => w = none ∧ G1 = jup G a (ji D n (fun _ => v)))) args s 0 0 A) D A 4 (jup G a (ji D n g)) 0 0 5 [(2, .int (nI i)), (3, .int (nI n)), (0, .ref a), (1, .int v)] [] := fun m9 hm => ih0 m9 hm
    refine jr_iload_n (i := 2) hX rfl rfl dJ5_fill_5 ?_
    refine jr_iload_n (i := 3) hX rfl rfl dJ5_fill_6 ?_
    refine jr_icmp_ge hX (tgt := 20) (by decide) dJ5_fill_7 (fun c_7 => ?_) (fun c_7 => ?_)
    · have hge : n ≤ i := Nat.not_lt.mp fun z => absurd c_7 (nI_ge z (by omega))
      refine jr_norm (fun _ => v) jup_s (fun k hk => h5 k (by omega)) ?_
      rw [jup_jup]
      exact jr_vret hX hlk hr ⟨rfl, rfl⟩ dJ5_fill_20
    · have hi9 : i < n := Nat.not_le.mp fun z => c_7 (nI_le z (by omega))
      refine jr_aload_n (i := 0) hX rfl rfl dJ5_fill_10 ?_
      refine jr_iload_n (i := 2) hX rfl rfl dJ5_fill_11 ?_
      refine jr_iload_n (i := 1) hX rfl rfl dJ5_fill_12 ?_
      refine jr_iast hX jup_s (vp_in_nI hi9 (by omega)) dJ5_fill_13 ?_
      rw [jup_jup, nI_clamp (by omega)]
      refine jr_iinc (w := 1) hX rfl rfl (by decide) rfl dJ5_fill_14 ?_
      refine jr_goto hX (tgt := 5) (by decide) dJ5_fill_17 ?_
      rw [show nI i + 1 = nI (i + 1) from nI_1 i]
      refine jr_lvm [(2, .int (nI (i + 1))), (3, .int (nI n)), (0, .ref a), (1, .int v)] rfl ?_
      refine ih _ (by omega) (i + 1) _ rfl (by omega) (fun k hk => ?_)
      show upd g i _ k = _
      by_cases e : k = i
      · subst e; simp only [upd, if_true]
      · simp only [upd, if_neg e]
        exact h5 k (by omega)
  refine jr_lvm [(2, .int (nI 0)), (3, .int (nI n)), (0, .ref a), (1, .int v)] rfl ?_
  have h0 := loop n 0 f rfl (Nat.zero_le _) (fun k hk => absurd hk (Nat.not_lt_zero k))
  rw [jup_id ha] at h0
  exact h0

set_option maxHeartbeats 4000000 in
set_option maxRecDepth 100000 in
theorem met_intValue (l : Launch) (D : va_G) (s0 : State) (b0 : Nat) (A : Nat → Prop) (G : jG) (a : Nat) (v : Int32) (ha : G a = some (jo 10 [.int v])) : jM l yJ24_intValue (ws_ yJ24_intValue cJ24_intValue 1 (some .int)) (jR 0 0 0) D s0 b0 A G [.ref a] (fun w G1 => w = some (.int v) ∧ G1 = G) := by
  refine jM.ofF (by decide +kernel) (own := RJ24) rfl (Nat.le_of_ble_eq_true rfl) ?_
  intro p e s m args below meth c hX hr hlk hnm
  refine jr_aload_n (i := 0) hX rfl rfl dJ24_intValue_0 ?_
  refine jr_get (ci := 10) (k := 0) hX (by first | assumption | exact jup_s) rfl in_J24 (by decide) q2037 rfl dJ24_intValue_1 ?_
  exact jr_iret hX hlk hr ⟨rfl, rfl⟩ dJ24_intValue_4
