/-! ArrayList: copies, growth, add -/
theorem jOb.f {s0 : State} {b0 : Nat} {D : va_G} {G : jG} {y q : Nat} {x : jE} (h : jOb s0 b0 D G y) (hq : G q = none) : jOb s0 b0 D (jup G q x) y := by
  rcases h with ⟨ci, vs, r, h1, h2, h3⟩ | ⟨n, f, h1⟩ | h
  · exact Or.inl ⟨ci, vs, r, jup_f h1 hq, h2, h3⟩
  · exact Or.inr (Or.inl ⟨n, f, jup_f h1 hq⟩)
  · exact Or.inr (Or.inr h)
/-- an object stays an object when its fields are written, or an array of objects elsewhere is -/
theorem jOb.o {s0 : State} {b0 : Nat} {D : va_G} {G : jG} {y a ci : Nat} {vs vs' : List Value} (h : jOb s0 b0 D G y) (ha : G a = some (jo ci vs)) : jOb s0 b0 D (jup G a (jo ci vs')) y := by
  rcases h with ⟨cj, ws, r, h1, h2, h3⟩ | ⟨n, f, h1⟩ | h
  · by_cases e : y = a
    · subst e
      have e2 : cj = ci := by
        have := h1.symm.trans ha
        simp at this
        exact this.1
      subst e2
      exact Or.inl ⟨cj, vs', r, jup_s, h2, h3⟩
    · exact Or.inl ⟨cj, ws, r, by rw [jup_n e]; exact h1, h2, h3⟩
  · exact Or.inr (Or.inl ⟨n, f, jup_o h1 ha (by simp)⟩)
  · exact Or.inr (Or.inr h)
theorem jOb.q {s0 : State} {b0 : Nat} {D : va_G} {G : jG} {y a k n m : Nat} {f g : Nat → Option Nat} (h : jOb s0 b0 D G y) (ha : G a = some (jq D k n f)) : jOb s0 b0 D (jup G a (jq D k m g)) y := by
  rcases h with ⟨cj, ws, r, h1, h2, h3⟩ | ⟨n, f, h1⟩ | h
  · exact Or.inl ⟨cj, ws, r, jup_o h1 ha (by simp), h2, h3⟩
  · exact Or.inr (Or.inl ⟨n, f, jup_o h1 ha (by simp)⟩)
  · exact Or.inr (Or.inr h)
/-- the room behind a growth -/
def jgw (cap m : Nat) : Nat := if cap = 0 then max 10 m else cap + max (m - cap) (cap / 2)
theorem jz0 : (0 : Int32).toNatClampNeg = 0 := by decide

set_option maxHeartbeats 4000000 in
set_option maxRecDepth 100000 in
theorem met_copyOf2 (l : Launch) (D : va_G) (s0 : State) (b0 : Nat) (A : Nat → Prop) (G : jG) (ea cap N : Nat) (f : Nat → Option Nat) (hf : G ea = some (jq D 101 cap f)) (hcap : cap ≤ 20000) (hN : N ≤ 40000) (hel : ∀ i y, i < N → i < cap → f i = some y → jOb s0 b0 D G y) : jM l yJ5_copyOf_2 (ws_ yJ5_copyOf_2 cJ5_copyOf_2 4 (some (.array (.object "java/lang/Object")))) (jR 1 1 (N)) D s0 b0 A G [.ref ea, .int (nI N), .ref (jMi s0 "[Ljava/lang/Object;")] (fun v G1 => ∃ q, v = some (.ref q) ∧ G q = none ∧ A q ∧ G1 = jup G q (jq D 101 N (va_cpy f (fun _ => none) 0 0 (min cap N)))) := by
  refine jM.of (by decide +kernel) (own := RJ5) rfl (Nat.le_of_ble_eq_true rfl) ?_
  intro p e s m args below meth c hX hr hlk hnm
  refine jr_aload_n (i := 2) hX rfl rfl dJ5_copyOf_2_0 ?_
  refine jr_ldcM hX q258 (hX.S.Mi (C := "[Ljava/lang/Object;") (by decide +kernel)) dJ5_copyOf_2_1 ?_
  refine jr_acmp_neR hX (tgt := 13) (by decide) dJ5_copyOf_2_3 (fun c_3 => absurd c_3 (fun h => h rfl)) (fun c_3 => ?_)
  refine jr_iload_n (i := 1) hX rfl rfl dJ5_copyOf_2_6 ?_
  refine jr_newq (k := 101) (t := 1) (N := N) (bc1 := 0) (bs1 := 0) hX q260 q259 rfl (nI_pos (by omega)) (nI_clamp (by omega)) (by omega) (by omega) (by omega) dJ5_copyOf_2_7 (fun n_7 hn_7 hA_7 => ?_)
  refine jr_goto hX (tgt := 24) (by decide) dJ5_copyOf_2_10 ?_
  refine jr_astore_n (i := 3) hX rfl (by decide) rfl dJ5_copyOf_2_24 ?_
  refine jr_aload_n (i := 0) hX rfl rfl dJ5_copyOf_2_25 ?_
  refine jr_iconst (v := 0) hX rfl dJ5_copyOf_2_26 ?_
  refine jr_aload_n (i := 3) hX rfl rfl dJ5_copyOf_2_27 ?_
  refine jr_iconst (v := 0) hX rfl dJ5_copyOf_2_28 ?_
  refine jr_aload_n (i := 0) hX rfl rfl dJ5_copyOf_2_29 ?_
  refine jr_alen (t := 1) hX (jup_f hf hn_7) rfl rfl dJ5_copyOf_2_30 ?_
  refine jr_iload_n (i := 1) hX rfl rfl dJ5_copyOf_2_31 ?_
  refine jr_callS (As := [.int (nI cap), .int (nI N)]) (bc1 := (0)) (bs1 := (0)) hX (met_min l D s0 b0 A _ (nI cap) (nI N)) (va_cwS 2 hX.ts (lw_S q261 q262 q72 q263) rfl rfl rfl (by decide +kernel) ⟨Nat.le_of_ble_eq_true rfl, Nat.le_of_ble_eq_true rfl⟩) rfl (Nat.le_of_ble_eq_true rfl) (by first | omega | (dsimp only; omega) | (show _ ≤ _; simp only []; omega)) (by first | omega | (dsimp only; omega) | (show _ ≤ _; simp only []; omega)) rfl dJ5_copyOf_2_32 (fun v_32 G_32 hp_32 => ?_)
  obtain ⟨rfl, e9⟩ := hp_32
  rw [e9]
  rw [show (if nI N < nI cap then nI N else nI cap) = nI (min cap N) from by
    by_cases c : N < cap
    · rw [if_pos (nI_lt c (by omega)), show min cap N = N by omega]
    · rw [if_neg (nI_nlt (by omega) (by omega)), show min cap N = cap by omega]]
  refine jr_copyq hX q264 q266 q265 q74 (jup_f hf hn_7) jup_s (by decide) (by decide) (nI_pos (by omega)) (by rw [jz0, nI_clamp (by omega)]; omega) (by rw [jz0, nI_clamp (by omega)]; omega) (fun i hi y hy => by
    rw [nI_clamp (by omega)] at hi
    rw [jz0, Nat.zero_add] at hy
    exact (hel i y (by omega) (by omega) hy).f hn_7) (Nat.le_of_ble_eq_true rfl) (Nat.le_of_ble_eq_true rfl) dJ5_copyOf_2_35 ?_
  rw [jup_jup, jz0, nI_clamp (by omega)]
  refine jr_aload_n (i := 3) hX rfl rfl dJ5_copyOf_2_38 ?_
  exact jr_aret hX hlk hr (Or.inr ⟨_, rfl⟩) (Or.inr ⟨_, rfl⟩) ⟨n_7, rfl, hn_7, hA_7, rfl⟩ dJ5_copyOf_2_39

set_option maxHeartbeats 4000000 in
set_option maxRecDepth 100000 in
theorem met_copyOf (l : Launch) (D : va_G) (s0 : State) (b0 : Nat) (A : Nat → Prop) (G : jG) (ea cap N : Nat) (f : Nat → Option Nat) (hf : G ea = some (jq D 101 cap f)) (hcap : cap ≤ 20000) (hN : N ≤ 40000) (hel : ∀ i y, i < N → i < cap → f i = some y → jOb s0 b0 D G y) : jM l yJ5_copyOf (ws_ yJ5_copyOf cJ5_copyOf 2 (some (.array (.object "java/lang/Object")))) (jR 2 1 (N)) D s0 b0 A G [.ref ea, .int (nI N)] (fun v G1 => ∃ q, v = some (.ref q) ∧ G q = none ∧ A q ∧ G1 = jup G q (jq D 101 N (va_cpy f (fun _ => none) 0 0 (min cap N)))) := by
  refine jM.of (by decide +kernel) (own := RJ5) rfl (Nat.le_of_ble_eq_true rfl) ?_
  intro p e s m args below meth c hX hr hlk hnm
  refine jr_aload_n (i := 0) hX rfl rfl dJ5_copyOf_0 ?_
  refine jr_iload_n (i := 1) hX rfl rfl dJ5_copyOf_1 ?_
  refine jr_aload_n (i := 0) hX rfl rfl dJ5_copyOf_2 ?_
  refine jr_getCA hX hf (hX.S.Mi (C := "[Ljava/lang/Object;") (by decide +kernel)) q214 q2256 q2255 q215 q254 (Nat.le_of_ble_eq_true rfl) (Nat.le_of_ble_eq_true rfl) dJ5_copyOf_3 ?_
  refine jr_callS (As := [.ref ea, .int (nI N), .ref (jMi s0 "[Ljava/lang/Object;")]) (bc1 := (0)) (bs1 := (0)) hX (met_copyOf2 l D s0 b0 A G ea cap N f hf hcap hN hel) (va_cwS 3 hX.ts (lw_S q255 q256 q73 q257) rfl rfl rfl (by decide +kernel) ⟨Nat.le_of_ble_eq_true rfl, Nat.le_of_ble_eq_true rfl⟩) rfl (Nat.le_of_ble_eq_true rfl) (Nat.le_of_ble_eq_true rfl) (by show 0 + N ≤ N; omega) rfl dJ5_copyOf_6 (fun v_6 G_6 hp_6 => ?_)
  obtain ⟨q, rfl, h1, h2, e9⟩ := hp_6
  rw [e9]
  exact jr_aret hX hlk hr (Or.inr ⟨_, rfl⟩) (Or.inr ⟨_, rfl⟩) ⟨q, rfl, h1, h2, rfl⟩ dJ5_copyOf_9

set_option maxHeartbeats 4000000 in
set_option maxRecDepth 100000 in
theorem met_grow2 (l : Launch) (D : va_G) (s0 : State) (b0 : Nat) (A : Nat → Prop) (G : jG) (a : Nat) (xs : List Nat) (mo : Int32) (cap ea : Nat) (hL : jLS D s0 b0 G a xs mo cap ea) (mn : Nat) (hmn : cap < mn) (hm2 : mn ≤ 20000) (hel : ∀ y ∈ xs, jOb s0 b0 D G y) : jM l yJ2_grow_2 (ws_ yJ2_grow_2 cJ2_grow_2 4 (some (.array (.object "java/lang/Object")))) (jR 3 1 (jgw cap mn)) D s0 b0 A G [.ref a, .int (nI mn)] (fun v G1 => ∃ (q : Nat) (f2 : Nat → Option Nat), v = some (.ref q) ∧ G q = none ∧ A q ∧ (∀ i, i < jgw cap mn → f2 i = xs[i]?) ∧ G1 = jup (jup G q (jq D 101 (jgw cap mn) f2)) a (jo 0 [.int mo, .ref q, .int (nI xs.length)])) := by
  obtain ⟨hL1, hle, hcap, hor⟩ := hL
  have hw : jgw cap mn ≤ 40000 := by unfold jgw; split <;> omega
  have hw2 : cap = 0 → jgw cap mn = max 10 mn := fun h => by unfold jgw; rw [if_pos h]
  have hw3 : ¬ cap = 0 → jgw cap mn = cap + max (mn - cap) (cap / 2) := fun h => by unfold jgw; rw [if_neg h]
  refine jM.of (by decide +kernel) (own := RJ2) rfl (Nat.le_of_ble_eq_true rfl) ?_
  intro p e s m args below meth c hX hr hlk hnm
  refine jr_aload_n (i := 0) hX rfl rfl dJ2_grow_2_0 ?_
  refine jr_get (ci := 0) (k := 1) hX (by first | assumption | exact jup_s) rfl in_J2 (by decide) q134 rfl dJ2_grow_2_1 ?_
  by_cases hc0 : cap = 0
  · have hxs : xs = [] := List.eq_nil_of_length_eq_zero (by omega)
    have hea : ea = jEE s0 b0 := by
      rcases hor with h | h
      · exact h.2
      · omega
    refine jr_tlen (v := nI 0) hX (by rw [hea]; exact hX.S.EE.2) rfl dJ2_grow_2_4 ?_
    refine jr_istore_n (i := 2) hX rfl (by decide) rfl dJ2_grow_2_5 ?_
    refine jr_iload_n (i := 2) hX rfl rfl dJ2_grow_2_6 ?_
    refine jr_if_gt hX (tgt := 20) (by decide) dJ2_grow_2_7 (fun c_7 => absurd c_7 (by decide)) (fun c_7 => ?_)
    refine jr_aload_n (i := 0) hX rfl rfl dJ2_grow_2_10 ?_
    refine jr_get (ci := 0) (k := 1) hX (by first | assumption | exact jup_s) rfl in_J2 (by decide) q134 rfl dJ2_grow_2_11 ?_
    refine jr_gets hX hX.S.EE.1 q132 (fun _ h => h) dJ2_grow_2_14 ?_
    refine jr_acmp_eqR hX (tgt := 45) (by decide) dJ2_grow_2_17 (fun c_17 => ?_) (fun c_17 => absurd hea c_17)
    refine jr_aload_n (i := 0) hX rfl rfl dJ2_grow_2_45 ?_
    refine jr_bipush (v := 10) hX (by decide) dJ2_grow_2_46 ?_
    refine jr_iload_n (i := 1) hX rfl rfl dJ2_grow_2_48 ?_
    refine jr_callS (As := [.int 10, .int (nI mn)]) (bc1 := (1)) (bs1 := (jgw cap mn)) hX (met_max l D s0 b0 A G 10 (nI mn)) (va_cwS 2 hX.ts (lw_S q267 q205 q72 q206) rfl rfl rfl (by decide +kernel) ⟨Nat.le_of_ble_eq_true rfl, Nat.le_of_ble_eq_true rfl⟩) rfl (Nat.le_of_ble_eq_true rfl) (Nat.le_of_ble_eq_true rfl) (by show jgw cap mn + 0 ≤ jgw cap mn; omega) rfl dJ2_grow_2_49 (fun v_49 G_49 hp_49 => ?_)
    obtain ⟨rfl, e9⟩ := hp_49
    rw [e9]
    rw [show (if (10 : Int32) < nI mn then nI mn else 10) = nI (jgw cap mn) from by
      rw [hw2 hc0]
      by_cases c : 10 < mn
      · rw [if_pos (show (10 : Int32) < nI mn from nI_lt (a := 10) c (by omega)), show max 10 mn = mn by omega]
      · rw [if_neg (show ¬ (10 : Int32) < nI mn from nI_nlt (a := 10) (by omega) (by omega)), show max 10 mn = 10 by omega]; rfl]
    refine jr_newq (k := 101) (t := 1) (N := jgw cap mn) (bc1 := 0) (bs1 := 0) hX q268 q259 rfl (nI_pos (by omega)) (nI_clamp (by omega)) (by omega) (by omega) (by omega) dJ2_grow_2_52 (fun n_52 hn_52 hA_52 => ?_)
    refine jr_dup_x1 hX rfl rfl dJ2_grow_2_55 ?_
    refine jr_put (ci := 0) (k := 1) hX (jup_f hL1 hn_52) rfl in_J2 (by decide) tyJ2 tyJ2_ok nmJ2 q134 rfl rfl rfl (Nat.le_of_ble_eq_true rfl) dJ2_grow_2_56 ?_
    exact jr_aret hX hlk hr (Or.inr ⟨_, rfl⟩) (Or.inr ⟨_, rfl⟩) ⟨n_52, fun _ => none, rfl, hn_52, hA_52, fun i _ => by rw [hxs]; rfl, rfl⟩ dJ2_grow_2_59
  · obtain ⟨hc10, f, hf, hfx⟩ : 10 ≤ cap ∧ ∃ f : Nat → Option Nat, G ea = some (jq D 101 cap f) ∧ ∀ i, i < cap → f i = xs[i]? := by
      rcases hor with h | h
      · omega
      · exact h
    refine jr_alen (t := 1) (v := nI cap) hX hf rfl rfl dJ2_grow_2_4 ?_
    refine jr_istore_n (i := 2) hX rfl (by decide) rfl dJ2_grow_2_5 ?_
    refine jr_iload_n (i := 2) hX rfl rfl dJ2_grow_2_6 ?_
    refine jr_if_gt hX (tgt := 20) (by decide) dJ2_grow_2_7 (fun c_7 => ?_) (fun c_7 => absurd (nI_lt (a := 0) (by omega) (by omega)) c_7)
    refine jr_iload_n (i := 2) hX rfl rfl dJ2_grow_2_20 ?_
    refine jr_iload_n (i := 1) hX rfl rfl dJ2_grow_2_21 ?_
    refine jr_iload_n (i := 2) hX rfl rfl dJ2_grow_2_22 ?_
    refine jr_isub hX dJ2_grow_2_23 ?_
    rw [pk_sub (by omega)]
    refine jr_iload_n (i := 2) hX rfl rfl dJ2_grow_2_24 ?_
    refine jr_iconst (v := 1) hX rfl dJ2_grow_2_25 ?_
    refine jr_ishr hX dJ2_grow_2_26 ?_
    rw [show nI cap >>> ((1 : Int32) &&& 31) = nI (cap / 2) from by
      have k := pk_shrN (n := cap) (by omega) ((1 : Int32) &&& 31) 1 (by decide)
      rw [Nat.pow_one] at k
      exact k]
    refine jr_callS (As := [.int (nI cap), .int (nI (mn - cap)), .int (nI (cap / 2))]) (bc1 := (1)) (bs1 := (jgw cap mn)) hX (met_newlen l D s0 b0 A G cap (mn - cap) (cap / 2) (by omega) (by omega) (by omega) (by omega)) (va_cwS 3 hX.ts (lw_S q201 q202 q71 q203) rfl rfl rfl (by decide +kernel) ⟨Nat.le_of_ble_eq_true rfl, Nat.le_of_ble_eq_true rfl⟩) rfl (Nat.le_of_ble_eq_true rfl) (Nat.le_of_ble_eq_true rfl) (by show jgw cap mn + 0 ≤ jgw cap mn; omega) rfl dJ2_grow_2_27 (fun v_27 G_27 hp_27 => ?_)
    obtain ⟨rfl, e9⟩ := hp_27
    rw [e9]
    rw [← hw3 hc0]
    refine jr_istore_n (i := 3) hX rfl (by decide) rfl dJ2_grow_2_30 ?_
    refine jr_aload_n (i := 0) hX rfl rfl dJ2_grow_2_31 ?_
    refine jr_aload_n (i := 0) hX rfl rfl dJ2_grow_2_32 ?_
    refine jr_get (ci := 0) (k := 1) hX (by first | assumption | exact jup_s) rfl in_J2 (by decide) q134 rfl dJ2_grow_2_33 ?_
    refine jr_iload_n (i := 3) hX rfl rfl dJ2_grow_2_36 ?_
    refine jr_callS (As := [.ref ea, .int (nI (jgw cap mn))]) (bc1 := (0)) (bs1 := (0)) hX (met_copyOf l D s0 b0 A G ea cap (jgw cap mn) f hf hcap hw (fun i y _ hi hy => hel y (List.mem_of_getElem? ((hfx i hi).symm.trans hy)))) (va_cwS 2 hX.ts (lw_S q211 q212 q73 q213) rfl rfl rfl (by decide +kernel) ⟨Nat.le_of_ble_eq_true rfl, Nat.le_of_ble_eq_true rfl⟩) rfl (Nat.le_of_ble_eq_true rfl) (Nat.le_of_ble_eq_true rfl) (by show 0 + jgw cap mn ≤ jgw cap mn; omega) rfl dJ2_grow_2_37 (fun v_37 G_37 hp_37 => ?_)
    obtain ⟨q, rfl, hq1, hq2, e9⟩ := hp_37
    rw [e9]
    refine jr_dup_x1 hX rfl rfl dJ2_grow_2_40 ?_
    refine jr_put (ci := 0) (k := 1) hX (jup_f hL1 hq1) rfl in_J2 (by decide) tyJ2 tyJ2_ok nmJ2 q134 rfl rfl rfl (Nat.le_of_ble_eq_true rfl) dJ2_grow_2_41 ?_
    exact jr_aret hX hlk hr (Or.inr ⟨_, rfl⟩) (Or.inr ⟨_, rfl⟩) ⟨q, _, rfl, hq1, hq2, fun i hi => by
      by_cases h9 : i < cap
      · rw [pk_cpy_in (by omega) (by rw [hw3 hc0]; omega), Nat.zero_add, Nat.sub_zero]
        exact hfx i h9
      · rw [pk_cpy_out (by right; omega), List.getElem?_eq_none (by omega)], rfl⟩ dJ2_grow_2_44

set_option maxHeartbeats 4000000 in
set_option maxRecDepth 100000 in
theorem met_grow (l : Launch) (D : va_G) (s0 : State) (b0 : Nat) (A : Nat → Prop) (G : jG) (a : Nat) (xs : List Nat) (mo : Int32) (cap ea : Nat) (hL : jLS D s0 b0 G a xs mo cap ea) (hfull : xs.length = cap) (hc2 : cap < 19999) (hel : ∀ y ∈ xs, jOb s0 b0 D G y) : jM l yJ2_grow (ws_ yJ2_grow cJ2_grow 1 (some (.array (.object "java/lang/Object")))) (jR 4 1 (jgw cap (cap + 1))) D s0 b0 A G [.ref a] (fun v G1 => ∃ (q : Nat) (f2 : Nat → Option Nat), v = some (.ref q) ∧ G q = none ∧ A q ∧ (∀ i, i < jgw cap (cap + 1) → f2 i = xs[i]?) ∧ G1 = jup (jup G q (jq D 101 (jgw cap (cap + 1)) f2)) a (jo 0 [.int mo, .ref q, .int (nI xs.length)])) := by
  have hL0 := hL
  obtain ⟨hL1, hle, hcap, hor⟩ := hL
  refine jM.of (by decide +kernel) (own := RJ2) rfl (Nat.le_of_ble_eq_true rfl) ?_
  intro p e s m args below meth c hX hr hlk hnm
  refine jr_aload_n (i := 0) hX rfl rfl dJ2_grow_0 ?_
  refine jr_aload_n (i := 0) hX rfl rfl dJ2_grow_1 ?_
  refine jr_get (ci := 0) (k := 2) hX (by first | assumption | exact jup_s) rfl in_J2 (by decide) q137 rfl dJ2_grow_2 ?_
  refine jr_iconst (v := 1) hX rfl dJ2_grow_5 ?_
  refine jr_iadd hX dJ2_grow_6 ?_
  rw [nI_1, hfull]
  refine jr_callV (As := [.int (nI (cap + 1))]) (bc1 := (0)) (bs1 := (0)) hX (met_grow2 l D s0 b0 A G a xs mo cap ea hL0 (cap + 1) (by omega) (by omega) hel) (cwV 1 hX.ts (lw_V q197 q199 qs2 q68 q200) rfl rfl rfl (by decide +kernel) ⟨Nat.le_of_ble_eq_true rfl, Nat.le_of_ble_eq_true rfl⟩) (by first | assumption | exact jup_s) rfl rfl (Nat.le_of_ble_eq_true rfl) (Nat.le_of_ble_eq_true rfl) (by show 0 + jgw cap (cap + 1) ≤ jgw cap (cap + 1); omega) rfl dJ2_grow_7 (fun v_7 G_7 hp_7 => ?_)
  obtain ⟨q, f2, rfl, hq1, hq2, hq3, e9⟩ := hp_7
  rw [e9]
  exact jr_aret hX hlk hr (Or.inr ⟨_, rfl⟩) (Or.inr ⟨_, rfl⟩) ⟨q, f2, rfl, hq1, hq2, hq3, by rw [hfull]⟩ dJ2_grow_10
