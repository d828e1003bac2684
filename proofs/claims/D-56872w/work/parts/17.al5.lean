/-! ArrayList: clear, indexOf, remove(Object) -/
set_option maxHeartbeats 4000000 in
set_option maxRecDepth 100000 in
theorem met_clear (l : Launch) (D : va_G) (s0 : State) (b0 : Nat) (A : Nat → Prop) (G : jG) (a : Nat) (xs : List Nat) (mo : Int32) (cap ea : Nat) (hL : jLS D s0 b0 G a xs mo cap ea) : jM l yJ2_clear (ws_ yJ2_clear cJ2_clear 4 none) (jR 0 0 0) D s0 b0 A G [.ref a] (fun v G1 => v = none ∧ jLU D s0 b0 A G G1 a ea [] (mo + 1) cap) := by
  obtain ⟨hL1, hle, hcap, hor⟩ := hL
  refine jM.of (by decide +kernel) (own := RJ2) rfl (Nat.le_of_ble_eq_true rfl) ?_
  intro p e s m args below meth c hX hr hlk hnm
  refine jr_aload_n (i := 0) hX rfl rfl dJ2_clear_0 ?_
  refine jr_dup hX rfl dJ2_clear_1 ?_
  refine jr_getS (ci := 0) (k := 0) hX (by first | assumption | exact jup_s) rfl in_J2 (by decide) q141 (u_same (hX.ts _ q140)) rfl dJ2_clear_2 ?_
  refine jr_iconst (v := 1) hX rfl dJ2_clear_5 ?_
  refine jr_iadd hX dJ2_clear_6 ?_
  refine jr_putS (ci := 0) (k := 0) hX (by first | assumption | exact jup_s) rfl in_J2 (by decide) tyJ2 tyJ2_ok nmJ2 q141 (u_same (hX.ts _ q140)) rfl (by first | rfl | assumption) (by first | rfl | assumption) (Nat.le_of_ble_eq_true rfl) dJ2_clear_7 ?_
  refine jr_aload_n (i := 0) hX rfl rfl dJ2_clear_10 ?_
  refine jr_get (ci := 0) (k := 1) hX (by first | assumption | exact jup_s) rfl in_J2 (by decide) q134 rfl dJ2_clear_11 ?_
  refine jr_astore_n (i := 1) hX rfl (by decide) rfl dJ2_clear_14 ?_
  refine jr_aload_n (i := 0) hX rfl rfl dJ2_clear_15 ?_
  refine jr_get (ci := 0) (k := 2) hX (by first | assumption | exact jup_s) rfl in_J2 (by decide) q137 rfl dJ2_clear_16 ?_
  refine jr_istore_n (i := 2) hX rfl (by decide) rfl dJ2_clear_19 ?_
  refine jr_aload_n (i := 0) hX rfl rfl dJ2_clear_20 ?_
  refine jr_iconst (v := 0) hX rfl dJ2_clear_21 ?_
  refine jr_dup_x1 hX rfl rfl dJ2_clear_22 ?_
  refine jr_put (ci := 0) (k := 2) hX (by first | assumption | exact jup_s) rfl in_J2 (by decide) tyJ2 tyJ2_ok nmJ2 q137 rfl (by first | rfl | assumption) (by first | rfl | assumption) (Nat.le_of_ble_eq_true rfl) dJ2_clear_23 ?_
  refine jr_istore_n (i := 3) hX rfl (by decide) rfl dJ2_clear_26 ?_
  have loop : ∀ (n k : Nat) (Gk : jG), k ≤ xs.length → xs.length - k = n → Gk a = some (jo 0 [.int (mo + 1), .ref ea, .int (nI 0)]) → (xs.length = 0 → 10 ≤ cap → Gk ea = G ea) → (0 < xs.length → 10 ≤ cap ∧ ∃ f : Nat → Option Nat, Gk ea = some (jq D 101 cap f) ∧ (∀ i, i < k → f i = none) ∧ ∀ i, k ≤ i → i < cap → f i = xs[i]?) → (∀ b, b ≠ a → b ≠ ea → Gk b = G b) → Jg p l e (jR 0 0 0) s m args below meth c (MQ below (jQ D A (fun v G1 => v = none ∧ jLU D s0 b0 A G G1 a ea [] (mo + 1) cap)) args s 0 0 A) D A 4 Gk 0 0 27 [(3, .int (nI k)), (2, .int (nI xs.length)), (1, .ref ea), (0, .ref a)] [] := by
    intro n
    induction n using Nat.strongRecOn with
    | ind n ih0 =>
    intro k Gk hk hn hKa hK0 hK hKo
    have ih : ∀ (k1 : Nat) (Gk1 : jG), k < k1 → k1 ≤ xs.length → Gk1 a = some (jo 0 [.int (mo + 1), .ref ea, .int (nI 0)]) → (xs.length = 0 → 10 ≤ cap → Gk1 ea = G ea) → (0 < xs.length → 10 ≤ cap ∧ ∃ f : Nat → Option Nat, Gk1 ea = some (jq D 101 cap f) ∧ (∀ i, i < k1 → f i = none) ∧ ∀ i, k1 ≤ i → i < cap → f i = xs[i]?) → (∀ b, b ≠ a → b ≠ ea → Gk1 b = G b) → Jg p l e (jR 0 0 0) s m args below meth c (MQ below (jQ D A (fun v G1 => v = none ∧ jLU D s0 b0 A G G1 a ea [] (mo + 1) cap)) args s 0 0 A) D A 4 Gk1 0 0 27 [(3, .int (nI k1)), (2, .int (nI xs.length)), (1, .ref ea), (0, .ref a)] [] := fun k1 Gk1 h1 h2 h3 h4 h5 h6 => ih0 (xs.length - k1) (by omega) k1 Gk1 h2 rfl h3 h4 h5 h6
    refine jr_iload_n (i := 3) hX rfl rfl dJ2_clear_27 ?_
    refine jr_iload_n (i := 2) hX rfl rfl dJ2_clear_28 ?_
    refine jr_icmp_ge hX (tgt := 42) (by decide) dJ2_clear_29 (fun c_29 => ?_) (fun c_29 => ?_)
    · have hk2 : k = xs.length := Nat.le_antisymm hk ((nI_leI (by omega) (by omega)).mp c_29)
      refine jr_vret hX hlk hr ⟨rfl, ea, ⟨hKa, Nat.zero_le _, hcap, ?_⟩, fun b q1 q2 _ => hKo b q1 q2, Or.inl rfl⟩ dJ2_clear_42
      rcases hor with h | ⟨h, f0, h1, h2⟩
      · exact Or.inl h
      · by_cases hx : 0 < xs.length
        · obtain ⟨hc10, f, hf, hf1, hf2⟩ := hK hx
          refine Or.inr ⟨hc10, f, hf, fun i hi => ?_⟩
          rw [List.getElem?_nil]
          by_cases hi2 : i < k
          · exact hf1 i hi2
          · rw [hf2 i (by omega) hi, List.getElem?_eq_none (by omega)]
        · refine Or.inr ⟨h, f0, by rw [hK0 (by omega) h]; exact h1, fun i hi => ?_⟩
          rw [h2 i hi, List.getElem?_nil, List.getElem?_eq_none (by omega)]
    · refine jr_aload_n (i := 1) hX rfl rfl dJ2_clear_32 ?_
      refine jr_iload_n (i := 3) hX rfl rfl dJ2_clear_33 ?_
      refine jr_null hX dJ2_clear_34 ?_
      have hk2 : k < xs.length := Nat.not_le.mp (fun q => c_29 (nI_le q (by omega)))
      obtain ⟨hc10, f, hf, hf1, hf2⟩ := hK (by omega)
      refine jr_aastN (t := 1) hX hf rfl (vp_in_nI (by omega) (by omega)) dJ2_clear_35 ?_
      rw [nI_clamp (by omega)]
      refine jr_iinc (w := 1) hX rfl rfl (by decide) rfl dJ2_clear_36 ?_
      refine jr_goto hX (tgt := 27) (by decide) dJ2_clear_39 ?_
      rw [show nI k + 1 = nI (k + 1) from nI_1 k]
      refine jr_lvm [(3, .int (nI (k + 1))), (2, .int (nI xs.length)), (1, .ref ea), (0, .ref a)] rfl ?_
      have hea : ea ≠ a := fun z => by rw [z, hKa] at hf; simp at hf
      refine ih (k + 1) _ (by omega) (by omega) ?_ (fun h => absurd h (by omega)) ?_ ?_
      · rw [jup_n hea.symm]; exact hKa
      · intro _
        refine ⟨hc10, _, jup_s, fun i hi => ?_, fun i hi hi2 => ?_⟩
        · by_cases e : i = k
          · subst e; rw [va_up_self]
          · rw [va_up_ne _ _ e]; exact hf1 i (by omega)
        · rw [va_up_ne _ _ (by omega)]; exact hf2 i (by omega) hi2
      · intro b q1 q2; rw [jup_n q2]; exact hKo b q1 q2
  refine jr_lvm [(3, .int (nI 0)), (2, .int (nI xs.length)), (1, .ref ea), (0, .ref a)] rfl ?_
  rw [jup_jup]
  refine loop xs.length 0 _ (Nat.zero_le _) rfl jup_s (fun h h10 => ?_) (fun h => ?_) (fun b q1 _ => by rw [jup_n q1])
  · rcases hor with h9 | ⟨h9, f9, h91, -⟩
    · omega
    · rw [jup_o h91 hL1 (by simp), h91]
  · rcases hor with h9 | ⟨h9, f9, h91, h92⟩
    · omega
    · exact ⟨h9, f9, jup_o h91 hL1 (by simp), fun i hi => absurd hi (Nat.not_lt_zero i), fun i _ hi => h92 i hi⟩
