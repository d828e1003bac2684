/-! ArrayList: indexOf, remove(Object), add(int, E), addAll -/
set_option maxHeartbeats 4000000 in
set_option maxRecDepth 100000 in
theorem met_objeq (l : Launch) (D : va_G) (s0 : State) (b0 : Nat) (A : Nat → Prop) (G : jG) (x y : Nat) : jM l yJ26_equals (ws_ yJ26_equals cJ26_equals 2 (some .boolean)) (jR 0 0 0) D s0 b0 A G [.ref x, .ref y] (fun v G1 => v = some (.int (jbz (decide (x = y)))) ∧ G1 = G) := by
  refine jM.ofF (by decide +kernel) (own := RJ26) rfl (Nat.le_of_ble_eq_true rfl) ?_
  intro p e s m args below meth c hX hr hlk hnm
  refine jr_aload_n (i := 0) hX rfl rfl dJ26_equals_0 ?_
  refine jr_aload_n (i := 1) hX rfl rfl dJ26_equals_1 ?_
  refine jr_acmp_neR hX (tgt := 9) (by decide) dJ26_equals_2 (fun c_2 => ?_) (fun c_2 => ?_)
  · refine jr_iconst (v := 0) hX rfl dJ26_equals_9 ?_
    exact jr_zret hX hlk hr (by decide) ⟨by rw [decide_eq_false c_2]; rfl, rfl⟩ dJ26_equals_10
  · refine jr_iconst (v := 1) hX rfl dJ26_equals_5 ?_
    refine jr_goto hX (tgt := 10) (by decide) dJ26_equals_6 ?_
    exact jr_zret hX hlk hr (by decide) ⟨by rw [decide_eq_true c_2]; rfl, rfl⟩ dJ26_equals_10

set_option maxHeartbeats 4000000 in
set_option maxRecDepth 100000 in
theorem met_indexOfR (l : Launch) (D : va_G) (s0 : State) (b0 : Nat) (A : Nat → Prop) (G : jG) (a : Nat) (xs : List Nat) (mo : Int32) (cap ea : Nat) (hL : jLS D s0 b0 G a xs mo cap ea)(o ci : Nat) (fs : List Value) (C : String) (T : u_T) (N : Nat) (ho : G o = some (jo ci fs)) (hco : jcl[ci]? = some (C, T, N)) (hsel : Cond.selects C ⟨"java/lang/Object", "equals", "(Ljava/lang/Object;)Z"⟩ ⟨"java/lang/Object", "equals", "(Ljava/lang/Object;)Z"⟩ ∈ lw_all) (k : Nat) (hk : xs[k]? = some o) (hmin : ∀ j, j < k → xs[j]? ≠ some o) : jM l yJ2_indexOfRange (ws_ yJ2_indexOfRange cJ2_indexOfRange 6 (some .int)) (jR 2 0 0) D s0 b0 A G [.ref a, .ref o, .int 0, .int (nI xs.length)] (fun v G1 => v = some (.int (nI k)) ∧ G1 = G) := by
  have hL0 := hL
  obtain ⟨_, hc10, f, hf, _⟩ := hL.arr hk
  obtain ⟨hL1, hle, hcap, hor⟩ := hL
  have hfx : ∀ i, i < cap → f i = xs[i]? := by
    rcases hor with h | ⟨h, f9, h1, h2⟩
    · omega
    · have e : f9 = f := by
        have := h1.symm.trans hf
        simpa using this
      rw [← e]; exact h2
  refine jM.of (by decide +kernel) (own := RJ2) rfl (Nat.le_of_ble_eq_true rfl) ?_
  intro p e s m args below meth c hX hr hlk hnm
  refine jr_aload_n (i := 0) hX rfl rfl dJ2_indexOfRange_0 ?_
  refine jr_get (ci := 0) (k := 1) hX (by first | assumption | exact jup_s) rfl in_J2 (by decide) q134 rfl dJ2_indexOfRange_1 ?_
  refine jr_astore hX (by decide) rfl dJ2_indexOfRange_4 ?_
  refine jr_aload_n (i := 1) hX rfl rfl dJ2_indexOfRange_6 ?_
  refine jr_ifnonnull hX (tgt := 39) (by decide) dJ2_indexOfRange_7 ?_
  refine jr_iload_n (i := 2) hX rfl rfl dJ2_indexOfRange_39 ?_
  refine jr_istore hX (by decide) rfl dJ2_indexOfRange_40 ?_
  have hkl : k < xs.length := (List.getElem?_eq_some_iff.mp hk).1
  have loop : ∀ (n i : Nat), k - i = n → i ≤ k → Jg p l e (jR 2 0 0) s m args below meth c (MQ below (jQ D A (fun v G1 => v = some (.int (nI k)) ∧ G1 = G)) args s 0 0 A) D A 6 G 0 0 42 [(5, .int (nI i)), (4, .ref ea), (0, .ref a), (1, .ref o), (2, .int 0), (3, .int (nI xs.length))] [] := by
    intro n
    induction n using Nat.strongRecOn with
    | ind n ih0 =>
    intro i hn hik
    have ih : ∀ i1 : Nat, i < i1 → i1 ≤ k → Jg p l e (jR 2 0 0) s m args below meth c (MQ below (jQ D A (fun v G1 => v = some (.int (nI k)) ∧ G1 = G)) args s 0 0 A) D A 6 G 0 0 42 [(5, .int (nI i1)), (4, .ref ea), (0, .ref a), (1, .ref o), (2, .int 0), (3, .int (nI xs.length))] [] := fun i1 h1 h2 => ih0 (k - i1) (by omega) i1 rfl h2
    obtain ⟨y, hy⟩ : ∃ y, xs[i]? = some y := ⟨_, List.getElem?_eq_getElem (by omega)⟩
    refine jr_iload hX rfl dJ2_indexOfRange_42 ?_
    refine jr_iload_n (i := 3) hX rfl rfl dJ2_indexOfRange_44 ?_
    refine jr_icmp_ge hX (tgt := 69) (by decide) dJ2_indexOfRange_45 (fun c_45 => absurd ((nI_leI (by omega) (by omega)).mp c_45) (by omega)) (fun c_45 => ?_)
    refine jr_aload_n (i := 1) hX rfl rfl dJ2_indexOfRange_48 ?_
    refine jr_aload hX rfl dJ2_indexOfRange_49 ?_
    refine jr_iload hX rfl dJ2_indexOfRange_51 ?_
    refine jr_aald (t := 1) (v := .ref y) hX hf rfl rfl (vp_in_nI (by omega) (by omega)) (by rw [nI_clamp (by omega), hfx i (by omega), hy]; rfl) dJ2_indexOfRange_53 ?_
    refine jr_callU (As := [.ref y]) (bc1 := 0) (bs1 := 0) (owner := "java/lang/Object") hX (met_objeq l D s0 b0 A G o y) (va_cwU 1 hX.ts (lw_U q1548 q779 hsel q778 q2211 q840) rfl rfl rfl rfl (by decide +kernel) ⟨Nat.le_of_ble_eq_true rfl, Nat.le_of_ble_eq_true rfl⟩) ho hco rfl (Nat.le_of_ble_eq_true rfl) (Nat.le_of_ble_eq_true rfl) (Nat.le_of_ble_eq_true rfl) rfl dJ2_indexOfRange_54 (fun v_54 G_54 hp_54 => ?_)
    obtain ⟨rfl, e9⟩ := hp_54
    rw [e9]
    refine jr_if_eq hX (tgt := 63) (by decide) dJ2_indexOfRange_57 (fun c_57 => ?_) (fun c_57 => ?_)
    · refine jr_iinc (w := 1) hX rfl rfl (by decide) rfl dJ2_indexOfRange_63 ?_
      refine jr_goto hX (tgt := 42) (by decide) dJ2_indexOfRange_66 ?_
      rw [show nI i + 1 = nI (i + 1) from nI_1 i]
      have hne : ¬ o = y := by simpa using jbz_0 c_57
      refine jr_lvm [(5, .int (nI (i + 1))), (4, .ref ea), (0, .ref a), (1, .ref o), (2, .int 0), (3, .int (nI xs.length))] rfl ?_
      exact ih (i + 1) (by omega) (Nat.lt_of_le_of_ne hik (fun q => hne (by subst q; exact Option.some.inj (hk.symm.trans hy))))
    · refine jr_iload hX rfl dJ2_indexOfRange_60 ?_
      have hyo : o = y := by simpa using jbz_1 c_57
      have hik : i = k := by
        rcases Nat.lt_or_ge i k with q | q
        · exact absurd (hy.trans (by rw [hyo])) (hmin i q)
        · omega
      exact jr_iret hX hlk hr ⟨by rw [hik], rfl⟩ dJ2_indexOfRange_62
  refine jr_lvm [(5, .int (nI 0)), (4, .ref ea), (0, .ref a), (1, .ref o), (2, .int 0), (3, .int (nI xs.length))] rfl ?_
  exact loop k 0 rfl (Nat.zero_le _)

set_option maxHeartbeats 4000000 in
set_option maxRecDepth 100000 in
theorem met_indexOf (l : Launch) (D : va_G) (s0 : State) (b0 : Nat) (A : Nat → Prop) (G : jG) (a : Nat) (xs : List Nat) (mo : Int32) (cap ea : Nat) (hL : jLS D s0 b0 G a xs mo cap ea)(o ci : Nat) (fs : List Value) (C : String) (T : u_T) (N : Nat) (ho : G o = some (jo ci fs)) (hco : jcl[ci]? = some (C, T, N)) (hsel : Cond.selects C ⟨"java/lang/Object", "equals", "(Ljava/lang/Object;)Z"⟩ ⟨"java/lang/Object", "equals", "(Ljava/lang/Object;)Z"⟩ ∈ lw_all) (k : Nat) (hk : xs[k]? = some o) (hmin : ∀ j, j < k → xs[j]? ≠ some o) : jM l yJ2_indexOf (ws_ yJ2_indexOf cJ2_indexOf 2 (some .int)) (jR 3 0 0) D s0 b0 A G [.ref a, .ref o] (fun v G1 => v = some (.int (nI k)) ∧ G1 = G) := by
  have hL0 := hL
  obtain ⟨hL1, hle, hcap, hor⟩ := hL
  refine jM.of (by decide +kernel) (own := RJ2) rfl (Nat.le_of_ble_eq_true rfl) ?_
  intro p e s m args below meth c hX hr hlk hnm
  refine jr_aload_n (i := 0) hX rfl rfl dJ2_indexOf_0 ?_
  refine jr_aload_n (i := 1) hX rfl rfl dJ2_indexOf_1 ?_
  refine jr_iconst (v := 0) hX rfl dJ2_indexOf_2 ?_
  refine jr_aload_n (i := 0) hX rfl rfl dJ2_indexOf_3 ?_
  refine jr_get (ci := 0) (k := 2) hX (by first | assumption | exact jup_s) rfl in_J2 (by decide) q137 rfl dJ2_indexOf_4 ?_
  refine jr_callV (As := [.ref o, .int 0, .int (nI xs.length)]) (bc1 := (0)) (bs1 := (0)) hX (met_indexOfR l D s0 b0 A G a xs mo cap ea hL0 o ci fs C T N ho hco hsel k hk hmin) (cwV 3 hX.ts (lw_V q1544 q1545 q1546 q68 q1547) rfl rfl rfl (by decide +kernel) ⟨Nat.le_of_ble_eq_true rfl, Nat.le_of_ble_eq_true rfl⟩) (by first | assumption | exact jup_s) rfl rfl (Nat.le_of_ble_eq_true rfl) (by first | omega | (dsimp only; omega) | (show _ ≤ _; simp only []; omega)) (by first | omega | (dsimp only; omega) | (show _ ≤ _; simp only []; omega)) rfl dJ2_indexOf_7 (fun v_7 G_7 hp_7 => ?_)
  obtain ⟨rfl, e9⟩ := hp_7
  rw [e9]
  exact jr_iret hX hlk hr ⟨rfl, rfl⟩ dJ2_indexOf_10

set_option maxHeartbeats 4000000 in
set_option maxRecDepth 100000 in
theorem met_removeO (l : Launch) (D : va_G) (s0 : State) (b0 : Nat) (A : Nat → Prop) (G : jG) (a : Nat) (xs : List Nat) (mo : Int32) (cap ea : Nat) (hL : jLS D s0 b0 G a xs mo cap ea) (hel : ∀ y ∈ xs, jOb s0 b0 D G y)(o ci : Nat) (fs : List Value) (C : String) (T : u_T) (N : Nat) (ho : G o = some (jo ci fs)) (hco : jcl[ci]? = some (C, T, N)) (hsel : Cond.selects C ⟨"java/lang/Object", "equals", "(Ljava/lang/Object;)Z"⟩ ⟨"java/lang/Object", "equals", "(Ljava/lang/Object;)Z"⟩ ∈ lw_all) (k : Nat) (hk : xs[k]? = some o) (hmin : ∀ j, j < k → xs[j]? ≠ some o) : jM l yJ2_remove_2 (ws_ yJ2_remove_2 cJ2_remove_2 5 (some .boolean)) (jR 3 0 0) D s0 b0 A G [.ref a, .ref o] (fun v G1 => v = some (.int 1) ∧ jLU D s0 b0 A G G1 a ea (xs.eraseIdx k) (mo + 1) cap) := by
  have hL0 := hL
  obtain ⟨_, hc10, f, hf, _⟩ := hL.arr hk
  obtain ⟨hL1, hle, hcap, hor⟩ := hL
  have hfx : ∀ i, i < cap → f i = xs[i]? := by
    rcases hor with h | ⟨h, f9, h1, h2⟩
    · omega
    · have e : f9 = f := by
        have := h1.symm.trans hf
        simpa using this
      rw [← e]; exact h2
  refine jM.of (by decide +kernel) (own := RJ2) rfl (Nat.le_of_ble_eq_true rfl) ?_
  intro p e s m args below meth c hX hr hlk hnm
  refine jr_aload_n (i := 0) hX rfl rfl dJ2_remove_2_0 ?_
  refine jr_get (ci := 0) (k := 1) hX (by first | assumption | exact jup_s) rfl in_J2 (by decide) q134 rfl dJ2_remove_2_1 ?_
  refine jr_astore_n (i := 2) hX rfl (by decide) rfl dJ2_remove_2_4 ?_
  refine jr_aload_n (i := 0) hX rfl rfl dJ2_remove_2_5 ?_
  refine jr_get (ci := 0) (k := 2) hX (by first | assumption | exact jup_s) rfl in_J2 (by decide) q137 rfl dJ2_remove_2_6 ?_
  refine jr_istore_n (i := 3) hX rfl (by decide) rfl dJ2_remove_2_9 ?_
  refine jr_iconst (v := 0) hX rfl dJ2_remove_2_10 ?_
  refine jr_istore hX (by decide) rfl dJ2_remove_2_11 ?_
  refine jr_aload_n (i := 1) hX rfl rfl dJ2_remove_2_13 ?_
  refine jr_ifnonnull hX (tgt := 39) (by decide) dJ2_remove_2_14 ?_
  have hkl : k < xs.length := (List.getElem?_eq_some_iff.mp hk).1
  have loop : ∀ (n i : Nat), k - i = n → i ≤ k → Jg p l e (jR 3 0 0) s m args below meth c (MQ below (jQ D A (fun v G1 => v = some (.int 1) ∧ jLU D s0 b0 A G G1 a ea (xs.eraseIdx k) (mo + 1) cap)) args s 0 0 A) D A 5 G 0 0 39 [(4, .int (nI i)), (3, .int (nI xs.length)), (2, .ref ea), (0, .ref a), (1, .ref o)] [] := by
    intro n
    induction n using Nat.strongRecOn with
    | ind n ih0 =>
    intro i hn hik
    have ih : ∀ i1 : Nat, i < i1 → i1 ≤ k → Jg p l e (jR 3 0 0) s m args below meth c (MQ below (jQ D A (fun v G1 => v = some (.int 1) ∧ jLU D s0 b0 A G G1 a ea (xs.eraseIdx k) (mo + 1) cap)) args s 0 0 A) D A 5 G 0 0 39 [(4, .int (nI i1)), (3, .int (nI xs.length)), (2, .ref ea), (0, .ref a), (1, .ref o)] [] := fun i1 h1 h2 => ih0 (k - i1) (by omega) i1 rfl h2
    obtain ⟨y, hy⟩ : ∃ y, xs[i]? = some y := ⟨_, List.getElem?_eq_getElem (by omega)⟩
    refine jr_iload hX rfl dJ2_remove_2_39 ?_
    refine jr_iload_n (i := 3) hX rfl rfl dJ2_remove_2_41 ?_
    refine jr_icmp_ge hX (tgt := 65) (by decide) dJ2_remove_2_42 (fun c_42 => absurd ((nI_leI (by omega) (by omega)).mp c_42) (by omega)) (fun c_42 => ?_)
    refine jr_aload_n (i := 1) hX rfl rfl dJ2_remove_2_45 ?_
    refine jr_aload_n (i := 2) hX rfl rfl dJ2_remove_2_46 ?_
    refine jr_iload hX rfl dJ2_remove_2_47 ?_
    refine jr_aald (t := 1) (v := .ref y) hX hf rfl rfl (vp_in_nI (by omega) (by omega)) (by rw [nI_clamp (by omega), hfx i (by omega), hy]; rfl) dJ2_remove_2_49 ?_
    refine jr_callU (As := [.ref y]) (bc1 := 0) (bs1 := 0) (owner := "java/lang/Object") hX (met_objeq l D s0 b0 A G o y) (va_cwU 1 hX.ts (lw_U q1548 q779 hsel q778 q2211 q840) rfl rfl rfl rfl (by decide +kernel) ⟨Nat.le_of_ble_eq_true rfl, Nat.le_of_ble_eq_true rfl⟩) ho hco rfl (Nat.le_of_ble_eq_true rfl) (Nat.le_of_ble_eq_true rfl) (Nat.le_of_ble_eq_true rfl) rfl dJ2_remove_2_50 (fun v_50 G_50 hp_50 => ?_)
    obtain ⟨rfl, e9⟩ := hp_50
    rw [e9]
    refine jr_if_eq hX (tgt := 59) (by decide) dJ2_remove_2_53 (fun c_53 => ?_) (fun c_53 => ?_)
    · refine jr_iinc (w := 1) hX rfl rfl (by decide) rfl dJ2_remove_2_59 ?_
      refine jr_goto hX (tgt := 39) (by decide) dJ2_remove_2_62 ?_
      rw [show nI i + 1 = nI (i + 1) from nI_1 i]
      have hne : ¬ o = y := by simpa using jbz_0 c_53
      refine jr_lvm [(4, .int (nI (i + 1))), (3, .int (nI xs.length)), (2, .ref ea), (0, .ref a), (1, .ref o)] rfl ?_
      exact ih (i + 1) (by omega) (Nat.lt_of_le_of_ne hik (fun q => hne (by subst q; exact Option.some.inj (hk.symm.trans hy))))
    · have hyo : o = y := by simpa using jbz_1 c_53
      have hik : i = k := by
        rcases Nat.lt_or_ge i k with q | q
        · exact absurd (hy.trans (by rw [hyo])) (hmin i q)
        · omega
      subst hik
      refine jr_goto hX (tgt := 67) (by decide) dJ2_remove_2_56 ?_
      refine jr_aload_n (i := 0) hX rfl rfl dJ2_remove_2_67 ?_
      refine jr_aload_n (i := 2) hX rfl rfl dJ2_remove_2_68 ?_
      refine jr_iload hX rfl dJ2_remove_2_69 ?_
      refine jr_callV (As := [.ref ea, .int (nI i)]) (bc1 := (0)) (bs1 := (0)) hX (met_fastRemove l D s0 b0 A G a xs mo cap ea hL0 hel i hkl) (cwV 2 hX.ts (lw_V q1069 q1071 qs18 q68 q1072) rfl rfl rfl (by decide +kernel) ⟨Nat.le_of_ble_eq_true rfl, Nat.le_of_ble_eq_true rfl⟩) (by first | assumption | exact jup_s) rfl rfl (Nat.le_of_ble_eq_true rfl) (by first | omega | (dsimp only; omega) | (show _ ≤ _; simp only []; omega)) (by first | omega | (dsimp only; omega) | (show _ ≤ _; simp only []; omega)) rfl dJ2_remove_2_71 (fun v_71 G_71 hp_71 => ?_)
      obtain ⟨rfl, hU⟩ := hp_71
      refine jr_iconst (v := 1) hX rfl dJ2_remove_2_74 ?_
      exact jr_zret hX hlk hr (by decide) ⟨rfl, hU⟩ dJ2_remove_2_75
  refine jr_lvm [(4, .int (nI 0)), (3, .int (nI xs.length)), (2, .ref ea), (0, .ref a), (1, .ref o)] rfl ?_
  exact loop k 0 rfl (Nat.zero_le _)
