/-! the model: thrown, getters -/
theorem shM_th {D : va_G} {s0 : State} {b0 th th2 : Nat} {S : sSt} {ad : jN} {k i j : Nat} (h : k ≠ 31) : shM D s0 b0 th2 S ad k i j = shM D s0 b0 th S ad k i j := by
  rcases k with _ | _ | _ | _ | _ | _ | _ | _ | _ | _ | _ | _ | _ | _ | _ | _ | _ | _ | _ | _ | _ | _ | _ | _ | _ | _ | _ | _ | _ | _ | _ | _ | _ | _ | _ | _ | _ | _ | _ | _ | _ | _ | _ | _ | _ | _ | _ | _ | _ | _ | _ | k
  all_goals first | rfl | exact absurd rfl h
theorem mo_wth {D : va_G} {s0 : State} {b0 th : Nat} {S : sSt} {ad : jN} {T : jT} {G : jG} (h : jMo D s0 b0 th S ad T G) (x : Nat) : jMo D s0 b0 x S ad T (jup G (ad 31 0 0) (jo 11 [.int (nI x), .ref (ad 32 0 0), .ref (ad 37 (s_m S) 0), .int (nI (s_p S)), .ref (ad 32 1 0), .ref (ad 32 2 0), .ref (ad 34 0 0), .ref (ad 32 3 0), .ref (ad 32 4 0), .int (jbz (s_w S)), .int (s_l S), .ref (ad 32 5 0), .ref (ad 32 6 0), .long (lN (s_n S))])) := by
  refine jRep.put h (k := 31) (i := 0) (j := 0) (s0' := .inl (jo 11 [.int (nI th), .ref (ad 32 0 0), .ref (ad 37 (s_m S) 0), .int (nI (s_p S)), .ref (ad 32 1 0), .ref (ad 32 2 0), .ref (ad 34 0 0), .ref (ad 32 3 0), .ref (ad 32 4 0), .int (jbz (s_w S)), .int (s_l S), .ref (ad 32 5 0), .ref (ad 32 6 0), .long (lN (s_n S))])) rfl (fun s hs => (Option.some.inj hs).symm) (fun k' i' j' s hne hs => Or.inl ?_)
  rw [← hs]
  by_cases h1 : k' = 31
  · subst h1
    show (if i' = 0 ∧ j' = 0 then _ else none) = (if i' = 0 ∧ j' = 0 then _ else none)
    rw [if_neg (fun z => hne ⟨rfl, z⟩), if_neg (fun z => hne ⟨rfl, z⟩)]
  · exact (shM_th h1).symm

set_option maxHeartbeats 4000000 in
set_option maxRecDepth 100000 in
theorem mm_thrown (l : Launch) (D : va_G) (s0 : State) (b0 : Nat) (A : Nat → Prop) (G : jG) (S : sSt) (th : Nat) (ad : jN) (T : jT) (hR : jMo D s0 b0 th S ad T G) : jM l yX5_thrown (ws_ yX5_thrown cX5_thrown 1 (some .int)) (jR 0 0 0) D s0 b0 A G [.ref (ad 31 0 0)] (fun w G1 => w = some (.int (nI th)) ∧ G1 = G) := by
  have hxx := mo_x hR
  refine jM.of (by decide +kernel) (own := RX5) rfl (Nat.le_of_ble_eq_true rfl) ?_
  intro p e s m args below meth c hX hr hlk hnm
  refine jr_aload_n (i := 0) hX rfl rfl dX5_thrown_0 ?_
  refine jr_get (ci := 11) (k := 0) hX (by first | assumption | exact jup_s) rfl in_X5 (by decide) q1730 rfl dX5_thrown_1 ?_
  exact jr_iret hX hlk hr ⟨rfl, rfl⟩ dX5_thrown_4

set_option maxHeartbeats 4000000 in
set_option maxRecDepth 100000 in
theorem mm_present (l : Launch) (D : va_G) (s0 : State) (b0 : Nat) (A : Nat → Prop) (G : jG) (S : sSt) (th : Nat) (ad : jN) (T : jT) (hR : jMo D s0 b0 th S ad T G) : jM l yX5_present (ws_ yX5_present cX5_present 1 (some .int)) (jR 0 0 0) D s0 b0 A G [.ref (ad 31 0 0)] (fun w G1 => w = some (.int (nI (s_p S))) ∧ jMo D s0 b0 0 S ad T G1 ∧ jFm 31 60 T G T G1) := by
  have hxx := mo_x hR
  have hR0 := mo_wth hR 0
  have hx0 := mo_x hR0
  refine jM.of (by decide +kernel) (own := RX5) rfl (Nat.le_of_ble_eq_true rfl) ?_
  intro p e s m args below meth c hX hr hlk hnm
  refine jr_aload_n (i := 0) hX rfl rfl dX5_present_0 ?_
  refine jr_iconst (v := 0) hX rfl dX5_present_1 ?_
  refine jr_put (ci := 11) (k := 0) hX hxx rfl in_X5 (by decide) tyX5 tyX5_ok nmX5 q1730 rfl (by first | rfl | assumption) (by first | rfl | assumption) (Nat.le_of_ble_eq_true rfl) dX5_present_2 ?_
  refine jr_aload_n (i := 0) hX rfl rfl dX5_present_5 ?_
  refine jr_get (ci := 11) (k := 3) hX (by first | assumption | exact jup_s) rfl in_X5 (by decide) q1733 rfl dX5_present_6 ?_
  exact jr_iret hX hlk hr ⟨rfl, hR0, jFm.put (by rw [hR.t (k := 31) (i := 0) (j := 0) rfl]; exact ⟨(by show 31 ≤ 31 % 100; omega), (by show 31 % 100 < 60; omega)⟩)⟩ dX5_present_9

set_option maxHeartbeats 4000000 in
set_option maxRecDepth 100000 in
theorem mm_isWatched (l : Launch) (D : va_G) (s0 : State) (b0 : Nat) (A : Nat → Prop) (G : jG) (S : sSt) (th : Nat) (ad : jN) (T : jT) (hR : jMo D s0 b0 th S ad T G) : jM l yX5_isWatched (ws_ yX5_isWatched cX5_isWatched 1 (some .boolean)) (jR 0 0 0) D s0 b0 A G [.ref (ad 31 0 0)] (fun w G1 => w = some (.int (jbz (s_w S))) ∧ jMo D s0 b0 0 S ad T G1 ∧ jFm 31 60 T G T G1) := by
  have hxx := mo_x hR
  have hR0 := mo_wth hR 0
  have hx0 := mo_x hR0
  refine jM.of (by decide +kernel) (own := RX5) rfl (Nat.le_of_ble_eq_true rfl) ?_
  intro p e s m args below meth c hX hr hlk hnm
  refine jr_aload_n (i := 0) hX rfl rfl dX5_isWatched_0 ?_
  refine jr_iconst (v := 0) hX rfl dX5_isWatched_1 ?_
  refine jr_put (ci := 11) (k := 0) hX hxx rfl in_X5 (by decide) tyX5 tyX5_ok nmX5 q1730 rfl (by first | rfl | assumption) (by first | rfl | assumption) (Nat.le_of_ble_eq_true rfl) dX5_isWatched_2 ?_
  refine jr_aload_n (i := 0) hX rfl rfl dX5_isWatched_5 ?_
  refine jr_get (ci := 11) (k := 9) hX (by first | assumption | exact jup_s) rfl in_X5 (by decide) q1739 rfl dX5_isWatched_6 ?_
  exact jr_zret hX hlk hr (jbz_n _) ⟨rfl, hR0, jFm.put (by rw [hR.t (k := 31) (i := 0) (j := 0) rfl]; exact ⟨(by show 31 ≤ 31 % 100; omega), (by show 31 % 100 < 60; omega)⟩)⟩ dX5_isWatched_9

set_option maxHeartbeats 4000000 in
set_option maxRecDepth 100000 in
theorem mm_steps (l : Launch) (D : va_G) (s0 : State) (b0 : Nat) (A : Nat → Prop) (G : jG) (S : sSt) (th : Nat) (ad : jN) (T : jT) (hR : jMo D s0 b0 th S ad T G) : jM l yX5_steps (ws_ yX5_steps cX5_steps 1 (some .long)) (jR 0 0 0) D s0 b0 A G [.ref (ad 31 0 0)] (fun w G1 => w = some (.long (lN (s_n S))) ∧ jMo D s0 b0 0 S ad T G1 ∧ jFm 31 60 T G T G1) := by
  have hxx := mo_x hR
  have hR0 := mo_wth hR 0
  have hx0 := mo_x hR0
  refine jM.of (by decide +kernel) (own := RX5) rfl (Nat.le_of_ble_eq_true rfl) ?_
  intro p e s m args below meth c hX hr hlk hnm
  refine jr_aload_n (i := 0) hX rfl rfl dX5_steps_0 ?_
  refine jr_iconst (v := 0) hX rfl dX5_steps_1 ?_
  refine jr_put (ci := 11) (k := 0) hX hxx rfl in_X5 (by decide) tyX5 tyX5_ok nmX5 q1730 rfl (by first | rfl | assumption) (by first | rfl | assumption) (Nat.le_of_ble_eq_true rfl) dX5_steps_2 ?_
  refine jr_aload_n (i := 0) hX rfl rfl dX5_steps_5 ?_
  refine jr_get (ci := 11) (k := 13) hX (by first | assumption | exact jup_s) rfl in_X5 (by decide) q1743 rfl dX5_steps_6 ?_
  exact jr_lret hX hlk hr ⟨rfl, hR0, jFm.put (by rw [hR.t (k := 31) (i := 0) (j := 0) rfl]; exact ⟨(by show 31 ≤ 31 % 100; omega), (by show 31 % 100 < 60; omega)⟩)⟩ dX5_steps_9

set_option maxHeartbeats 4000000 in
set_option maxRecDepth 100000 in
theorem mm_versions (l : Launch) (D : va_G) (s0 : State) (b0 : Nat) (A : Nat → Prop) (G : jG) (S : sSt) (th : Nat) (ad : jN) (T : jT) (hR : jMo D s0 b0 th S ad T G) : jM l yX5_versions (ws_ yX5_versions cX5_versions 1 (some .int)) (jR 1 0 0) D s0 b0 A G [.ref (ad 31 0 0)] (fun w G1 => w = some (.int (nI (s_m S))) ∧ jMo D s0 b0 0 S ad T G1 ∧ jFm 31 60 T G T G1) := by
  have hxx := mo_x hR
  have hR0 := mo_wth hR 0
  have hx0 := mo_x hR0
  obtain ⟨mo1, cap1, ea1, hL1, -, -, -⟩ := hR0.l (k := 32) (i := 0) (j := 0) rfl
  refine jM.of (by decide +kernel) (own := RX5) rfl (Nat.le_of_ble_eq_true rfl) ?_
  intro p e s m args below meth c hX hr hlk hnm
  refine jr_aload_n (i := 0) hX rfl rfl dX5_versions_0 ?_
  refine jr_iconst (v := 0) hX rfl dX5_versions_1 ?_
  refine jr_put (ci := 11) (k := 0) hX hxx rfl in_X5 (by decide) tyX5 tyX5_ok nmX5 q1730 rfl (by first | rfl | assumption) (by first | rfl | assumption) (Nat.le_of_ble_eq_true rfl) dX5_versions_2 ?_
  refine jr_aload_n (i := 0) hX rfl rfl dX5_versions_5 ?_
  refine jr_get (ci := 11) (k := 1) hX (by first | assumption | exact jup_s) rfl in_X5 (by decide) q1731 rfl dX5_versions_6 ?_
  refine jr_callV (As := []) (bc1 := (0)) (bs1 := (0)) hX (met_size l D s0 b0 A _ (ad 32 0 0) (s_rg (s_m S) (fun v => ad 37 v 0)) mo1 cap1 ea1 hL1) (cwV 0 hX.ts (lw_V q1834 q410 q2205 q68 q412) rfl rfl rfl (by decide +kernel) ⟨Nat.le_of_ble_eq_true rfl, Nat.le_of_ble_eq_true rfl⟩) hL1.1 rfl rfl (Nat.le_of_ble_eq_true rfl) (by first | omega | (dsimp only; omega) | (show _ ≤ _; simp only []; omega)) (by first | omega | (dsimp only; omega) | (show _ ≤ _; simp only []; omega)) rfl dX5_versions_9 (fun v_9 G_9 hp_9 => ?_)
  obtain ⟨rfl, e9⟩ := hp_9
  rw [e9, rg_len]
  exact jr_iret hX hlk hr ⟨rfl, hR0, jFm.put (by rw [hR.t (k := 31) (i := 0) (j := 0) rfl]; exact ⟨(by show 31 ≤ 31 % 100; omega), (by show 31 % 100 < 60; omega)⟩)⟩ dX5_versions_12

set_option maxHeartbeats 4000000 in
set_option maxRecDepth 100000 in
theorem mm_objects (l : Launch) (D : va_G) (s0 : State) (b0 : Nat) (A : Nat → Prop) (G : jG) (S : sSt) (th : Nat) (ad : jN) (T : jT) (hR : jMo D s0 b0 th S ad T G) : jM l yX5_objects (ws_ yX5_objects cX5_objects 1 (some .int)) (jR 1 0 0) D s0 b0 A G [.ref (ad 31 0 0)] (fun w G1 => w = some (.int (nI ((s_o S).length))) ∧ jMo D s0 b0 0 S ad T G1 ∧ jFm 31 60 T G T G1) := by
  have hxx := mo_x hR
  have hR0 := mo_wth hR 0
  have hx0 := mo_x hR0
  obtain ⟨mo1, cap1, ea1, hL1, -, -, -⟩ := hR0.l (k := 32) (i := 2) (j := 0) rfl
  refine jM.of (by decide +kernel) (own := RX5) rfl (Nat.le_of_ble_eq_true rfl) ?_
  intro p e s m args below meth c hX hr hlk hnm
  refine jr_aload_n (i := 0) hX rfl rfl dX5_objects_0 ?_
  refine jr_iconst (v := 0) hX rfl dX5_objects_1 ?_
  refine jr_put (ci := 11) (k := 0) hX hxx rfl in_X5 (by decide) tyX5 tyX5_ok nmX5 q1730 rfl (by first | rfl | assumption) (by first | rfl | assumption) (Nat.le_of_ble_eq_true rfl) dX5_objects_2 ?_
  refine jr_aload_n (i := 0) hX rfl rfl dX5_objects_5 ?_
  refine jr_get (ci := 11) (k := 5) hX (by first | assumption | exact jup_s) rfl in_X5 (by decide) q1735 rfl dX5_objects_6 ?_
  refine jr_callV (As := []) (bc1 := (0)) (bs1 := (0)) hX (met_size l D s0 b0 A _ (ad 32 2 0) (s_rg (s_o S).length (fun v => ad 46 v 0)) mo1 cap1 ea1 hL1) (cwV 0 hX.ts (lw_V q1834 q410 q2205 q68 q412) rfl rfl rfl (by decide +kernel) ⟨Nat.le_of_ble_eq_true rfl, Nat.le_of_ble_eq_true rfl⟩) hL1.1 rfl rfl (Nat.le_of_ble_eq_true rfl) (by first | omega | (dsimp only; omega) | (show _ ≤ _; simp only []; omega)) (by first | omega | (dsimp only; omega) | (show _ ≤ _; simp only []; omega)) rfl dX5_objects_9 (fun v_9 G_9 hp_9 => ?_)
  obtain ⟨rfl, e9⟩ := hp_9
  rw [e9, rg_len]
  exact jr_iret hX hlk hr ⟨rfl, hR0, jFm.put (by rw [hR.t (k := 31) (i := 0) (j := 0) rfl]; exact ⟨(by show 31 ≤ 31 % 100; omega), (by show 31 % 100 < 60; omega)⟩)⟩ dX5_objects_12

set_option maxHeartbeats 4000000 in
set_option maxRecDepth 100000 in
theorem mm_queued (l : Launch) (D : va_G) (s0 : State) (b0 : Nat) (A : Nat → Prop) (G : jG) (S : sSt) (th : Nat) (ad : jN) (T : jT) (hR : jMo D s0 b0 th S ad T G) : jM l yX5_queued (ws_ yX5_queued cX5_queued 1 (some .int)) (jR 1 0 0) D s0 b0 A G [.ref (ad 31 0 0)] (fun w G1 => w = some (.int (nI ((s_q S).length))) ∧ jMo D s0 b0 0 S ad T G1 ∧ jFm 31 60 T G T G1) := by
  have hxx := mo_x hR
  have hR0 := mo_wth hR 0
  have hx0 := mo_x hR0
  obtain ⟨mo1, cap1, ea1, hL1, -, -, -⟩ := hR0.l (k := 32) (i := 4) (j := 0) rfl
  refine jM.of (by decide +kernel) (own := RX5) rfl (Nat.le_of_ble_eq_true rfl) ?_
  intro p e s m args below meth c hX hr hlk hnm
  refine jr_aload_n (i := 0) hX rfl rfl dX5_queued_0 ?_
  refine jr_iconst (v := 0) hX rfl dX5_queued_1 ?_
  refine jr_put (ci := 11) (k := 0) hX hxx rfl in_X5 (by decide) tyX5 tyX5_ok nmX5 q1730 rfl (by first | rfl | assumption) (by first | rfl | assumption) (Nat.le_of_ble_eq_true rfl) dX5_queued_2 ?_
  refine jr_aload_n (i := 0) hX rfl rfl dX5_queued_5 ?_
  refine jr_get (ci := 11) (k := 8) hX (by first | assumption | exact jup_s) rfl in_X5 (by decide) q1738 rfl dX5_queued_6 ?_
  refine jr_callV (As := []) (bc1 := (0)) (bs1 := (0)) hX (met_size l D s0 b0 A _ (ad 32 4 0) ((s_q S).map (fun v => ad 48 v 0)) mo1 cap1 ea1 hL1) (cwV 0 hX.ts (lw_V q1834 q410 q2205 q68 q412) rfl rfl rfl (by decide +kernel) ⟨Nat.le_of_ble_eq_true rfl, Nat.le_of_ble_eq_true rfl⟩) hL1.1 rfl rfl (Nat.le_of_ble_eq_true rfl) (by first | omega | (dsimp only; omega) | (show _ ≤ _; simp only []; omega)) (by first | omega | (dsimp only; omega) | (show _ ≤ _; simp only []; omega)) rfl dX5_queued_9 (fun v_9 G_9 hp_9 => ?_)
  obtain ⟨rfl, e9⟩ := hp_9
  rw [e9, List.length_map]
  exact jr_iret hX hlk hr ⟨rfl, hR0, jFm.put (by rw [hR.t (k := 31) (i := 0) (j := 0) rfl]; exact ⟨(by show 31 ≤ 31 % 100; omega), (by show 31 % 100 < 60; omega)⟩)⟩ dX5_queued_12

set_option maxHeartbeats 4000000 in
set_option maxRecDepth 100000 in
theorem mm_puts (l : Launch) (D : va_G) (s0 : State) (b0 : Nat) (A : Nat → Prop) (G : jG) (S : sSt) (th : Nat) (ad : jN) (T : jT) (hR : jMo D s0 b0 th S ad T G) : jM l yX5_puts_2 (ws_ yX5_puts_2 cX5_puts_2 1 (some .int)) (jR 1 0 0) D s0 b0 A G [.ref (ad 31 0 0)] (fun w G1 => w = some (.int (nI ((s_u S).length))) ∧ jMo D s0 b0 0 S ad T G1 ∧ jFm 31 60 T G T G1) := by
  have hxx := mo_x hR
  have hR0 := mo_wth hR 0
  have hx0 := mo_x hR0
  obtain ⟨mo1, cap1, ea1, hL1, -, -, -⟩ := hR0.l (k := 32) (i := 5) (j := 0) rfl
  refine jM.of (by decide +kernel) (own := RX5) rfl (Nat.le_of_ble_eq_true rfl) ?_
  intro p e s m args below meth c hX hr hlk hnm
  refine jr_aload_n (i := 0) hX rfl rfl dX5_puts_2_0 ?_
  refine jr_iconst (v := 0) hX rfl dX5_puts_2_1 ?_
  refine jr_put (ci := 11) (k := 0) hX hxx rfl in_X5 (by decide) tyX5 tyX5_ok nmX5 q1730 rfl (by first | rfl | assumption) (by first | rfl | assumption) (Nat.le_of_ble_eq_true rfl) dX5_puts_2_2 ?_
  refine jr_aload_n (i := 0) hX rfl rfl dX5_puts_2_5 ?_
  refine jr_get (ci := 11) (k := 11) hX (by first | assumption | exact jup_s) rfl in_X5 (by decide) q1741 rfl dX5_puts_2_6 ?_
  refine jr_callV (As := []) (bc1 := (0)) (bs1 := (0)) hX (met_size l D s0 b0 A _ (ad 32 5 0) (s_rg (s_u S).length (fun v => jbx s0 b0 ((s_u S).getD v (0, 0)).1 (ad 49 v 0))) mo1 cap1 ea1 hL1) (cwV 0 hX.ts (lw_V q1834 q410 q2205 q68 q412) rfl rfl rfl (by decide +kernel) ⟨Nat.le_of_ble_eq_true rfl, Nat.le_of_ble_eq_true rfl⟩) hL1.1 rfl rfl (Nat.le_of_ble_eq_true rfl) (by first | omega | (dsimp only; omega) | (show _ ≤ _; simp only []; omega)) (by first | omega | (dsimp only; omega) | (show _ ≤ _; simp only []; omega)) rfl dX5_puts_2_9 (fun v_9 G_9 hp_9 => ?_)
  obtain ⟨rfl, e9⟩ := hp_9
  rw [e9, rg_len]
  exact jr_iret hX hlk hr ⟨rfl, hR0, jFm.put (by rw [hR.t (k := 31) (i := 0) (j := 0) rfl]; exact ⟨(by show 31 ≤ 31 % 100; omega), (by show 31 % 100 < 60; omega)⟩)⟩ dX5_puts_2_12
