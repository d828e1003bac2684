/-! the model's map where arguments aren't valid -/
set_option maxHeartbeats 4000000 in
set_option maxRecDepth 100000 in
theorem mm_mapE1 (l : Launch) (D : va_G) (s0 : State) (b0 : Nat) (A : Nat → Prop) (G : jG) (S : sSt) (th : Nat) (ad : jN) (T : jT) (hR : jMo D s0 b0 th S ad T G) (x : Int32) (hin : ¬ ((0 : Int32) ≤ x ∧ x ≤ 4)) (y z : Int32) : jM l yX5_map (ws_ yX5_map cX5_map 6 (some .int)) (jR 5 0 0) D s0 b0 A G [.ref (ad 31 0 0), .int x, .int y, .int z] (fun w G1 => w = some (.int 0) ∧ jMo D s0 b0 1 S ad T G1 ∧ jFm 31 60 T G T G1) := by
  have hxx := mo_x hR
  have hR0 := mo_wth hR 1
  have hx0 := mo_x hR0
  refine jM.of (by decide +kernel) (own := RX5) rfl (Nat.le_of_ble_eq_true rfl) ?_
  intro p e s m args below meth c hX hr hlk hnm
  refine jr_aload_n (i := 0) hX rfl rfl dX5_map_0 ?_
  refine jr_iload_n (i := 1) hX rfl rfl dX5_map_1 ?_
  refine jr_callS (As := [.int x]) (bc1 := (0)) (bs1 := (0)) hX (mm_isFunction l D s0 b0 A _ x) (va_cwS 1 hX.ts (lw_S q1781 q1782 q78 q1783) rfl rfl rfl (by decide +kernel) ⟨Nat.le_of_ble_eq_true rfl, Nat.le_of_ble_eq_true rfl⟩) rfl (Nat.le_of_ble_eq_true rfl) (by first | omega | (dsimp only; omega) | (show _ ≤ _; simp only []; omega)) (by first | omega | (dsimp only; omega) | (show _ ≤ _; simp only []; omega)) rfl dX5_map_2 (fun v_2 G_2 hp_2 => ?_)
  obtain ⟨rfl, e9⟩ := hp_2
  rw [e9, decide_eq_false hin]
  refine jr_if_eq hX (tgt := 44) (by decide) dX5_map_5 (fun c_5 => ?_) (fun c_5 => absurd rfl c_5)
  refine jr_iconst (v := 1) hX rfl dX5_map_44 ?_
  refine jr_put (ci := 11) (k := 0) hX hxx rfl in_X5 (by decide) tyX5 tyX5_ok nmX5 q1730 rfl (by first | rfl | assumption) (by first | rfl | assumption) (Nat.le_of_ble_eq_true rfl) dX5_map_45 ?_
  refine jr_aload_n (i := 0) hX rfl rfl dX5_map_48 ?_
  refine jr_get (ci := 11) (k := 0) hX hx0 rfl in_X5 (by decide) q1730 rfl dX5_map_49 ?_
  refine jr_if_le hX (tgt := 57) (by decide) dX5_map_52 (fun c_52 => absurd c_52 (by decide)) (fun c_52 => ?_)
  refine jr_iconst (v := 0) hX rfl dX5_map_55 ?_
  exact jr_iret hX hlk hr ⟨rfl, hR0, jFm.pt (mo_t31 hR) (by decide)⟩ dX5_map_56

set_option maxHeartbeats 4000000 in
set_option maxRecDepth 100000 in
theorem mm_mapE2 (l : Launch) (D : va_G) (s0 : State) (b0 : Nat) (A : Nat → Prop) (G : jG) (S : sSt) (th : Nat) (ad : jN) (T : jT) (hR : jMo D s0 b0 th S ad T G) (hv : sWv S) (f : Nat) (hf : f < 5) (y z : Int32) (hin2 : ¬ ((0 : Int32) ≤ y ∧ y ≤ nI ((s_ver S (s_m S - 1)).1 f).length)) : jM l yX5_map (ws_ yX5_map cX5_map 6 (some .int)) (jR 5 0 0) D s0 b0 A G [.ref (ad 31 0 0), .int (nI f), .int y, .int z] (fun w G1 => w = some (.int 0) ∧ jMo D s0 b0 1 S ad T G1 ∧ jFm 31 60 T G T G1) := by
  have hxx := mo_x hR
  have hR0 := mo_wth hR 1
  have hx0 := mo_x hR0
  have hvl := hv.1
  have hvu := hv.2.1
  have hmm : s_m S = (s_v S).length - 1 := rfl
  have hml : s_m S < (s_v S).length := by omega
  have hV0 := mo_ver hR hml
  have hVl := mo_ver hR (v := s_m S - 1) (by omega)
  have hin : (0 : Int32) ≤ nI f ∧ nI f ≤ 4 := ⟨nI_pos' (by omega), nI_le (b := 4) (by omega) (by omega)⟩
  refine jM.of (by decide +kernel) (own := RX5) rfl (Nat.le_of_ble_eq_true rfl) ?_
  intro p e s m args below meth c hX hr hlk hnm
  refine jr_aload_n (i := 0) hX rfl rfl dX5_map_0 ?_
  refine jr_iload_n (i := 1) hX rfl rfl dX5_map_1 ?_
  refine jr_callS (As := [.int (nI f)]) (bc1 := (0)) (bs1 := (0)) hX (mm_isFunction l D s0 b0 A _ (nI f)) (va_cwS 1 hX.ts (lw_S q1781 q1782 q78 q1783) rfl rfl rfl (by decide +kernel) ⟨Nat.le_of_ble_eq_true rfl, Nat.le_of_ble_eq_true rfl⟩) rfl (Nat.le_of_ble_eq_true rfl) (by first | omega | (dsimp only; omega) | (show _ ≤ _; simp only []; omega)) (by first | omega | (dsimp only; omega) | (show _ ≤ _; simp only []; omega)) rfl dX5_map_2 (fun v_2 G_2 hp_2 => ?_)
  obtain ⟨rfl, e9⟩ := hp_2
  rw [e9, decide_eq_true hin]
  refine jr_if_eq hX (tgt := 44) (by decide) dX5_map_5 (fun c_5 => absurd c_5 (by decide)) (fun c_5 => ?_)
  refine jr_iload_n (i := 2) hX rfl rfl dX5_map_8 ?_
  refine jr_iconst (v := 0) hX rfl dX5_map_9 ?_
  refine jr_aload_n (i := 0) hX rfl rfl dX5_map_10 ?_
  refine jr_callV (As := []) (bc1 := (0)) (bs1 := (0)) hX (mm_latest l D s0 b0 A _ S th ad T hR (by omega) (by omega)) (cwV 0 hX.ts (lw_V q1830 q1832 qs38 q78 q1833) rfl rfl rfl (by decide +kernel) ⟨Nat.le_of_ble_eq_true rfl, Nat.le_of_ble_eq_true rfl⟩) hxx rfl rfl (Nat.le_of_ble_eq_true rfl) (by first | omega | (dsimp only; omega) | (show _ ≤ _; simp only []; omega)) (by first | omega | (dsimp only; omega) | (show _ ≤ _; simp only []; omega)) rfl dX5_map_11 (fun v_11 G_11 hp_11 => ?_)
  obtain ⟨rfl, e9⟩ := hp_11
  rw [e9]
  refine jr_iload_n (i := 1) hX rfl rfl dX5_map_14 ?_
  refine jr_callV (As := [.int (nI f)]) (bc1 := (0)) (bs1 := (0)) hX (mm_length l D s0 b0 A _ S th ad T hR (s_m S - 1) f (by omega) hf) (cwV 1 hX.ts (lw_V q1793 q1794 q1795 q79 q1796) rfl rfl rfl (by decide +kernel) ⟨Nat.le_of_ble_eq_true rfl, Nat.le_of_ble_eq_true rfl⟩) hVl rfl rfl (Nat.le_of_ble_eq_true rfl) (by first | omega | (dsimp only; omega) | (show _ ≤ _; simp only []; omega)) (by first | omega | (dsimp only; omega) | (show _ ≤ _; simp only []; omega)) rfl dX5_map_15 (fun v_15 G_15 hp_15 => ?_)
  obtain ⟨rfl, e9⟩ := hp_15
  rw [e9]
  refine jr_callS (As := [.int y, .int 0, .int (nI ((s_ver S (s_m S - 1)).1 f).length)]) (bc1 := (0)) (bs1 := (0)) hX (mm_in l D s0 b0 A _ y (0) (nI ((s_ver S (s_m S - 1)).1 f).length)) (va_cwS 3 hX.ts (lw_S q1784 q1785 q78 q1786) rfl rfl rfl (by decide +kernel) ⟨Nat.le_of_ble_eq_true rfl, Nat.le_of_ble_eq_true rfl⟩) rfl (Nat.le_of_ble_eq_true rfl) (by first | omega | (dsimp only; omega) | (show _ ≤ _; simp only []; omega)) (by first | omega | (dsimp only; omega) | (show _ ≤ _; simp only []; omega)) rfl dX5_map_18 (fun v_18 G_18 hp_18 => ?_)
  obtain ⟨rfl, e9⟩ := hp_18
  rw [e9, decide_eq_false hin2]
  refine jr_if_eq hX (tgt := 44) (by decide) dX5_map_21 (fun c_21 => ?_) (fun c_21 => absurd rfl c_21)
  refine jr_iconst (v := 1) hX rfl dX5_map_44 ?_
  refine jr_put (ci := 11) (k := 0) hX hxx rfl in_X5 (by decide) tyX5 tyX5_ok nmX5 q1730 rfl (by first | rfl | assumption) (by first | rfl | assumption) (Nat.le_of_ble_eq_true rfl) dX5_map_45 ?_
  refine jr_aload_n (i := 0) hX rfl rfl dX5_map_48 ?_
  refine jr_get (ci := 11) (k := 0) hX hx0 rfl in_X5 (by decide) q1730 rfl dX5_map_49 ?_
  refine jr_if_le hX (tgt := 57) (by decide) dX5_map_52 (fun c_52 => absurd c_52 (by decide)) (fun c_52 => ?_)
  refine jr_iconst (v := 0) hX rfl dX5_map_55 ?_
  exact jr_iret hX hlk hr ⟨rfl, hR0, jFm.pt (mo_t31 hR) (by decide)⟩ dX5_map_56

set_option maxHeartbeats 4000000 in
set_option maxRecDepth 100000 in
theorem mm_mapE3 (l : Launch) (D : va_G) (s0 : State) (b0 : Nat) (A : Nat → Prop) (G : jG) (S : sSt) (th : Nat) (ad : jN) (T : jT) (hR : jMo D s0 b0 th S ad T G) (hv : sWv S) (f : Nat) (hf : f < 5) (y z : Int32) (hin2 : (0 : Int32) ≤ y ∧ y ≤ nI ((s_ver S (s_m S - 1)).1 f).length) (hin3 : ¬ ((-1 : Int32) ≤ z ∧ z ≤ nI ((s_ver S (s_m S)).1 f).length)) : jM l yX5_map (ws_ yX5_map cX5_map 6 (some .int)) (jR 5 0 0) D s0 b0 A G [.ref (ad 31 0 0), .int (nI f), .int y, .int z] (fun w G1 => w = some (.int 0) ∧ jMo D s0 b0 1 S ad T G1 ∧ jFm 31 60 T G T G1) := by
  have hxx := mo_x hR
  have hR0 := mo_wth hR 1
  have hx0 := mo_x hR0
  have hvl := hv.1
  have hvu := hv.2.1
  have hmm : s_m S = (s_v S).length - 1 := rfl
  have hml : s_m S < (s_v S).length := by omega
  have hV0 := mo_ver hR hml
  have hVl := mo_ver hR (v := s_m S - 1) (by omega)
  have hin : (0 : Int32) ≤ nI f ∧ nI f ≤ 4 := ⟨nI_pos' (by omega), nI_le (b := 4) (by omega) (by omega)⟩
  refine jM.of (by decide +kernel) (own := RX5) rfl (Nat.le_of_ble_eq_true rfl) ?_
  intro p e s m args below meth c hX hr hlk hnm
  refine jr_aload_n (i := 0) hX rfl rfl dX5_map_0 ?_
  refine jr_iload_n (i := 1) hX rfl rfl dX5_map_1 ?_
  refine jr_callS (As := [.int (nI f)]) (bc1 := (0)) (bs1 := (0)) hX (mm_isFunction l D s0 b0 A _ (nI f)) (va_cwS 1 hX.ts (lw_S q1781 q1782 q78 q1783) rfl rfl rfl (by decide +kernel) ⟨Nat.le_of_ble_eq_true rfl, Nat.le_of_ble_eq_true rfl⟩) rfl (Nat.le_of_ble_eq_true rfl) (by first | omega | (dsimp only; omega) | (show _ ≤ _; simp only []; omega)) (by first | omega | (dsimp only; omega) | (show _ ≤ _; simp only []; omega)) rfl dX5_map_2 (fun v_2 G_2 hp_2 => ?_)
  obtain ⟨rfl, e9⟩ := hp_2
  rw [e9, decide_eq_true hin]
  refine jr_if_eq hX (tgt := 44) (by decide) dX5_map_5 (fun c_5 => absurd c_5 (by decide)) (fun c_5 => ?_)
  refine jr_iload_n (i := 2) hX rfl rfl dX5_map_8 ?_
  refine jr_iconst (v := 0) hX rfl dX5_map_9 ?_
  refine jr_aload_n (i := 0) hX rfl rfl dX5_map_10 ?_
  refine jr_callV (As := []) (bc1 := (0)) (bs1 := (0)) hX (mm_latest l D s0 b0 A _ S th ad T hR (by omega) (by omega)) (cwV 0 hX.ts (lw_V q1830 q1832 qs38 q78 q1833) rfl rfl rfl (by decide +kernel) ⟨Nat.le_of_ble_eq_true rfl, Nat.le_of_ble_eq_true rfl⟩) hxx rfl rfl (Nat.le_of_ble_eq_true rfl) (by first | omega | (dsimp only; omega) | (show _ ≤ _; simp only []; omega)) (by first | omega | (dsimp only; omega) | (show _ ≤ _; simp only []; omega)) rfl dX5_map_11 (fun v_11 G_11 hp_11 => ?_)
  obtain ⟨rfl, e9⟩ := hp_11
  rw [e9]
  refine jr_iload_n (i := 1) hX rfl rfl dX5_map_14 ?_
  refine jr_callV (As := [.int (nI f)]) (bc1 := (0)) (bs1 := (0)) hX (mm_length l D s0 b0 A _ S th ad T hR (s_m S - 1) f (by omega) hf) (cwV 1 hX.ts (lw_V q1793 q1794 q1795 q79 q1796) rfl rfl rfl (by decide +kernel) ⟨Nat.le_of_ble_eq_true rfl, Nat.le_of_ble_eq_true rfl⟩) hVl rfl rfl (Nat.le_of_ble_eq_true rfl) (by first | omega | (dsimp only; omega) | (show _ ≤ _; simp only []; omega)) (by first | omega | (dsimp only; omega) | (show _ ≤ _; simp only []; omega)) rfl dX5_map_15 (fun v_15 G_15 hp_15 => ?_)
  obtain ⟨rfl, e9⟩ := hp_15
  rw [e9]
  refine jr_callS (As := [.int y, .int 0, .int (nI ((s_ver S (s_m S - 1)).1 f).length)]) (bc1 := (0)) (bs1 := (0)) hX (mm_in l D s0 b0 A _ y (0) (nI ((s_ver S (s_m S - 1)).1 f).length)) (va_cwS 3 hX.ts (lw_S q1784 q1785 q78 q1786) rfl rfl rfl (by decide +kernel) ⟨Nat.le_of_ble_eq_true rfl, Nat.le_of_ble_eq_true rfl⟩) rfl (Nat.le_of_ble_eq_true rfl) (by first | omega | (dsimp only; omega) | (show _ ≤ _; simp only []; omega)) (by first | omega | (dsimp only; omega) | (show _ ≤ _; simp only []; omega)) rfl dX5_map_18 (fun v_18 G_18 hp_18 => ?_)
  obtain ⟨rfl, e9⟩ := hp_18
  rw [e9, decide_eq_true hin2]
  refine jr_if_eq hX (tgt := 44) (by decide) dX5_map_21 (fun c_21 => absurd c_21 (by decide)) (fun c_21 => ?_)
  refine jr_iload_n (i := 3) hX rfl rfl dX5_map_24 ?_
  refine jr_iconst (v := -1) hX rfl dX5_map_25 ?_
  refine jr_aload_n (i := 0) hX rfl rfl dX5_map_26 ?_
  refine jr_get (ci := 11) (k := 2) hX hxx rfl in_X5 (by decide) q1732 rfl dX5_map_27 ?_
  refine jr_iload_n (i := 1) hX rfl rfl dX5_map_30 ?_
  refine jr_callV (As := [.int (nI f)]) (bc1 := (0)) (bs1 := (0)) hX (mm_length l D s0 b0 A _ S th ad T hR (s_m S) f hml hf) (cwV 1 hX.ts (lw_V q1793 q1794 q1795 q79 q1796) rfl rfl rfl (by decide +kernel) ⟨Nat.le_of_ble_eq_true rfl, Nat.le_of_ble_eq_true rfl⟩) hV0 rfl rfl (Nat.le_of_ble_eq_true rfl) (by first | omega | (dsimp only; omega) | (show _ ≤ _; simp only []; omega)) (by first | omega | (dsimp only; omega) | (show _ ≤ _; simp only []; omega)) rfl dX5_map_31 (fun v_31 G_31 hp_31 => ?_)
  obtain ⟨rfl, e9⟩ := hp_31
  rw [e9]
  refine jr_callS (As := [.int z, .int (-1), .int (nI ((s_ver S (s_m S)).1 f).length)]) (bc1 := (0)) (bs1 := (0)) hX (mm_in l D s0 b0 A _ z ((-1)) (nI ((s_ver S (s_m S)).1 f).length)) (va_cwS 3 hX.ts (lw_S q1784 q1785 q78 q1786) rfl rfl rfl (by decide +kernel) ⟨Nat.le_of_ble_eq_true rfl, Nat.le_of_ble_eq_true rfl⟩) rfl (Nat.le_of_ble_eq_true rfl) (by first | omega | (dsimp only; omega) | (show _ ≤ _; simp only []; omega)) (by first | omega | (dsimp only; omega) | (show _ ≤ _; simp only []; omega)) rfl dX5_map_34 (fun v_34 G_34 hp_34 => ?_)
  obtain ⟨rfl, e9⟩ := hp_34
  rw [e9, decide_eq_false hin3]
  refine jr_if_eq hX (tgt := 44) (by decide) dX5_map_37 (fun c_37 => ?_) (fun c_37 => absurd rfl c_37)
  refine jr_iconst (v := 1) hX rfl dX5_map_44 ?_
  refine jr_put (ci := 11) (k := 0) hX hxx rfl in_X5 (by decide) tyX5 tyX5_ok nmX5 q1730 rfl (by first | rfl | assumption) (by first | rfl | assumption) (Nat.le_of_ble_eq_true rfl) dX5_map_45 ?_
  refine jr_aload_n (i := 0) hX rfl rfl dX5_map_48 ?_
  refine jr_get (ci := 11) (k := 0) hX hx0 rfl in_X5 (by decide) q1730 rfl dX5_map_49 ?_
  refine jr_if_le hX (tgt := 57) (by decide) dX5_map_52 (fun c_52 => absurd c_52 (by decide)) (fun c_52 => ?_)
  refine jr_iconst (v := 0) hX rfl dX5_map_55 ?_
  exact jr_iret hX hlk hr ⟨rfl, hR0, jFm.pt (mo_t31 hR) (by decide)⟩ dX5_map_56
