/-! the model's empty; add and empty where arguments aren't valid -/
set_option maxHeartbeats 4000000 in
set_option maxRecDepth 100000 in
theorem mm_emptyC (l : Launch) (D : va_G) (s0 : State) (b0 : Nat) (A : Nat → Prop) (G : jG) (S : sSt) (th : Nat) (ad : jN) (T : jT) (hR : jMo D s0 b0 th S ad T G) (hv : sWv S) (f : Nat) (hf : f < 5) : jM l yX5_empty (ws_ yX5_empty cX5_empty 3 (some .int)) (jR 4 0 0) D s0 b0 A G [.ref (ad 31 0 0), .int (nI f)] (fun w G1 => w = some (.int (nI ((s_dr0 S).1 f).length)) ∧ ∃ T1 : jT, jMo D s0 b0 0 (s_emp S f) ad T1 G1 ∧ jFm 31 60 T G T1 G1) := by
  have hxx := mo_x hR
  have hV9 : 0 < (s_v S).length := by have := hv.1; omega
  have hml : s_m S < (s_v S).length := by show (s_v S).length - 1 < _; omega
  have hR0 := mo_wth hR 0
  have hx0 := mo_x hR0
  have hF0 : jFm 31 60 T G T _ := jFm.pt (T := T) (G := G) (lo := 31) (hi := 60) (c := jo 11 [.int (nI 0), .ref (ad 32 0 0), .ref (ad 37 (s_m S) 0), .int (nI (s_p S)), .ref (ad 32 1 0), .ref (ad 32 2 0), .ref (ad 34 0 0), .ref (ad 32 3 0), .ref (ad 32 4 0), .int (jbz (s_w S)), .int (s_l S), .ref (ad 32 5 0), .ref (ad 32 6 0), .long (lN (s_n S))]) (mo_t31 hR) (by decide)
  have hV0 := mo_ver hR hml
  have hV1 := mo_ver hR0 hml
  have hin : (0 : Int32) ≤ nI f ∧ nI f ≤ 4 := ⟨nI_pos' (by omega), nI_le (b := 4) (by omega) (by omega)⟩
  obtain ⟨moF, capF, eaF, hFL, -, -, -⟩ := mo_fns hR0 hml
  obtain ⟨moI, capI, eaI, hIL, -, hIc, hIt⟩ := mo_fn hR0 hml hf
  refine jM.of (by decide +kernel) (own := RX5) rfl (Nat.le_of_ble_eq_true rfl) ?_
  intro p e s m args below meth c hX hr hlk hnm
  refine jr_aload_n (i := 0) hX rfl rfl dX5_empty_0 ?_
  refine jr_iload_n (i := 1) hX rfl rfl dX5_empty_1 ?_
  refine jr_callS (As := [.int (nI f)]) (bc1 := (0)) (bs1 := (0)) hX (mm_isFunction l D s0 b0 A _ (nI f)) (va_cwS 1 hX.ts (lw_S q1781 q1782 q78 q1783) rfl rfl rfl (by decide +kernel) ⟨Nat.le_of_ble_eq_true rfl, Nat.le_of_ble_eq_true rfl⟩) rfl (Nat.le_of_ble_eq_true rfl) (by first | omega | (dsimp only; omega) | (show _ ≤ _; simp only []; omega)) (by first | omega | (dsimp only; omega) | (show _ ≤ _; simp only []; omega)) rfl dX5_empty_2 (fun v_2 G_2 hp_2 => ?_)
  obtain ⟨rfl, e9⟩ := hp_2
  rw [e9, decide_eq_true hin]
  refine jr_if_eq hX (tgt := 12) (by decide) dX5_empty_5 (fun c_5 => absurd c_5 (by decide)) (fun c_5 => ?_)
  refine jr_iconst (v := 0) hX rfl dX5_empty_8 ?_
  refine jr_goto hX (tgt := 13) (by decide) dX5_empty_9 ?_
  refine jr_put (ci := 11) (k := 0) hX hxx rfl in_X5 (by decide) tyX5 tyX5_ok nmX5 q1730 rfl (by first | rfl | assumption) (by first | rfl | assumption) (Nat.le_of_ble_eq_true rfl) dX5_empty_13 ?_
  refine jr_aload_n (i := 0) hX rfl rfl dX5_empty_16 ?_
  refine jr_get (ci := 11) (k := 0) hX hx0 rfl in_X5 (by decide) q1730 rfl dX5_empty_17 ?_
  refine jr_if_le hX (tgt := 25) (by decide) dX5_empty_20 (fun c_20 => ?_) (fun c_20 => absurd (by decide) c_20)
  refine jr_aload_n (i := 0) hX rfl rfl dX5_empty_25 ?_
  refine jr_get (ci := 11) (k := 2) hX hx0 rfl in_X5 (by decide) q1732 rfl dX5_empty_26 ?_
  refine jr_iload_n (i := 1) hX rfl rfl dX5_empty_29 ?_
  refine jr_callV (As := [.int (nI f)]) (bc1 := (0)) (bs1 := (0)) hX (mm_length l D s0 b0 A _ S 0 ad T hR0 (s_m S) f hml hf) (cwV 1 hX.ts (lw_V q1793 q1794 q1795 q79 q1796) rfl rfl rfl (by decide +kernel) ⟨Nat.le_of_ble_eq_true rfl, Nat.le_of_ble_eq_true rfl⟩) hV1 rfl rfl (Nat.le_of_ble_eq_true rfl) (by first | omega | (dsimp only; omega) | (show _ ≤ _; simp only []; omega)) (by first | omega | (dsimp only; omega) | (show _ ≤ _; simp only []; omega)) rfl dX5_empty_30 (fun v_30 G_30 hp_30 => ?_)
  obtain ⟨rfl, e9⟩ := hp_30
  rw [e9]
  refine jr_istore_n (i := 2) hX rfl (by decide) rfl dX5_empty_33 ?_
  refine jr_aload_n (i := 0) hX rfl rfl dX5_empty_34 ?_
  refine jr_get (ci := 11) (k := 2) hX hx0 rfl in_X5 (by decide) q1732 rfl dX5_empty_35 ?_
  refine jr_getN (ci := 12) (k := 0) hX hV1 rfl in_X6 (by decide) q1683 rfl dX5_empty_38 ?_
  refine jr_iload_n (i := 1) hX rfl rfl dX5_empty_41 ?_
  refine jr_callV (As := [.int (nI f)]) (bc1 := (0)) (bs1 := (0)) hX (met_get l D s0 b0 A _ (ad 40 (s_m S) 0) (s_rg 5 (fun f => ad 41 (s_m S) f)) moF capF eaF hFL f (ad 41 (s_m S) f) (rg_at hf)) (cwV 1 hX.ts (lw_V q1712 q304 q2203 q68 q306) rfl rfl rfl (by decide +kernel) ⟨Nat.le_of_ble_eq_true rfl, Nat.le_of_ble_eq_true rfl⟩) hFL.1 rfl rfl (Nat.le_of_ble_eq_true rfl) (by first | omega | (dsimp only; omega) | (show _ ≤ _; simp only []; omega)) (by first | omega | (dsimp only; omega) | (show _ ≤ _; simp only []; omega)) rfl dX5_empty_42 (fun v_42 G_42 hp_42 => ?_)
  obtain ⟨rfl, e9⟩ := hp_42
  rw [e9]
  refine jr_castS hX hIL.1 rfl q1664 dX5_empty_45 ?_
  refine jr_ee hX (fun hE0 => ?_)
  refine jr_callV (As := []) (bc1 := (0)) (bs1 := (0)) hX (met_clear l D s0 b0 A _ (ad 41 (s_m S) f) _ moI capI eaI hIL) (cwV 0 hX.ts (lw_V q1825 q646 q2206 q68 q648) rfl rfl rfl (by decide +kernel) ⟨Nat.le_of_ble_eq_true rfl, Nat.le_of_ble_eq_true rfl⟩) hIL.1 rfl rfl (Nat.le_of_ble_eq_true rfl) (by first | omega | (dsimp only; omega) | (show _ ≤ _; simp only []; omega)) (by first | omega | (dsimp only; omega) | (show _ ≤ _; simp only []; omega)) rfl dX5_empty_48 (fun v_48 G_48 hp_48 => ?_)
  obtain ⟨rfl, hU⟩ := hp_48
  refine jr_ee hX (fun hE1 => ?_)
  obtain ⟨T2, hR2, hfm2⟩ := mo_fnl (S := S) (pool := s_i S) (L := []) hR0 hV9 hf hE1 hIL hIt hU hIc (fun q x hx => Or.inl hx)
  refine jr_iload_n (i := 2) hX rfl rfl dX5_empty_51 ?_
  exact jr_iret hX hlk hr ⟨rfl, T2, hR2, hF0.trans (mo_fm (by omega) hE0 hfm2)⟩ dX5_empty_52

set_option maxHeartbeats 4000000 in
set_option maxRecDepth 100000 in
theorem mm_emptyE (l : Launch) (D : va_G) (s0 : State) (b0 : Nat) (A : Nat → Prop) (G : jG) (S : sSt) (th : Nat) (ad : jN) (T : jT) (hR : jMo D s0 b0 th S ad T G) (x : Int32) (hin : ¬ ((0 : Int32) ≤ x ∧ x ≤ 4)) : jM l yX5_empty (ws_ yX5_empty cX5_empty 3 (some .int)) (jR 4 0 0) D s0 b0 A G [.ref (ad 31 0 0), .int x] (fun w G1 => w = some (.int 0) ∧ jMo D s0 b0 1 S ad T G1 ∧ jFm 31 60 T G T G1) := by
  have hxx := mo_x hR
  have hR0 := mo_wth hR 1
  have hx0 := mo_x hR0
  refine jM.of (by decide +kernel) (own := RX5) rfl (Nat.le_of_ble_eq_true rfl) ?_
  intro p e s m args below meth c hX hr hlk hnm
  refine jr_aload_n (i := 0) hX rfl rfl dX5_empty_0 ?_
  refine jr_iload_n (i := 1) hX rfl rfl dX5_empty_1 ?_
  refine jr_callS (As := [.int x]) (bc1 := (0)) (bs1 := (0)) hX (mm_isFunction l D s0 b0 A _ x) (va_cwS 1 hX.ts (lw_S q1781 q1782 q78 q1783) rfl rfl rfl (by decide +kernel) ⟨Nat.le_of_ble_eq_true rfl, Nat.le_of_ble_eq_true rfl⟩) rfl (Nat.le_of_ble_eq_true rfl) (by first | omega | (dsimp only; omega) | (show _ ≤ _; simp only []; omega)) (by first | omega | (dsimp only; omega) | (show _ ≤ _; simp only []; omega)) rfl dX5_empty_2 (fun v_2 G_2 hp_2 => ?_)
  obtain ⟨rfl, e9⟩ := hp_2
  rw [e9, decide_eq_false hin]
  refine jr_if_eq hX (tgt := 12) (by decide) dX5_empty_5 (fun c_5 => ?_) (fun c_5 => absurd rfl c_5)
  refine jr_iconst (v := 1) hX rfl dX5_empty_12 ?_
  refine jr_put (ci := 11) (k := 0) hX hxx rfl in_X5 (by decide) tyX5 tyX5_ok nmX5 q1730 rfl (by first | rfl | assumption) (by first | rfl | assumption) (Nat.le_of_ble_eq_true rfl) dX5_empty_13 ?_
  refine jr_aload_n (i := 0) hX rfl rfl dX5_empty_16 ?_
  refine jr_get (ci := 11) (k := 0) hX hx0 rfl in_X5 (by decide) q1730 rfl dX5_empty_17 ?_
  refine jr_if_le hX (tgt := 25) (by decide) dX5_empty_20 (fun c_20 => absurd c_20 (by decide)) (fun c_20 => ?_)
  refine jr_iconst (v := 0) hX rfl dX5_empty_23 ?_
  exact jr_iret hX hlk hr ⟨rfl, hR0, jFm.pt (mo_t31 hR) (by decide)⟩ dX5_empty_24

set_option maxHeartbeats 4000000 in
set_option maxRecDepth 100000 in
theorem mm_addE1 (l : Launch) (D : va_G) (s0 : State) (b0 : Nat) (A : Nat → Prop) (G : jG) (S : sSt) (th : Nat) (ad : jN) (T : jT) (hR : jMo D s0 b0 th S ad T G) (x : Int32) (hin : ¬ ((0 : Int32) ≤ x ∧ x ≤ 4)) (x2 x3 x4 x5 : Int32) : jM l yX5_add (ws_ yX5_add cX5_add 6 (some .int)) (jR 4 0 0) D s0 b0 A G [.ref (ad 31 0 0), .int x, .int x2, .int x3, .int x4, .int x5] (fun w G1 => w = some (.int 0) ∧ jMo D s0 b0 1 S ad T G1 ∧ jFm 31 60 T G T G1) := by
  have hxx := mo_x hR
  have hR0 := mo_wth hR 1
  have hx0 := mo_x hR0
  refine jM.of (by decide +kernel) (own := RX5) rfl (Nat.le_of_ble_eq_true rfl) ?_
  intro p e s m args below meth c hX hr hlk hnm
  refine jr_aload_n (i := 0) hX rfl rfl dX5_add_0 ?_
  refine jr_iload_n (i := 1) hX rfl rfl dX5_add_1 ?_
  refine jr_callS (As := [.int x]) (bc1 := (0)) (bs1 := (0)) hX (mm_isFunction l D s0 b0 A _ x) (va_cwS 1 hX.ts (lw_S q1781 q1782 q78 q1783) rfl rfl rfl (by decide +kernel) ⟨Nat.le_of_ble_eq_true rfl, Nat.le_of_ble_eq_true rfl⟩) rfl (Nat.le_of_ble_eq_true rfl) (by first | omega | (dsimp only; omega) | (show _ ≤ _; simp only []; omega)) (by first | omega | (dsimp only; omega) | (show _ ≤ _; simp only []; omega)) rfl dX5_add_2 (fun v_2 G_2 hp_2 => ?_)
  obtain ⟨rfl, e9⟩ := hp_2
  rw [e9, decide_eq_false hin]
  refine jr_if_eq hX (tgt := 20) (by decide) dX5_add_5 (fun c_5 => ?_) (fun c_5 => absurd rfl c_5)
  refine jr_iconst (v := 1) hX rfl dX5_add_20 ?_
  refine jr_goto hX (tgt := 42) (by decide) dX5_add_21 ?_
  refine jr_put (ci := 11) (k := 0) hX hxx rfl in_X5 (by decide) tyX5 tyX5_ok nmX5 q1730 rfl (by first | rfl | assumption) (by first | rfl | assumption) (Nat.le_of_ble_eq_true rfl) dX5_add_42 ?_
  refine jr_aload_n (i := 0) hX rfl rfl dX5_add_45 ?_
  refine jr_get (ci := 11) (k := 0) hX hx0 rfl in_X5 (by decide) q1730 rfl dX5_add_46 ?_
  refine jr_if_le hX (tgt := 54) (by decide) dX5_add_49 (fun c_49 => absurd c_49 (by decide)) (fun c_49 => ?_)
  refine jr_iconst (v := 0) hX rfl dX5_add_52 ?_
  exact jr_iret hX hlk hr ⟨rfl, hR0, jFm.pt (mo_t31 hR) (by decide)⟩ dX5_add_53

set_option maxHeartbeats 4000000 in
set_option maxRecDepth 100000 in
theorem mm_addE2 (l : Launch) (D : va_G) (s0 : State) (b0 : Nat) (A : Nat → Prop) (G : jG) (S : sSt) (th : Nat) (ad : jN) (T : jT) (hR : jMo D s0 b0 th S ad T G) (f : Nat) (hf : f < 5) (q : Nat) (hq : q < 12) (a b c9 : Int32) (hok : s_okc q a b c9 = false) : jM l yX5_add (ws_ yX5_add cX5_add 6 (some .int)) (jR 4 0 0) D s0 b0 A G [.ref (ad 31 0 0), .int (nI f), .int (jCL.getD q 0), .int a, .int b, .int c9] (fun w G1 => w = some (.int 0) ∧ jMo D s0 b0 1 S ad T G1 ∧ jFm 31 60 T G T G1) := by
  have hxx := mo_x hR
  have hR0 := mo_wth hR 1
  have hx0 := mo_x hR0
  have hin : (0 : Int32) ≤ nI f ∧ nI f ≤ 4 := ⟨nI_pos' (by omega), nI_le (b := 4) (by omega) (by omega)⟩
  refine jM.of (by decide +kernel) (own := RX5) rfl (Nat.le_of_ble_eq_true rfl) ?_
  intro p e s m args below meth c hX hr hlk hnm
  refine jr_aload_n (i := 0) hX rfl rfl dX5_add_0 ?_
  refine jr_iload_n (i := 1) hX rfl rfl dX5_add_1 ?_
  refine jr_callS (As := [.int (nI f)]) (bc1 := (0)) (bs1 := (0)) hX (mm_isFunction l D s0 b0 A _ (nI f)) (va_cwS 1 hX.ts (lw_S q1781 q1782 q78 q1783) rfl rfl rfl (by decide +kernel) ⟨Nat.le_of_ble_eq_true rfl, Nat.le_of_ble_eq_true rfl⟩) rfl (Nat.le_of_ble_eq_true rfl) (by first | omega | (dsimp only; omega) | (show _ ≤ _; simp only []; omega)) (by first | omega | (dsimp only; omega) | (show _ ≤ _; simp only []; omega)) rfl dX5_add_2 (fun v_2 G_2 hp_2 => ?_)
  obtain ⟨rfl, e9⟩ := hp_2
  rw [e9, decide_eq_true hin]
  refine jr_if_eq hX (tgt := 20) (by decide) dX5_add_5 (fun c_5 => absurd c_5 (by decide)) (fun c_5 => ?_)
  refine jr_iload_n (i := 2) hX rfl rfl dX5_add_8 ?_
  refine jr_iload_n (i := 3) hX rfl rfl dX5_add_9 ?_
  refine jr_iload hX rfl dX5_add_10 ?_
  refine jr_iload hX rfl dX5_add_12 ?_
  refine jr_callS (As := [.int (jCL.getD q 0), .int a, .int b, .int c9]) (bc1 := (0)) (bs1 := (0)) hX (mm_isCode l D s0 b0 A _ q hq a b c9) (va_cwS 4 hX.ts (lw_S q1787 q1788 q78 q1789) rfl rfl rfl (by decide +kernel) ⟨Nat.le_of_ble_eq_true rfl, Nat.le_of_ble_eq_true rfl⟩) rfl (Nat.le_of_ble_eq_true rfl) (by first | omega | (dsimp only; omega) | (show _ ≤ _; simp only []; omega)) (by first | omega | (dsimp only; omega) | (show _ ≤ _; simp only []; omega)) rfl dX5_add_14 (fun v_14 G_14 hp_14 => ?_)
  obtain ⟨rfl, e9⟩ := hp_14
  rw [e9, hok]
  refine jr_if_ne hX (tgt := 24) (by decide) dX5_add_17 (fun c_17 => absurd c_17 (fun z => z rfl)) (fun c_17 => ?_)
  refine jr_iconst (v := 1) hX rfl dX5_add_20 ?_
  refine jr_goto hX (tgt := 42) (by decide) dX5_add_21 ?_
  refine jr_put (ci := 11) (k := 0) hX hxx rfl in_X5 (by decide) tyX5 tyX5_ok nmX5 q1730 rfl (by first | rfl | assumption) (by first | rfl | assumption) (Nat.le_of_ble_eq_true rfl) dX5_add_42 ?_
  refine jr_aload_n (i := 0) hX rfl rfl dX5_add_45 ?_
  refine jr_get (ci := 11) (k := 0) hX hx0 rfl in_X5 (by decide) q1730 rfl dX5_add_46 ?_
  refine jr_if_le hX (tgt := 54) (by decide) dX5_add_49 (fun c_49 => absurd c_49 (by decide)) (fun c_49 => ?_)
  refine jr_iconst (v := 0) hX rfl dX5_add_52 ?_
  exact jr_iret hX hlk hr ⟨rfl, hR0, jFm.pt (mo_t31 hR) (by decide)⟩ dX5_add_53

set_option maxHeartbeats 4000000 in
set_option maxRecDepth 100000 in
theorem mm_addE3 (l : Launch) (D : va_G) (s0 : State) (b0 : Nat) (A : Nat → Prop) (G : jG) (S : sSt) (th : Nat) (ad : jN) (T : jT) (hR : jMo D s0 b0 th S ad T G) (hv : sWv S) (f : Nat) (hf : f < 5) (q : Nat) (hq : q < 12) (a b c9 : Int32) (hok : s_okc q a b c9 = true) (hl10 : ((s_dr0 S).1 f).length = 10) : jM l yX5_add (ws_ yX5_add cX5_add 6 (some .int)) (jR 4 0 0) D s0 b0 A G [.ref (ad 31 0 0), .int (nI f), .int (jCL.getD q 0), .int a, .int b, .int c9] (fun w G1 => w = some (.int 0) ∧ jMo D s0 b0 2 S ad T G1 ∧ jFm 31 60 T G T G1) := by
  have hxx := mo_x hR
  have hR0 := mo_wth hR 2
  have hx0 := mo_x hR0
  have hin : (0 : Int32) ≤ nI f ∧ nI f ≤ 4 := ⟨nI_pos' (by omega), nI_le (b := 4) (by omega) (by omega)⟩
  have hml : s_m S < (s_v S).length := by have := hv.1; show (s_v S).length - 1 < _; omega
  have hV0 := mo_ver hR hml
  have hl9 : ((s_ver S (s_m S)).1 f).length = 10 := hl10
  refine jM.of (by decide +kernel) (own := RX5) rfl (Nat.le_of_ble_eq_true rfl) ?_
  intro p e s m args below meth c hX hr hlk hnm
  refine jr_aload_n (i := 0) hX rfl rfl dX5_add_0 ?_
  refine jr_iload_n (i := 1) hX rfl rfl dX5_add_1 ?_
  refine jr_callS (As := [.int (nI f)]) (bc1 := (0)) (bs1 := (0)) hX (mm_isFunction l D s0 b0 A _ (nI f)) (va_cwS 1 hX.ts (lw_S q1781 q1782 q78 q1783) rfl rfl rfl (by decide +kernel) ⟨Nat.le_of_ble_eq_true rfl, Nat.le_of_ble_eq_true rfl⟩) rfl (Nat.le_of_ble_eq_true rfl) (by first | omega | (dsimp only; omega) | (show _ ≤ _; simp only []; omega)) (by first | omega | (dsimp only; omega) | (show _ ≤ _; simp only []; omega)) rfl dX5_add_2 (fun v_2 G_2 hp_2 => ?_)
  obtain ⟨rfl, e9⟩ := hp_2
  rw [e9, decide_eq_true hin]
  refine jr_if_eq hX (tgt := 20) (by decide) dX5_add_5 (fun c_5 => absurd c_5 (by decide)) (fun c_5 => ?_)
  refine jr_iload_n (i := 2) hX rfl rfl dX5_add_8 ?_
  refine jr_iload_n (i := 3) hX rfl rfl dX5_add_9 ?_
  refine jr_iload hX rfl dX5_add_10 ?_
  refine jr_iload hX rfl dX5_add_12 ?_
  refine jr_callS (As := [.int (jCL.getD q 0), .int a, .int b, .int c9]) (bc1 := (0)) (bs1 := (0)) hX (mm_isCode l D s0 b0 A _ q hq a b c9) (va_cwS 4 hX.ts (lw_S q1787 q1788 q78 q1789) rfl rfl rfl (by decide +kernel) ⟨Nat.le_of_ble_eq_true rfl, Nat.le_of_ble_eq_true rfl⟩) rfl (Nat.le_of_ble_eq_true rfl) (by first | omega | (dsimp only; omega) | (show _ ≤ _; simp only []; omega)) (by first | omega | (dsimp only; omega) | (show _ ≤ _; simp only []; omega)) rfl dX5_add_14 (fun v_14 G_14 hp_14 => ?_)
  obtain ⟨rfl, e9⟩ := hp_14
  rw [e9, hok]
  refine jr_if_ne hX (tgt := 24) (by decide) dX5_add_17 (fun c_17 => ?_) (fun c_17 => absurd c_17 (by decide))
  refine jr_aload_n (i := 0) hX rfl rfl dX5_add_24 ?_
  refine jr_get (ci := 11) (k := 2) hX hxx rfl in_X5 (by decide) q1732 rfl dX5_add_25 ?_
  refine jr_iload_n (i := 1) hX rfl rfl dX5_add_28 ?_
  refine jr_callV (As := [.int (nI f)]) (bc1 := (0)) (bs1 := (0)) hX (mm_length l D s0 b0 A _ S th ad T hR (s_m S) f hml hf) (cwV 1 hX.ts (lw_V q1793 q1794 q1795 q79 q1796) rfl rfl rfl (by decide +kernel) ⟨Nat.le_of_ble_eq_true rfl, Nat.le_of_ble_eq_true rfl⟩) hV0 rfl rfl (Nat.le_of_ble_eq_true rfl) (by first | omega | (dsimp only; omega) | (show _ ≤ _; simp only []; omega)) (by first | omega | (dsimp only; omega) | (show _ ≤ _; simp only []; omega)) rfl dX5_add_29 (fun v_29 G_29 hp_29 => ?_)
  obtain ⟨rfl, e9⟩ := hp_29
  rw [e9]
  refine jr_bipush (v := 10) hX (by decide) dX5_add_32 ?_
  refine jr_icmp_ne hX (tgt := 41) (by decide) dX5_add_34 (fun c_34 => absurd c_34 (fun z => z (by rw [hl9]; rfl))) (fun c_34 => ?_)
  refine jr_iconst (v := 2) hX rfl dX5_add_37 ?_
  refine jr_goto hX (tgt := 42) (by decide) dX5_add_38 ?_
  refine jr_put (ci := 11) (k := 0) hX hxx rfl in_X5 (by decide) tyX5 tyX5_ok nmX5 q1730 rfl (by first | rfl | assumption) (by first | rfl | assumption) (Nat.le_of_ble_eq_true rfl) dX5_add_42 ?_
  refine jr_aload_n (i := 0) hX rfl rfl dX5_add_45 ?_
  refine jr_get (ci := 11) (k := 0) hX hx0 rfl in_X5 (by decide) q1730 rfl dX5_add_46 ?_
  refine jr_if_le hX (tgt := 54) (by decide) dX5_add_49 (fun c_49 => absurd c_49 (by decide)) (fun c_49 => ?_)
  refine jr_iconst (v := 0) hX rfl dX5_add_52 ?_
  exact jr_iret hX hlk hr ⟨rfl, hR0, jFm.pt (mo_t31 hR) (by decide)⟩ dX5_add_53
