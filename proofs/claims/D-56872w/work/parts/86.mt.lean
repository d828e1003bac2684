/-! the model's readers -/
set_option maxHeartbeats 4000000 in
set_option maxRecDepth 100000 in
theorem mm_noObject (l : Launch) (D : va_G) (s0 : State) (b0 : Nat) (A : Nat → Prop) (G : jG) (S : sSt) (th : Nat) (ad : jN) (T : jT) (hR : jMo D s0 b0 th S ad T G) (x : Int32) : jM l yX5_noObject (ws_ yX5_noObject cX5_noObject 2 (some .boolean)) (jR 3 0 0) D s0 b0 A G [.ref (ad 31 0 0), .int x] (fun v G1 => v = some (.int (jbz (!decide ((0 : Int32) ≤ x ∧ x ≤ nI (s_o S).length - 1)))) ∧ jMo D s0 b0 (if (0 : Int32) ≤ x ∧ x ≤ nI (s_o S).length - 1 then 0 else 1) S ad T G1 ∧ jFm 31 60 T G T G1) := by
  have hxx := mo_x hR
  have hR0 := mo_wth hR 0
  have hR1 := mo_wth hR 1
  have hx0 := mo_x hR0
  have hx1 := mo_x hR1
  obtain ⟨moO, capO, eaO, hOL, -, -, -⟩ := mo_ths hR
  refine jM.of (by decide +kernel) (own := RX5) rfl (Nat.le_of_ble_eq_true rfl) ?_
  intro p e s m args below meth c hX hr hlk hnm
  refine jr_aload_n (i := 0) hX rfl rfl dX5_noObject_0 ?_
  refine jr_iload_n (i := 1) hX rfl rfl dX5_noObject_1 ?_
  refine jr_iconst (v := 0) hX rfl dX5_noObject_2 ?_
  refine jr_aload_n (i := 0) hX rfl rfl dX5_noObject_3 ?_
  refine jr_get (ci := 11) (k := 5) hX hxx rfl in_X5 (by decide) q1735 rfl dX5_noObject_4 ?_
  refine jr_callV (As := []) (bc1 := (0)) (bs1 := (0)) hX (met_size l D s0 b0 A _ (ad 32 2 0) (s_rg (s_o S).length (fun v => ad 46 v 0)) moO capO eaO hOL) (cwV 0 hX.ts (lw_V q1834 q410 q2205 q68 q412) rfl rfl rfl (by decide +kernel) ⟨Nat.le_of_ble_eq_true rfl, Nat.le_of_ble_eq_true rfl⟩) hOL.1 rfl rfl (Nat.le_of_ble_eq_true rfl) (by first | omega | (dsimp only; omega) | (show _ ≤ _; simp only []; omega)) (by first | omega | (dsimp only; omega) | (show _ ≤ _; simp only []; omega)) rfl dX5_noObject_7 (fun v_7 G_7 hp_7 => ?_)
  obtain ⟨rfl, e9⟩ := hp_7
  rw [e9, rg_len]
  refine jr_iconst (v := 1) hX rfl dX5_noObject_10 ?_
  refine jr_isub hX dX5_noObject_11 ?_
  refine jr_callS (As := [.int x, .int 0, .int (nI (s_o S).length - 1)]) (bc1 := (0)) (bs1 := (0)) hX (mm_in l D s0 b0 A _ x 0 (nI (s_o S).length - 1)) (va_cwS 3 hX.ts (lw_S q1784 q1785 q78 q1786) rfl rfl rfl (by decide +kernel) ⟨Nat.le_of_ble_eq_true rfl, Nat.le_of_ble_eq_true rfl⟩) rfl (Nat.le_of_ble_eq_true rfl) (by first | omega | (dsimp only; omega) | (show _ ≤ _; simp only []; omega)) (by first | omega | (dsimp only; omega) | (show _ ≤ _; simp only []; omega)) rfl dX5_noObject_12 (fun v_12 G_12 hp_12 => ?_)
  obtain ⟨rfl, e9⟩ := hp_12
  rw [e9]
  refine jr_if_eq hX (tgt := 22) (by decide) dX5_noObject_15 (fun c_15 => ?_) (fun c_15 => ?_)
  · refine jr_iconst (v := 1) hX rfl dX5_noObject_22 ?_
    refine jr_put (ci := 11) (k := 0) hX hxx rfl in_X5 (by decide) tyX5 tyX5_ok nmX5 q1730 rfl (by first | rfl | assumption) (by first | rfl | assumption) (Nat.le_of_ble_eq_true rfl) dX5_noObject_23 ?_
    refine jr_aload_n (i := 0) hX rfl rfl dX5_noObject_26 ?_
    first | (refine jr_get (ci := 11) (k := 0) hX hx0 rfl in_X5 (by decide) q1730 rfl dX5_noObject_27 ?_) | (refine jr_get (ci := 11) (k := 0) hX hx1 rfl in_X5 (by decide) q1730 rfl dX5_noObject_27 ?_)
    refine jr_if_le hX (tgt := 37) (by decide) dX5_noObject_30 (fun z => absurd z (by decide)) (fun _ => ?_)
    refine jr_iconst (v := 1) hX rfl dX5_noObject_33 ?_
    refine jr_goto hX (tgt := 38) (by decide) dX5_noObject_34 ?_
    exact jr_zret hX hlk hr (by decide) ⟨by rw [of_decide_eq_false (jbz_0 c_15) |> decide_eq_false]; rfl, by rw [if_neg (of_decide_eq_false (jbz_0 c_15))]; exact hR1, jFm.pt (mo_t31 hR) (by decide)⟩ dX5_noObject_38
  · refine jr_iconst (v := 0) hX rfl dX5_noObject_18 ?_
    refine jr_goto hX (tgt := 23) (by decide) dX5_noObject_19 ?_
    refine jr_put (ci := 11) (k := 0) hX hxx rfl in_X5 (by decide) tyX5 tyX5_ok nmX5 q1730 rfl (by first | rfl | assumption) (by first | rfl | assumption) (Nat.le_of_ble_eq_true rfl) dX5_noObject_23 ?_
    refine jr_aload_n (i := 0) hX rfl rfl dX5_noObject_26 ?_
    first | (refine jr_get (ci := 11) (k := 0) hX hx0 rfl in_X5 (by decide) q1730 rfl dX5_noObject_27 ?_) | (refine jr_get (ci := 11) (k := 0) hX hx1 rfl in_X5 (by decide) q1730 rfl dX5_noObject_27 ?_)
    refine jr_if_le hX (tgt := 37) (by decide) dX5_noObject_30 (fun _ => ?_) (fun z => absurd (by decide) z)
    refine jr_iconst (v := 0) hX rfl dX5_noObject_37 ?_
    exact jr_zret hX hlk hr (by decide) ⟨by rw [jbz_1 c_15]; rfl, by rw [if_pos (of_decide_eq_true (jbz_1 c_15))]; exact hR0, jFm.pt (mo_t31 hR) (by decide)⟩ dX5_noObject_38

set_option maxHeartbeats 4000000 in
set_option maxRecDepth 100000 in
theorem mm_noAmount (l : Launch) (D : va_G) (s0 : State) (b0 : Nat) (A : Nat → Prop) (G : jG) (S : sSt) (th : Nat) (ad : jN) (T : jT) (hR : jMo D s0 b0 th S ad T G) (x : Int32) : jM l yX5_noAmount (ws_ yX5_noAmount cX5_noAmount 2 (some .boolean)) (jR 3 0 0) D s0 b0 A G [.ref (ad 31 0 0), .int x] (fun v G1 => v = some (.int (jbz (!decide ((0 : Int32) ≤ x ∧ x ≤ nI (s_u S).length - 1)))) ∧ jMo D s0 b0 (if (0 : Int32) ≤ x ∧ x ≤ nI (s_u S).length - 1 then 0 else 1) S ad T G1 ∧ jFm 31 60 T G T G1) := by
  have hxx := mo_x hR
  have hR0 := mo_wth hR 0
  have hR1 := mo_wth hR 1
  have hx0 := mo_x hR0
  have hx1 := mo_x hR1
  obtain ⟨moU, capU, eaU, hUL, -, -, -⟩ := mo_am hR
  refine jM.of (by decide +kernel) (own := RX5) rfl (Nat.le_of_ble_eq_true rfl) ?_
  intro p e s m args below meth c hX hr hlk hnm
  refine jr_aload_n (i := 0) hX rfl rfl dX5_noAmount_0 ?_
  refine jr_iload_n (i := 1) hX rfl rfl dX5_noAmount_1 ?_
  refine jr_iconst (v := 0) hX rfl dX5_noAmount_2 ?_
  refine jr_aload_n (i := 0) hX rfl rfl dX5_noAmount_3 ?_
  refine jr_get (ci := 11) (k := 11) hX hxx rfl in_X5 (by decide) q1741 rfl dX5_noAmount_4 ?_
  refine jr_callV (As := []) (bc1 := (0)) (bs1 := (0)) hX (met_size l D s0 b0 A _ (ad 32 5 0) (s_rg (s_u S).length (fun v => jbx s0 b0 ((s_u S).getD v (0, 0)).1 (ad 49 v 0))) moU capU eaU hUL) (cwV 0 hX.ts (lw_V q1834 q410 q2205 q68 q412) rfl rfl rfl (by decide +kernel) ⟨Nat.le_of_ble_eq_true rfl, Nat.le_of_ble_eq_true rfl⟩) hUL.1 rfl rfl (Nat.le_of_ble_eq_true rfl) (by first | omega | (dsimp only; omega) | (show _ ≤ _; simp only []; omega)) (by first | omega | (dsimp only; omega) | (show _ ≤ _; simp only []; omega)) rfl dX5_noAmount_7 (fun v_7 G_7 hp_7 => ?_)
  obtain ⟨rfl, e9⟩ := hp_7
  rw [e9, rg_len]
  refine jr_iconst (v := 1) hX rfl dX5_noAmount_10 ?_
  refine jr_isub hX dX5_noAmount_11 ?_
  refine jr_callS (As := [.int x, .int 0, .int (nI (s_u S).length - 1)]) (bc1 := (0)) (bs1 := (0)) hX (mm_in l D s0 b0 A _ x 0 (nI (s_u S).length - 1)) (va_cwS 3 hX.ts (lw_S q1784 q1785 q78 q1786) rfl rfl rfl (by decide +kernel) ⟨Nat.le_of_ble_eq_true rfl, Nat.le_of_ble_eq_true rfl⟩) rfl (Nat.le_of_ble_eq_true rfl) (by first | omega | (dsimp only; omega) | (show _ ≤ _; simp only []; omega)) (by first | omega | (dsimp only; omega) | (show _ ≤ _; simp only []; omega)) rfl dX5_noAmount_12 (fun v_12 G_12 hp_12 => ?_)
  obtain ⟨rfl, e9⟩ := hp_12
  rw [e9]
  refine jr_if_eq hX (tgt := 22) (by decide) dX5_noAmount_15 (fun c_15 => ?_) (fun c_15 => ?_)
  · refine jr_iconst (v := 1) hX rfl dX5_noAmount_22 ?_
    refine jr_put (ci := 11) (k := 0) hX hxx rfl in_X5 (by decide) tyX5 tyX5_ok nmX5 q1730 rfl (by first | rfl | assumption) (by first | rfl | assumption) (Nat.le_of_ble_eq_true rfl) dX5_noAmount_23 ?_
    refine jr_aload_n (i := 0) hX rfl rfl dX5_noAmount_26 ?_
    first | (refine jr_get (ci := 11) (k := 0) hX hx0 rfl in_X5 (by decide) q1730 rfl dX5_noAmount_27 ?_) | (refine jr_get (ci := 11) (k := 0) hX hx1 rfl in_X5 (by decide) q1730 rfl dX5_noAmount_27 ?_)
    refine jr_if_le hX (tgt := 37) (by decide) dX5_noAmount_30 (fun z => absurd z (by decide)) (fun _ => ?_)
    refine jr_iconst (v := 1) hX rfl dX5_noAmount_33 ?_
    refine jr_goto hX (tgt := 38) (by decide) dX5_noAmount_34 ?_
    exact jr_zret hX hlk hr (by decide) ⟨by rw [of_decide_eq_false (jbz_0 c_15) |> decide_eq_false]; rfl, by rw [if_neg (of_decide_eq_false (jbz_0 c_15))]; exact hR1, jFm.pt (mo_t31 hR) (by decide)⟩ dX5_noAmount_38
  · refine jr_iconst (v := 0) hX rfl dX5_noAmount_18 ?_
    refine jr_goto hX (tgt := 23) (by decide) dX5_noAmount_19 ?_
    refine jr_put (ci := 11) (k := 0) hX hxx rfl in_X5 (by decide) tyX5 tyX5_ok nmX5 q1730 rfl (by first | rfl | assumption) (by first | rfl | assumption) (Nat.le_of_ble_eq_true rfl) dX5_noAmount_23 ?_
    refine jr_aload_n (i := 0) hX rfl rfl dX5_noAmount_26 ?_
    first | (refine jr_get (ci := 11) (k := 0) hX hx0 rfl in_X5 (by decide) q1730 rfl dX5_noAmount_27 ?_) | (refine jr_get (ci := 11) (k := 0) hX hx1 rfl in_X5 (by decide) q1730 rfl dX5_noAmount_27 ?_)
    refine jr_if_le hX (tgt := 37) (by decide) dX5_noAmount_30 (fun _ => ?_) (fun z => absurd (by decide) z)
    refine jr_iconst (v := 0) hX rfl dX5_noAmount_37 ?_
    exact jr_zret hX hlk hr (by decide) ⟨by rw [jbz_1 c_15]; rfl, by rw [if_pos (of_decide_eq_true (jbz_1 c_15))]; exact hR0, jFm.pt (mo_t31 hR) (by decide)⟩ dX5_noAmount_38

set_option maxHeartbeats 4000000 in
set_option maxRecDepth 100000 in
theorem mm_noFrame (l : Launch) (D : va_G) (s0 : State) (b0 : Nat) (A : Nat → Prop) (G : jG) (S : sSt) (th : Nat) (ad : jN) (T : jT) (hR : jMo D s0 b0 th S ad T G) (i : Nat) (hi3 : i < 3) (x : Int32) : jM l yX5_noFrame (ws_ yX5_noFrame cX5_noFrame 3 (some .boolean)) (jR 3 0 0) D s0 b0 A G [.ref (ad 31 0 0), .int (nI i), .int x] (fun v G1 => v = some (.int (jbz (!decide ((0 : Int32) ≤ x ∧ x ≤ nI (s_s S i).2.length - 1)))) ∧ jMo D s0 b0 (if (0 : Int32) ≤ x ∧ x ≤ nI (s_s S i).2.length - 1 then 0 else 2) S ad T G1 ∧ jFm 31 60 T G T G1) := by
  have hxx := mo_x hR
  have hR0 := mo_wth hR 0
  have hR1 := mo_wth hR 2
  have hx0 := mo_x hR0
  have hx1 := mo_x hR1
  obtain ⟨moL, capL, eaL, hLL, -, -, -⟩ := mo_lns hR
  obtain ⟨moF, capF, eaF, hFL, -, -, -⟩ := mo_frl hR hi3
  refine jM.of (by decide +kernel) (own := RX5) rfl (Nat.le_of_ble_eq_true rfl) ?_
  intro p e s m args below meth c hX hr hlk hnm
  refine jr_aload_n (i := 0) hX rfl rfl dX5_noFrame_0 ?_
  refine jr_iload_n (i := 2) hX rfl rfl dX5_noFrame_1 ?_
  refine jr_iconst (v := 0) hX rfl dX5_noFrame_2 ?_
  refine jr_aload_n (i := 0) hX rfl rfl dX5_noFrame_3 ?_
  refine jr_get (ci := 11) (k := 4) hX hxx rfl in_X5 (by decide) q1734 rfl dX5_noFrame_4 ?_
  refine jr_iload_n (i := 1) hX rfl rfl dX5_noFrame_7 ?_
  refine jr_callV (As := [.int (nI i)]) (bc1 := (0)) (bs1 := (0)) hX (met_get l D s0 b0 A _ (ad 32 1 0) (s_rg 3 (fun v => ad 35 v 0)) moL capL eaL hLL i (ad 35 i 0) (rg_at hi3)) (cwV 1 hX.ts (lw_V q1712 q304 q2203 q68 q306) rfl rfl rfl (by decide +kernel) ⟨Nat.le_of_ble_eq_true rfl, Nat.le_of_ble_eq_true rfl⟩) hLL.1 rfl rfl (Nat.le_of_ble_eq_true rfl) (by first | omega | (dsimp only; omega) | (show _ ≤ _; simp only []; omega)) (by first | omega | (dsimp only; omega) | (show _ ≤ _; simp only []; omega)) rfl dX5_noFrame_8 (fun v_8 G_8 hp_8 => ?_)
  obtain ⟨rfl, e9⟩ := hp_8
  rw [e9]
  refine jr_castS hX (mo_lan hR hi3) rfl q1713 dX5_noFrame_11 ?_
  refine jr_getN (ci := 13) (k := 1) hX (mo_lan hR hi3) rfl in_X7 (by decide) q1724 rfl dX5_noFrame_14 ?_
  refine jr_callV (As := []) (bc1 := (0)) (bs1 := (0)) hX (met_size l D s0 b0 A _ (ad 36 i 0) (s_rg (s_s S i).2.length (fun q => ad 38 i q)) moF capF eaF hFL) (cwV 0 hX.ts (lw_V q1834 q410 q2205 q68 q412) rfl rfl rfl (by decide +kernel) ⟨Nat.le_of_ble_eq_true rfl, Nat.le_of_ble_eq_true rfl⟩) hFL.1 rfl rfl (Nat.le_of_ble_eq_true rfl) (by first | omega | (dsimp only; omega) | (show _ ≤ _; simp only []; omega)) (by first | omega | (dsimp only; omega) | (show _ ≤ _; simp only []; omega)) rfl dX5_noFrame_17 (fun v_17 G_17 hp_17 => ?_)
  obtain ⟨rfl, e9⟩ := hp_17
  rw [e9, rg_len]
  refine jr_iconst (v := 1) hX rfl dX5_noFrame_20 ?_
  refine jr_isub hX dX5_noFrame_21 ?_
  refine jr_callS (As := [.int x, .int 0, .int (nI (s_s S i).2.length - 1)]) (bc1 := (0)) (bs1 := (0)) hX (mm_in l D s0 b0 A _ x 0 (nI (s_s S i).2.length - 1)) (va_cwS 3 hX.ts (lw_S q1784 q1785 q78 q1786) rfl rfl rfl (by decide +kernel) ⟨Nat.le_of_ble_eq_true rfl, Nat.le_of_ble_eq_true rfl⟩) rfl (Nat.le_of_ble_eq_true rfl) (by first | omega | (dsimp only; omega) | (show _ ≤ _; simp only []; omega)) (by first | omega | (dsimp only; omega) | (show _ ≤ _; simp only []; omega)) rfl dX5_noFrame_22 (fun v_22 G_22 hp_22 => ?_)
  obtain ⟨rfl, e9⟩ := hp_22
  rw [e9]
  refine jr_if_eq hX (tgt := 32) (by decide) dX5_noFrame_25 (fun c_25 => ?_) (fun c_25 => ?_)
  · refine jr_iconst (v := 2) hX rfl dX5_noFrame_32 ?_
    refine jr_put (ci := 11) (k := 0) hX hxx rfl in_X5 (by decide) tyX5 tyX5_ok nmX5 q1730 rfl (by first | rfl | assumption) (by first | rfl | assumption) (Nat.le_of_ble_eq_true rfl) dX5_noFrame_33 ?_
    refine jr_aload_n (i := 0) hX rfl rfl dX5_noFrame_36 ?_
    first | (refine jr_get (ci := 11) (k := 0) hX hx0 rfl in_X5 (by decide) q1730 rfl dX5_noFrame_37 ?_) | (refine jr_get (ci := 11) (k := 0) hX hx1 rfl in_X5 (by decide) q1730 rfl dX5_noFrame_37 ?_)
    refine jr_if_le hX (tgt := 47) (by decide) dX5_noFrame_40 (fun z => absurd z (by decide)) (fun _ => ?_)
    refine jr_iconst (v := 1) hX rfl dX5_noFrame_43 ?_
    refine jr_goto hX (tgt := 48) (by decide) dX5_noFrame_44 ?_
    exact jr_zret hX hlk hr (by decide) ⟨by rw [of_decide_eq_false (jbz_0 c_25) |> decide_eq_false]; rfl, by rw [if_neg (of_decide_eq_false (jbz_0 c_25))]; exact hR1, jFm.pt (mo_t31 hR) (by decide)⟩ dX5_noFrame_48
  · refine jr_iconst (v := 0) hX rfl dX5_noFrame_28 ?_
    refine jr_goto hX (tgt := 33) (by decide) dX5_noFrame_29 ?_
    refine jr_put (ci := 11) (k := 0) hX hxx rfl in_X5 (by decide) tyX5 tyX5_ok nmX5 q1730 rfl (by first | rfl | assumption) (by first | rfl | assumption) (Nat.le_of_ble_eq_true rfl) dX5_noFrame_33 ?_
    refine jr_aload_n (i := 0) hX rfl rfl dX5_noFrame_36 ?_
    first | (refine jr_get (ci := 11) (k := 0) hX hx0 rfl in_X5 (by decide) q1730 rfl dX5_noFrame_37 ?_) | (refine jr_get (ci := 11) (k := 0) hX hx1 rfl in_X5 (by decide) q1730 rfl dX5_noFrame_37 ?_)
    refine jr_if_le hX (tgt := 47) (by decide) dX5_noFrame_40 (fun _ => ?_) (fun z => absurd (by decide) z)
    refine jr_iconst (v := 0) hX rfl dX5_noFrame_47 ?_
    exact jr_zret hX hlk hr (by decide) ⟨by rw [jbz_1 c_25]; rfl, by rw [if_pos (of_decide_eq_true (jbz_1 c_25))]; exact hR0, jFm.pt (mo_t31 hR) (by decide)⟩ dX5_noFrame_48
