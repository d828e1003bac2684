/-! the model's readers of things, changes, puts, the table; watch -/
set_option maxHeartbeats 4000000 in
set_option maxRecDepth 100000 in
theorem mm_shapeC (l : Launch) (D : va_G) (s0 : State) (b0 : Nat) (A : Nat → Prop) (G : jG) (S : sSt) (th : Nat) (ad : jN) (T : jT) (hR : jMo D s0 b0 th S ad T G) (o : Nat) (t : sTh) (ht : (s_o S)[o]? = some t) (hol : (s_o S).length < 10000) : jM l yX5_shape (ws_ yX5_shape cX5_shape 2 (some .int)) (jR 5 0 0) D s0 b0 A G [.ref (ad 31 0 0), .int (nI o)] (fun w G1 => w = some (.int (nI t.1)) ∧ jMo D s0 b0 0 S ad T G1 ∧ jFm 31 60 T G T G1) := by
  have hxx := mo_x hR
  have ho9 := lt_ofl ht
  have hin := len_yes hol ho9
  refine jM.of (by decide +kernel) (own := RX5) rfl (Nat.le_of_ble_eq_true rfl) ?_
  intro p e s m args below meth c hX hr hlk hnm
  refine jr_aload_n (i := 0) hX rfl rfl dX5_shape_0 ?_
  refine jr_iload_n (i := 1) hX rfl rfl dX5_shape_1 ?_
  refine jr_callV (As := [.int (nI o)]) (bc1 := (0)) (bs1 := (0)) hX (mm_noObject l D s0 b0 A _ S th ad T hR (nI o)) (cwV 1 hX.ts (lw_V q2144 q2146 qs62 q78 q2147) rfl rfl rfl (by decide +kernel) ⟨Nat.le_of_ble_eq_true rfl, Nat.le_of_ble_eq_true rfl⟩) hxx rfl rfl (Nat.le_of_ble_eq_true rfl) (by first | omega | (dsimp only; omega) | (show _ ≤ _; simp only []; omega)) (by first | omega | (dsimp only; omega) | (show _ ≤ _; simp only []; omega)) rfl dX5_shape_2 (fun v_2 G_2 hp_2 => ?_)
  obtain ⟨rfl, hR1, hF1⟩ := hp_2
  rw [if_pos hin] at hR1
  rw [decide_eq_true hin]
  have hxx1 := mo_x hR1
  obtain ⟨moO, capO, eaO, hOL, -, -, -⟩ := mo_ths hR1
  refine jr_if_eq hX (tgt := 12) (by decide) dX5_shape_5 (fun c_5 => ?_) (fun c_5 => absurd rfl c_5)
  refine jr_aload_n (i := 0) hX rfl rfl dX5_shape_12 ?_
  refine jr_get (ci := 11) (k := 5) hX hxx1 rfl in_X5 (by decide) q1735 rfl dX5_shape_13 ?_
  refine jr_iload_n (i := 1) hX rfl rfl dX5_shape_16 ?_
  refine jr_callV (As := [.int (nI o)]) (bc1 := (0)) (bs1 := (0)) hX (met_get l D s0 b0 A _ (ad 32 2 0) (s_rg (s_o S).length (fun v => ad 46 v 0)) moO capO eaO hOL o (ad 46 o 0) (rg_at ho9)) (cwV 1 hX.ts (lw_V q1712 q304 q2203 q68 q306) rfl rfl rfl (by decide +kernel) ⟨Nat.le_of_ble_eq_true rfl, Nat.le_of_ble_eq_true rfl⟩) hOL.1 rfl rfl (Nat.le_of_ble_eq_true rfl) (by first | omega | (dsimp only; omega) | (show _ ≤ _; simp only []; omega)) (by first | omega | (dsimp only; omega) | (show _ ≤ _; simp only []; omega)) rfl dX5_shape_17 (fun v_17 G_17 hp_17 => ?_)
  obtain ⟨rfl, e9⟩ := hp_17
  rw [e9]
  refine jr_castS hX (mo_th hR1 ht) rfl q1959 dX5_shape_20 ?_
  refine jr_getN (ci := 16) (k := 1) hX (mo_th hR1 ht) rfl in_X17 (by decide) q1995 rfl dX5_shape_23 ?_
  exact jr_iret hX hlk hr ⟨rfl, hR1, hF1⟩ dX5_shape_26

set_option maxHeartbeats 4000000 in
set_option maxRecDepth 100000 in
theorem mm_shapeE (l : Launch) (D : va_G) (s0 : State) (b0 : Nat) (A : Nat → Prop) (G : jG) (S : sSt) (th : Nat) (ad : jN) (T : jT) (hR : jMo D s0 b0 th S ad T G) (x : Int32) (hin : ¬ ((0 : Int32) ≤ x ∧ x ≤ nI (s_o S).length - 1)) : jM l yX5_shape (ws_ yX5_shape cX5_shape 2 (some .int)) (jR 5 0 0) D s0 b0 A G [.ref (ad 31 0 0), .int x] (fun w G1 => w = some (.int 0) ∧ jMo D s0 b0 1 S ad T G1 ∧ jFm 31 60 T G T G1) := by
  have hxx := mo_x hR
  refine jM.of (by decide +kernel) (own := RX5) rfl (Nat.le_of_ble_eq_true rfl) ?_
  intro p e s m args below meth c hX hr hlk hnm
  refine jr_aload_n (i := 0) hX rfl rfl dX5_shape_0 ?_
  refine jr_iload_n (i := 1) hX rfl rfl dX5_shape_1 ?_
  refine jr_callV (As := [.int x]) (bc1 := (0)) (bs1 := (0)) hX (mm_noObject l D s0 b0 A _ S th ad T hR x) (cwV 1 hX.ts (lw_V q2144 q2146 qs62 q78 q2147) rfl rfl rfl (by decide +kernel) ⟨Nat.le_of_ble_eq_true rfl, Nat.le_of_ble_eq_true rfl⟩) hxx rfl rfl (Nat.le_of_ble_eq_true rfl) (by first | omega | (dsimp only; omega) | (show _ ≤ _; simp only []; omega)) (by first | omega | (dsimp only; omega) | (show _ ≤ _; simp only []; omega)) rfl dX5_shape_2 (fun v_2 G_2 hp_2 => ?_)
  obtain ⟨rfl, hR1, hF1⟩ := hp_2
  rw [if_neg hin] at hR1
  rw [decide_eq_false hin]
  have hxx1 := mo_x hR1
  obtain ⟨moO, capO, eaO, hOL, -, -, -⟩ := mo_ths hR1
  refine jr_if_eq hX (tgt := 12) (by decide) dX5_shape_5 (fun c_5 => absurd c_5 (by decide)) (fun c_5 => ?_)
  refine jr_iconst (v := 0) hX rfl dX5_shape_8 ?_
  refine jr_goto hX (tgt := 26) (by decide) dX5_shape_9 ?_
  exact jr_iret hX hlk hr ⟨rfl, hR1, hF1⟩ dX5_shape_26

set_option maxHeartbeats 4000000 in
set_option maxRecDepth 100000 in
theorem mm_fieldC (l : Launch) (D : va_G) (s0 : State) (b0 : Nat) (A : Nat → Prop) (G : jG) (S : sSt) (th : Nat) (ad : jN) (T : jT) (hR : jMo D s0 b0 th S ad T G) (o : Nat) (t : sTh) (ht : (s_o S)[o]? = some t) (hol : (s_o S).length < 10000) (f : Nat) (hf : f < (s_ver S t.1).2.1 t.2.1) (hf4 : (s_ver S t.1).2.1 t.2.1 ≤ 4) : jM l yX5_field (ws_ yX5_field cX5_field 4 (some .int)) (jR 5 0 0) D s0 b0 A G [.ref (ad 31 0 0), .int (nI o), .int (nI f)] (fun w G1 => w = some (.int (t.2.2 f)) ∧ jMo D s0 b0 0 S ad T G1 ∧ jFm 31 60 T G T G1) := by
  have hxx := mo_x hR
  have ho9 := lt_ofl ht
  have hin := len_yes hol ho9
  have hin2 := len_yes (n := (s_ver S t.1).2.1 t.2.1) (by omega) hf
  refine jM.of (by decide +kernel) (own := RX5) rfl (Nat.le_of_ble_eq_true rfl) ?_
  intro p e s m args below meth c hX hr hlk hnm
  refine jr_aload_n (i := 0) hX rfl rfl dX5_field_0 ?_
  refine jr_iload_n (i := 1) hX rfl rfl dX5_field_1 ?_
  refine jr_callV (As := [.int (nI o)]) (bc1 := (0)) (bs1 := (0)) hX (mm_noObject l D s0 b0 A _ S th ad T hR (nI o)) (cwV 1 hX.ts (lw_V q2144 q2146 qs62 q78 q2147) rfl rfl rfl (by decide +kernel) ⟨Nat.le_of_ble_eq_true rfl, Nat.le_of_ble_eq_true rfl⟩) hxx rfl rfl (Nat.le_of_ble_eq_true rfl) (by first | omega | (dsimp only; omega) | (show _ ≤ _; simp only []; omega)) (by first | omega | (dsimp only; omega) | (show _ ≤ _; simp only []; omega)) rfl dX5_field_2 (fun v_2 G_2 hp_2 => ?_)
  obtain ⟨rfl, hR1, hF1⟩ := hp_2
  rw [if_pos hin] at hR1
  rw [decide_eq_true hin]
  have hxx1 := mo_x hR1
  obtain ⟨moO, capO, eaO, hOL, -, -, -⟩ := mo_ths hR1
  refine jr_if_eq hX (tgt := 10) (by decide) dX5_field_5 (fun c_5 => ?_) (fun c_5 => absurd rfl c_5)
  refine jr_aload_n (i := 0) hX rfl rfl dX5_field_10 ?_
  refine jr_get (ci := 11) (k := 5) hX hxx1 rfl in_X5 (by decide) q1735 rfl dX5_field_11 ?_
  refine jr_iload_n (i := 1) hX rfl rfl dX5_field_14 ?_
  refine jr_callV (As := [.int (nI o)]) (bc1 := (0)) (bs1 := (0)) hX (met_get l D s0 b0 A _ (ad 32 2 0) (s_rg (s_o S).length (fun v => ad 46 v 0)) moO capO eaO hOL o (ad 46 o 0) (rg_at ho9)) (cwV 1 hX.ts (lw_V q1712 q304 q2203 q68 q306) rfl rfl rfl (by decide +kernel) ⟨Nat.le_of_ble_eq_true rfl, Nat.le_of_ble_eq_true rfl⟩) hOL.1 rfl rfl (Nat.le_of_ble_eq_true rfl) (by first | omega | (dsimp only; omega) | (show _ ≤ _; simp only []; omega)) (by first | omega | (dsimp only; omega) | (show _ ≤ _; simp only []; omega)) rfl dX5_field_15 (fun v_15 G_15 hp_15 => ?_)
  obtain ⟨rfl, e9⟩ := hp_15
  rw [e9]
  refine jr_castS hX (mo_th hR1 ht) rfl q1959 dX5_field_18 ?_
  refine jr_getN (ci := 16) (k := 2) hX (mo_th hR1 ht) rfl in_X17 (by decide) q1997 rfl dX5_field_21 ?_
  refine jr_astore_n (i := 3) hX rfl (by decide) rfl dX5_field_24 ?_
  refine jr_iload_n (i := 2) hX rfl rfl dX5_field_25 ?_
  refine jr_iconst (v := 0) hX rfl dX5_field_26 ?_
  refine jr_aload_n (i := 3) hX rfl rfl dX5_field_27 ?_
  refine jr_alen (t := 0) hX (mo_thf hR1 ht) rfl rfl dX5_field_28 ?_
  refine jr_iconst (v := 1) hX rfl dX5_field_29 ?_
  refine jr_isub hX dX5_field_30 ?_
  refine jr_callS (As := [.int (nI f), .int 0, .int (nI ((s_ver S t.1).2.1 t.2.1) - 1)]) (bc1 := (0)) (bs1 := (0)) hX (mm_in l D s0 b0 A _ (nI f) 0 (nI ((s_ver S t.1).2.1 t.2.1) - 1)) (va_cwS 3 hX.ts (lw_S q1784 q1785 q78 q1786) rfl rfl rfl (by decide +kernel) ⟨Nat.le_of_ble_eq_true rfl, Nat.le_of_ble_eq_true rfl⟩) rfl (Nat.le_of_ble_eq_true rfl) (by first | omega | (dsimp only; omega) | (show _ ≤ _; simp only []; omega)) (by first | omega | (dsimp only; omega) | (show _ ≤ _; simp only []; omega)) rfl dX5_field_31 (fun v_31 G_31 hp_31 => ?_)
  obtain ⟨rfl, e9⟩ := hp_31
  rw [e9, decide_eq_true hin2]
  refine jr_if_eq hX (tgt := 43) (by decide) dX5_field_34 (fun c_34 => absurd c_34 (by decide)) (fun c_34 => ?_)
  refine jr_aload_n (i := 3) hX rfl rfl dX5_field_37 ?_
  refine jr_iload_n (i := 2) hX rfl rfl dX5_field_38 ?_
  refine jr_iald hX (mo_thf hR1 ht) (vp_in_nI hf (by omega)) dX5_field_39 ?_
  rw [nI_clamp (by omega)]
  refine jr_goto hX (tgt := 48) (by decide) dX5_field_40 ?_
  exact jr_iret hX hlk hr ⟨rfl, hR1, hF1⟩ dX5_field_48

set_option maxHeartbeats 4000000 in
set_option maxRecDepth 100000 in
theorem mm_fieldE1 (l : Launch) (D : va_G) (s0 : State) (b0 : Nat) (A : Nat → Prop) (G : jG) (S : sSt) (th : Nat) (ad : jN) (T : jT) (hR : jMo D s0 b0 th S ad T G) (x : Int32) (hin : ¬ ((0 : Int32) ≤ x ∧ x ≤ nI (s_o S).length - 1)) (y : Int32) : jM l yX5_field (ws_ yX5_field cX5_field 4 (some .int)) (jR 5 0 0) D s0 b0 A G [.ref (ad 31 0 0), .int x, .int y] (fun w G1 => w = some (.int 0) ∧ jMo D s0 b0 1 S ad T G1 ∧ jFm 31 60 T G T G1) := by
  have hxx := mo_x hR
  refine jM.of (by decide +kernel) (own := RX5) rfl (Nat.le_of_ble_eq_true rfl) ?_
  intro p e s m args below meth c hX hr hlk hnm
  refine jr_aload_n (i := 0) hX rfl rfl dX5_field_0 ?_
  refine jr_iload_n (i := 1) hX rfl rfl dX5_field_1 ?_
  refine jr_callV (As := [.int x]) (bc1 := (0)) (bs1 := (0)) hX (mm_noObject l D s0 b0 A _ S th ad T hR x) (cwV 1 hX.ts (lw_V q2144 q2146 qs62 q78 q2147) rfl rfl rfl (by decide +kernel) ⟨Nat.le_of_ble_eq_true rfl, Nat.le_of_ble_eq_true rfl⟩) hxx rfl rfl (Nat.le_of_ble_eq_true rfl) (by first | omega | (dsimp only; omega) | (show _ ≤ _; simp only []; omega)) (by first | omega | (dsimp only; omega) | (show _ ≤ _; simp only []; omega)) rfl dX5_field_2 (fun v_2 G_2 hp_2 => ?_)
  obtain ⟨rfl, hR1, hF1⟩ := hp_2
  rw [if_neg hin] at hR1
  rw [decide_eq_false hin]
  have hxx1 := mo_x hR1
  obtain ⟨moO, capO, eaO, hOL, -, -, -⟩ := mo_ths hR1
  refine jr_if_eq hX (tgt := 10) (by decide) dX5_field_5 (fun c_5 => absurd c_5 (by decide)) (fun c_5 => ?_)
  refine jr_iconst (v := 0) hX rfl dX5_field_8 ?_
  exact jr_iret hX hlk hr ⟨rfl, hR1, hF1⟩ dX5_field_9

set_option maxHeartbeats 4000000 in
set_option maxRecDepth 100000 in
theorem mm_fieldE2 (l : Launch) (D : va_G) (s0 : State) (b0 : Nat) (A : Nat → Prop) (G : jG) (S : sSt) (th : Nat) (ad : jN) (T : jT) (hR : jMo D s0 b0 th S ad T G) (o : Nat) (t : sTh) (ht : (s_o S)[o]? = some t) (hol : (s_o S).length < 10000) (y : Int32) (hin2 : ¬ ((0 : Int32) ≤ y ∧ y ≤ nI ((s_ver S t.1).2.1 t.2.1) - 1)) : jM l yX5_field (ws_ yX5_field cX5_field 4 (some .int)) (jR 5 0 0) D s0 b0 A G [.ref (ad 31 0 0), .int (nI o), .int y] (fun w G1 => w = some (.int 0) ∧ jMo D s0 b0 1 S ad T G1 ∧ jFm 31 60 T G T G1) := by
  have hxx := mo_x hR
  have ho9 := lt_ofl ht
  have hin := len_yes hol ho9
  refine jM.of (by decide +kernel) (own := RX5) rfl (Nat.le_of_ble_eq_true rfl) ?_
  intro p e s m args below meth c hX hr hlk hnm
  refine jr_aload_n (i := 0) hX rfl rfl dX5_field_0 ?_
  refine jr_iload_n (i := 1) hX rfl rfl dX5_field_1 ?_
  refine jr_callV (As := [.int (nI o)]) (bc1 := (0)) (bs1 := (0)) hX (mm_noObject l D s0 b0 A _ S th ad T hR (nI o)) (cwV 1 hX.ts (lw_V q2144 q2146 qs62 q78 q2147) rfl rfl rfl (by decide +kernel) ⟨Nat.le_of_ble_eq_true rfl, Nat.le_of_ble_eq_true rfl⟩) hxx rfl rfl (Nat.le_of_ble_eq_true rfl) (by first | omega | (dsimp only; omega) | (show _ ≤ _; simp only []; omega)) (by first | omega | (dsimp only; omega) | (show _ ≤ _; simp only []; omega)) rfl dX5_field_2 (fun v_2 G_2 hp_2 => ?_)
  obtain ⟨rfl, hR1, hF1⟩ := hp_2
  rw [if_pos hin] at hR1
  rw [decide_eq_true hin]
  have hxx1 := mo_x hR1
  obtain ⟨moO, capO, eaO, hOL, -, -, -⟩ := mo_ths hR1
  refine jr_if_eq hX (tgt := 10) (by decide) dX5_field_5 (fun c_5 => ?_) (fun c_5 => absurd rfl c_5)
  refine jr_aload_n (i := 0) hX rfl rfl dX5_field_10 ?_
  refine jr_get (ci := 11) (k := 5) hX hxx1 rfl in_X5 (by decide) q1735 rfl dX5_field_11 ?_
  refine jr_iload_n (i := 1) hX rfl rfl dX5_field_14 ?_
  refine jr_callV (As := [.int (nI o)]) (bc1 := (0)) (bs1 := (0)) hX (met_get l D s0 b0 A _ (ad 32 2 0) (s_rg (s_o S).length (fun v => ad 46 v 0)) moO capO eaO hOL o (ad 46 o 0) (rg_at ho9)) (cwV 1 hX.ts (lw_V q1712 q304 q2203 q68 q306) rfl rfl rfl (by decide +kernel) ⟨Nat.le_of_ble_eq_true rfl, Nat.le_of_ble_eq_true rfl⟩) hOL.1 rfl rfl (Nat.le_of_ble_eq_true rfl) (by first | omega | (dsimp only; omega) | (show _ ≤ _; simp only []; omega)) (by first | omega | (dsimp only; omega) | (show _ ≤ _; simp only []; omega)) rfl dX5_field_15 (fun v_15 G_15 hp_15 => ?_)
  obtain ⟨rfl, e9⟩ := hp_15
  rw [e9]
  refine jr_castS hX (mo_th hR1 ht) rfl q1959 dX5_field_18 ?_
  refine jr_getN (ci := 16) (k := 2) hX (mo_th hR1 ht) rfl in_X17 (by decide) q1997 rfl dX5_field_21 ?_
  refine jr_astore_n (i := 3) hX rfl (by decide) rfl dX5_field_24 ?_
  refine jr_iload_n (i := 2) hX rfl rfl dX5_field_25 ?_
  refine jr_iconst (v := 0) hX rfl dX5_field_26 ?_
  refine jr_aload_n (i := 3) hX rfl rfl dX5_field_27 ?_
  refine jr_alen (t := 0) hX (mo_thf hR1 ht) rfl rfl dX5_field_28 ?_
  refine jr_iconst (v := 1) hX rfl dX5_field_29 ?_
  refine jr_isub hX dX5_field_30 ?_
  refine jr_callS (As := [.int y, .int 0, .int (nI ((s_ver S t.1).2.1 t.2.1) - 1)]) (bc1 := (0)) (bs1 := (0)) hX (mm_in l D s0 b0 A _ y 0 (nI ((s_ver S t.1).2.1 t.2.1) - 1)) (va_cwS 3 hX.ts (lw_S q1784 q1785 q78 q1786) rfl rfl rfl (by decide +kernel) ⟨Nat.le_of_ble_eq_true rfl, Nat.le_of_ble_eq_true rfl⟩) rfl (Nat.le_of_ble_eq_true rfl) (by first | omega | (dsimp only; omega) | (show _ ≤ _; simp only []; omega)) (by first | omega | (dsimp only; omega) | (show _ ≤ _; simp only []; omega)) rfl dX5_field_31 (fun v_31 G_31 hp_31 => ?_)
  obtain ⟨rfl, e9⟩ := hp_31
  rw [e9, decide_eq_false hin2]
  refine jr_if_eq hX (tgt := 43) (by decide) dX5_field_34 (fun c_34 => ?_) (fun c_34 => absurd rfl c_34)
  refine jr_aload_n (i := 0) hX rfl rfl dX5_field_43 ?_
  refine jr_iconst (v := 1) hX rfl dX5_field_44 ?_
  refine jr_callV (As := [.int (nI 1)]) (bc1 := (0)) (bs1 := (0)) hX (mm_raises l D s0 b0 A _ S 0 ad T hR1 1) (cwV 1 hX.ts (lw_V q1876 q1878 qs41 q78 q1879) rfl rfl rfl (by decide +kernel) ⟨Nat.le_of_ble_eq_true rfl, Nat.le_of_ble_eq_true rfl⟩) (mo_x hR1) rfl rfl (Nat.le_of_ble_eq_true rfl) (by first | omega | (dsimp only; omega) | (show _ ≤ _; simp only []; omega)) (by first | omega | (dsimp only; omega) | (show _ ≤ _; simp only []; omega)) rfl dX5_field_45 (fun v_45 G_45 hp_45 => ?_)
  obtain ⟨rfl, hR2, hF2⟩ := hp_45
  have hF3 := hF1.trans hF2
  exact jr_iret hX hlk hr ⟨rfl, hR2, hF3⟩ dX5_field_48

set_option maxHeartbeats 4000000 in
set_option maxRecDepth 100000 in
theorem mm_entryC (l : Launch) (D : va_G) (s0 : State) (b0 : Nat) (A : Nat → Prop) (G : jG) (S : sSt) (th : Nat) (ad : jN) (T : jT) (hR : jMo D s0 b0 th S ad T G) (q : Nat) (hq : q < 4) : jM l yX5_entry (ws_ yX5_entry cX5_entry 2 (some .int)) (jR 1 0 0) D s0 b0 A G [.ref (ad 31 0 0), .int (nI q)] (fun w G1 => w = some (.int (nI (s_t S q))) ∧ jMo D s0 b0 0 S ad T G1 ∧ jFm 31 60 T G T G1) := by
  have hxx := mo_x hR
  have hR0 := mo_wth hR 0
  have hx0 := mo_x hR0
  have hin : (0 : Int32) ≤ nI q ∧ nI q ≤ 3 := ⟨nI_pos' (by omega), nI_le (b := 3) (by omega) (by omega)⟩
  refine jM.of (by decide +kernel) (own := RX5) rfl (Nat.le_of_ble_eq_true rfl) ?_
  intro p e s m args below meth c hX hr hlk hnm
  refine jr_aload_n (i := 0) hX rfl rfl dX5_entry_0 ?_
  refine jr_iload_n (i := 1) hX rfl rfl dX5_entry_1 ?_
  refine jr_iconst (v := 0) hX rfl dX5_entry_2 ?_
  refine jr_iconst (v := 3) hX rfl dX5_entry_3 ?_
  refine jr_callS (As := [.int (nI q), .int 0, .int 3]) (bc1 := (0)) (bs1 := (0)) hX (mm_in l D s0 b0 A _ (nI q) 0 3) (va_cwS 3 hX.ts (lw_S q1784 q1785 q78 q1786) rfl rfl rfl (by decide +kernel) ⟨Nat.le_of_ble_eq_true rfl, Nat.le_of_ble_eq_true rfl⟩) rfl (Nat.le_of_ble_eq_true rfl) (by first | omega | (dsimp only; omega) | (show _ ≤ _; simp only []; omega)) (by first | omega | (dsimp only; omega) | (show _ ≤ _; simp only []; omega)) rfl dX5_entry_4 (fun v_4 G_4 hp_4 => ?_)
  obtain ⟨rfl, e9⟩ := hp_4
  rw [e9, decide_eq_true hin]
  refine jr_if_eq hX (tgt := 14) (by decide) dX5_entry_7 (fun c_7 => absurd c_7 (by decide)) (fun c_7 => ?_)
  refine jr_iconst (v := 0) hX rfl dX5_entry_10 ?_
  refine jr_goto hX (tgt := 15) (by decide) dX5_entry_11 ?_
  refine jr_put (ci := 11) (k := 0) hX hxx rfl in_X5 (by decide) tyX5 tyX5_ok nmX5 q1730 rfl (by first | rfl | assumption) (by first | rfl | assumption) (Nat.le_of_ble_eq_true rfl) dX5_entry_15 ?_
  refine jr_aload_n (i := 0) hX rfl rfl dX5_entry_18 ?_
  refine jr_get (ci := 11) (k := 0) hX hx0 rfl in_X5 (by decide) q1730 rfl dX5_entry_19 ?_
  refine jr_if_le hX (tgt := 29) (by decide) dX5_entry_22 (fun c_22 => ?_) (fun c_22 => absurd (by decide) c_22)
  refine jr_aload_n (i := 0) hX rfl rfl dX5_entry_29 ?_
  refine jr_get (ci := 11) (k := 6) hX hx0 rfl in_X5 (by decide) q1736 rfl dX5_entry_30 ?_
  refine jr_iload_n (i := 1) hX rfl rfl dX5_entry_33 ?_
  refine jr_iald hX (mo_tbl hR0) (vp_in_nI hq (by omega)) dX5_entry_34 ?_
  rw [nI_clamp (by omega)]
  exact jr_iret hX hlk hr ⟨rfl, hR0, jFm.pt (mo_t31 hR) (by decide)⟩ dX5_entry_35

set_option maxHeartbeats 4000000 in
set_option maxRecDepth 100000 in
theorem mm_entryE (l : Launch) (D : va_G) (s0 : State) (b0 : Nat) (A : Nat → Prop) (G : jG) (S : sSt) (th : Nat) (ad : jN) (T : jT) (hR : jMo D s0 b0 th S ad T G) (x : Int32) (hin : ¬ ((0 : Int32) ≤ x ∧ x ≤ 3)) : jM l yX5_entry (ws_ yX5_entry cX5_entry 2 (some .int)) (jR 1 0 0) D s0 b0 A G [.ref (ad 31 0 0), .int x] (fun w G1 => w = some (.int 0) ∧ jMo D s0 b0 1 S ad T G1 ∧ jFm 31 60 T G T G1) := by
  have hxx := mo_x hR
  have hR0 := mo_wth hR 1
  have hx0 := mo_x hR0
  refine jM.of (by decide +kernel) (own := RX5) rfl (Nat.le_of_ble_eq_true rfl) ?_
  intro p e s m args below meth c hX hr hlk hnm
  refine jr_aload_n (i := 0) hX rfl rfl dX5_entry_0 ?_
  refine jr_iload_n (i := 1) hX rfl rfl dX5_entry_1 ?_
  refine jr_iconst (v := 0) hX rfl dX5_entry_2 ?_
  refine jr_iconst (v := 3) hX rfl dX5_entry_3 ?_
  refine jr_callS (As := [.int x, .int 0, .int 3]) (bc1 := (0)) (bs1 := (0)) hX (mm_in l D s0 b0 A _ x 0 3) (va_cwS 3 hX.ts (lw_S q1784 q1785 q78 q1786) rfl rfl rfl (by decide +kernel) ⟨Nat.le_of_ble_eq_true rfl, Nat.le_of_ble_eq_true rfl⟩) rfl (Nat.le_of_ble_eq_true rfl) (by first | omega | (dsimp only; omega) | (show _ ≤ _; simp only []; omega)) (by first | omega | (dsimp only; omega) | (show _ ≤ _; simp only []; omega)) rfl dX5_entry_4 (fun v_4 G_4 hp_4 => ?_)
  obtain ⟨rfl, e9⟩ := hp_4
  rw [e9, decide_eq_false hin]
  refine jr_if_eq hX (tgt := 14) (by decide) dX5_entry_7 (fun c_7 => ?_) (fun c_7 => absurd rfl c_7)
  refine jr_iconst (v := 1) hX rfl dX5_entry_14 ?_
  refine jr_put (ci := 11) (k := 0) hX hxx rfl in_X5 (by decide) tyX5 tyX5_ok nmX5 q1730 rfl (by first | rfl | assumption) (by first | rfl | assumption) (Nat.le_of_ble_eq_true rfl) dX5_entry_15 ?_
  refine jr_aload_n (i := 0) hX rfl rfl dX5_entry_18 ?_
  refine jr_get (ci := 11) (k := 0) hX hx0 rfl in_X5 (by decide) q1730 rfl dX5_entry_19 ?_
  refine jr_if_le hX (tgt := 29) (by decide) dX5_entry_22 (fun c_22 => absurd c_22 (by decide)) (fun c_22 => ?_)
  refine jr_iconst (v := 0) hX rfl dX5_entry_25 ?_
  refine jr_goto hX (tgt := 35) (by decide) dX5_entry_26 ?_
  exact jr_iret hX hlk hr ⟨rfl, hR0, jFm.pt (mo_t31 hR) (by decide)⟩ dX5_entry_35

set_option maxHeartbeats 4000000 in
set_option maxRecDepth 100000 in
theorem mm_changedC (l : Launch) (D : va_G) (s0 : State) (b0 : Nat) (A : Nat → Prop) (G : jG) (S : sSt) (th : Nat) (ad : jN) (T : jT) (hR : jMo D s0 b0 th S ad T G) (ci : Nat) (ch : sCh) (hch : (s_c S)[ci]? = some ch) (hcl : (s_c S).length < 10000) (hcs : ch.2.2.2.2 < 1000) : jM l yX5_changed (ws_ yX5_changed cX5_changed 2 (some .char)) (jR 3 0 0) D s0 b0 A G [.ref (ad 31 0 0), .int (nI ci)] (fun w G1 => w = some (.int (nI ch.2.2.2.2)) ∧ jMo D s0 b0 0 S ad T G1 ∧ jFm 31 60 T G T G1) := by
  have hxx := mo_x hR
  have hR0 := mo_wth hR 0
  have hx0 := mo_x hR0
  obtain ⟨moH, capH, eaH, hHL, -, -, -⟩ := mo_chs hR
  have hin := len_yes hcl (lt_ofl hch)
  obtain ⟨moI, capI, eaI, hIL, -, -, -⟩ := mo_chs hR0
  refine jM.of (by decide +kernel) (own := RX5) rfl (Nat.le_of_ble_eq_true rfl) ?_
  intro p e s m args below meth c hX hr hlk hnm
  refine jr_aload_n (i := 0) hX rfl rfl dX5_changed_0 ?_
  refine jr_iload_n (i := 1) hX rfl rfl dX5_changed_1 ?_
  refine jr_iconst (v := 0) hX rfl dX5_changed_2 ?_
  refine jr_aload_n (i := 0) hX rfl rfl dX5_changed_3 ?_
  refine jr_get (ci := 11) (k := 7) hX hxx rfl in_X5 (by decide) q1737 rfl dX5_changed_4 ?_
  refine jr_callV (As := []) (bc1 := (0)) (bs1 := (0)) hX (met_size l D s0 b0 A _ (ad 32 3 0) (s_rg (s_c S).length (fun v => ad 48 v 0)) moH capH eaH hHL) (cwV 0 hX.ts (lw_V q1834 q410 q2205 q68 q412) rfl rfl rfl (by decide +kernel) ⟨Nat.le_of_ble_eq_true rfl, Nat.le_of_ble_eq_true rfl⟩) hHL.1 rfl rfl (Nat.le_of_ble_eq_true rfl) (by first | omega | (dsimp only; omega) | (show _ ≤ _; simp only []; omega)) (by first | omega | (dsimp only; omega) | (show _ ≤ _; simp only []; omega)) rfl dX5_changed_7 (fun v_7 G_7 hp_7 => ?_)
  obtain ⟨rfl, e9⟩ := hp_7
  rw [e9, rg_len]
  refine jr_iconst (v := 1) hX rfl dX5_changed_10 ?_
  refine jr_isub hX dX5_changed_11 ?_
  refine jr_callS (As := [.int (nI ci), .int 0, .int (nI (s_c S).length - 1)]) (bc1 := (0)) (bs1 := (0)) hX (mm_in l D s0 b0 A _ (nI ci) 0 (nI (s_c S).length - 1)) (va_cwS 3 hX.ts (lw_S q1784 q1785 q78 q1786) rfl rfl rfl (by decide +kernel) ⟨Nat.le_of_ble_eq_true rfl, Nat.le_of_ble_eq_true rfl⟩) rfl (Nat.le_of_ble_eq_true rfl) (by first | omega | (dsimp only; omega) | (show _ ≤ _; simp only []; omega)) (by first | omega | (dsimp only; omega) | (show _ ≤ _; simp only []; omega)) rfl dX5_changed_12 (fun v_12 G_12 hp_12 => ?_)
  obtain ⟨rfl, e9⟩ := hp_12
  rw [e9, decide_eq_true hin]
  refine jr_if_eq hX (tgt := 22) (by decide) dX5_changed_15 (fun c_15 => absurd c_15 (by decide)) (fun c_15 => ?_)
  refine jr_iconst (v := 0) hX rfl dX5_changed_18 ?_
  refine jr_goto hX (tgt := 23) (by decide) dX5_changed_19 ?_
  refine jr_put (ci := 11) (k := 0) hX hxx rfl in_X5 (by decide) tyX5 tyX5_ok nmX5 q1730 rfl (by first | rfl | assumption) (by first | rfl | assumption) (Nat.le_of_ble_eq_true rfl) dX5_changed_23 ?_
  refine jr_aload_n (i := 0) hX rfl rfl dX5_changed_26 ?_
  refine jr_get (ci := 11) (k := 0) hX hx0 rfl in_X5 (by decide) q1730 rfl dX5_changed_27 ?_
  refine jr_if_le hX (tgt := 38) (by decide) dX5_changed_30 (fun c_30 => ?_) (fun c_30 => absurd (by decide) c_30)
  refine jr_aload_n (i := 0) hX rfl rfl dX5_changed_38 ?_
  refine jr_get (ci := 11) (k := 7) hX hx0 rfl in_X5 (by decide) q1737 rfl dX5_changed_39 ?_
  refine jr_iload_n (i := 1) hX rfl rfl dX5_changed_42 ?_
  refine jr_callV (As := [.int (nI ci)]) (bc1 := (0)) (bs1 := (0)) hX (met_get l D s0 b0 A _ (ad 32 3 0) (s_rg (s_c S).length (fun v => ad 48 v 0)) moI capI eaI hIL ci (ad 48 ci 0) (rg_at (lt_ofl hch))) (cwV 1 hX.ts (lw_V q1712 q304 q2203 q68 q306) rfl rfl rfl (by decide +kernel) ⟨Nat.le_of_ble_eq_true rfl, Nat.le_of_ble_eq_true rfl⟩) hIL.1 rfl rfl (Nat.le_of_ble_eq_true rfl) (by first | omega | (dsimp only; omega) | (show _ ≤ _; simp only []; omega)) (by first | omega | (dsimp only; omega) | (show _ ≤ _; simp only []; omega)) rfl dX5_changed_43 (fun v_43 G_43 hp_43 => ?_)
  obtain ⟨rfl, e9⟩ := hp_43
  rw [e9]
  refine jr_castS hX (mo_ch hR0 hch) rfl q1920 dX5_changed_46 ?_
  refine jr_getN (ci := 17) (k := 5) hX (mo_ch hR0 hch) rfl in_X18 (by decide) q2061 rfl dX5_changed_49 ?_
  exact jr_zret hX hlk hr (nI_nc hcs) ⟨rfl, hR0, jFm.pt (mo_t31 hR) (by decide)⟩ dX5_changed_52

set_option maxHeartbeats 4000000 in
set_option maxRecDepth 100000 in
theorem mm_changedE (l : Launch) (D : va_G) (s0 : State) (b0 : Nat) (A : Nat → Prop) (G : jG) (S : sSt) (th : Nat) (ad : jN) (T : jT) (hR : jMo D s0 b0 th S ad T G) (x : Int32) (hin : ¬ ((0 : Int32) ≤ x ∧ x ≤ nI (s_c S).length - 1)) : jM l yX5_changed (ws_ yX5_changed cX5_changed 2 (some .char)) (jR 3 0 0) D s0 b0 A G [.ref (ad 31 0 0), .int x] (fun w G1 => w = some (.int 32) ∧ jMo D s0 b0 1 S ad T G1 ∧ jFm 31 60 T G T G1) := by
  have hxx := mo_x hR
  have hR0 := mo_wth hR 1
  have hx0 := mo_x hR0
  obtain ⟨moH, capH, eaH, hHL, -, -, -⟩ := mo_chs hR
  refine jM.of (by decide +kernel) (own := RX5) rfl (Nat.le_of_ble_eq_true rfl) ?_
  intro p e s m args below meth c hX hr hlk hnm
  refine jr_aload_n (i := 0) hX rfl rfl dX5_changed_0 ?_
  refine jr_iload_n (i := 1) hX rfl rfl dX5_changed_1 ?_
  refine jr_iconst (v := 0) hX rfl dX5_changed_2 ?_
  refine jr_aload_n (i := 0) hX rfl rfl dX5_changed_3 ?_
  refine jr_get (ci := 11) (k := 7) hX hxx rfl in_X5 (by decide) q1737 rfl dX5_changed_4 ?_
  refine jr_callV (As := []) (bc1 := (0)) (bs1 := (0)) hX (met_size l D s0 b0 A _ (ad 32 3 0) (s_rg (s_c S).length (fun v => ad 48 v 0)) moH capH eaH hHL) (cwV 0 hX.ts (lw_V q1834 q410 q2205 q68 q412) rfl rfl rfl (by decide +kernel) ⟨Nat.le_of_ble_eq_true rfl, Nat.le_of_ble_eq_true rfl⟩) hHL.1 rfl rfl (Nat.le_of_ble_eq_true rfl) (by first | omega | (dsimp only; omega) | (show _ ≤ _; simp only []; omega)) (by first | omega | (dsimp only; omega) | (show _ ≤ _; simp only []; omega)) rfl dX5_changed_7 (fun v_7 G_7 hp_7 => ?_)
  obtain ⟨rfl, e9⟩ := hp_7
  rw [e9, rg_len]
  refine jr_iconst (v := 1) hX rfl dX5_changed_10 ?_
  refine jr_isub hX dX5_changed_11 ?_
  refine jr_callS (As := [.int x, .int 0, .int (nI (s_c S).length - 1)]) (bc1 := (0)) (bs1 := (0)) hX (mm_in l D s0 b0 A _ x 0 (nI (s_c S).length - 1)) (va_cwS 3 hX.ts (lw_S q1784 q1785 q78 q1786) rfl rfl rfl (by decide +kernel) ⟨Nat.le_of_ble_eq_true rfl, Nat.le_of_ble_eq_true rfl⟩) rfl (Nat.le_of_ble_eq_true rfl) (by first | omega | (dsimp only; omega) | (show _ ≤ _; simp only []; omega)) (by first | omega | (dsimp only; omega) | (show _ ≤ _; simp only []; omega)) rfl dX5_changed_12 (fun v_12 G_12 hp_12 => ?_)
  obtain ⟨rfl, e9⟩ := hp_12
  rw [e9, decide_eq_false hin]
  refine jr_if_eq hX (tgt := 22) (by decide) dX5_changed_15 (fun c_15 => ?_) (fun c_15 => absurd rfl c_15)
  refine jr_iconst (v := 1) hX rfl dX5_changed_22 ?_
  refine jr_put (ci := 11) (k := 0) hX hxx rfl in_X5 (by decide) tyX5 tyX5_ok nmX5 q1730 rfl (by first | rfl | assumption) (by first | rfl | assumption) (Nat.le_of_ble_eq_true rfl) dX5_changed_23 ?_
  refine jr_aload_n (i := 0) hX rfl rfl dX5_changed_26 ?_
  refine jr_get (ci := 11) (k := 0) hX hx0 rfl in_X5 (by decide) q1730 rfl dX5_changed_27 ?_
  refine jr_if_le hX (tgt := 38) (by decide) dX5_changed_30 (fun c_30 => absurd c_30 (by decide)) (fun c_30 => ?_)
  refine jr_bipush (v := 32) hX (by decide) dX5_changed_33 ?_
  refine jr_goto hX (tgt := 52) (by decide) dX5_changed_35 ?_
  exact jr_zret hX hlk hr (by decide) ⟨rfl, hR0, jFm.pt (mo_t31 hR) (by decide)⟩ dX5_changed_52

set_option maxHeartbeats 4000000 in
set_option maxRecDepth 100000 in
theorem mm_watchC (l : Launch) (D : va_G) (s0 : State) (b0 : Nat) (A : Nat → Prop) (G : jG) (S : sSt) (th : Nat) (ad : jN) (T : jT) (hR : jMo D s0 b0 th S ad T G) (x : Int32) : jM l yX5_watch (ws_ yX5_watch cX5_watch 3 (some .boolean)) (jR 0 0 0) D s0 b0 A G [.ref (ad 31 0 0), .int x] (fun w G1 => w = some (.int (jbz (s_w S))) ∧ jMo D s0 b0 0 (sw_l (sw_w S true) x) ad T G1 ∧ jFm 31 60 T G T G1) := by
  have hxx := mo_x hR
  have hR0 := mo_wth hR 0
  have hx0 := mo_x hR0
  have hRw := mo_ww hR0 true
  have hxw := mo_x hRw
  have hRl := mo_wl hRw x
  refine jM.of (by decide +kernel) (own := RX5) rfl (Nat.le_of_ble_eq_true rfl) ?_
  intro p e s m args below meth c hX hr hlk hnm
  refine jr_aload_n (i := 0) hX rfl rfl dX5_watch_0 ?_
  refine jr_iconst (v := 0) hX rfl dX5_watch_1 ?_
  refine jr_put (ci := 11) (k := 0) hX hxx rfl in_X5 (by decide) tyX5 tyX5_ok nmX5 q1730 rfl (by first | rfl | assumption) (by first | rfl | assumption) (Nat.le_of_ble_eq_true rfl) dX5_watch_2 ?_
  refine jr_aload_n (i := 0) hX rfl rfl dX5_watch_5 ?_
  refine jr_get (ci := 11) (k := 9) hX hx0 rfl in_X5 (by decide) q1739 rfl dX5_watch_6 ?_
  refine jr_istore_n (i := 2) hX rfl (by decide) rfl dX5_watch_9 ?_
  refine jr_aload_n (i := 0) hX rfl rfl dX5_watch_10 ?_
  refine jr_iconst (v := 1) hX rfl dX5_watch_11 ?_
  refine jr_put (ci := 11) (k := 9) hX hx0 rfl in_X5 (by decide) tyX5 tyX5_ok nmX5 q1739 rfl (by first | rfl | assumption) (by first | rfl | assumption) (Nat.le_of_ble_eq_true rfl) dX5_watch_12 ?_
  refine jr_aload_n (i := 0) hX rfl rfl dX5_watch_15 ?_
  refine jr_iload_n (i := 1) hX rfl rfl dX5_watch_16 ?_
  refine jr_put (ci := 11) (k := 10) hX hxw rfl in_X5 (by decide) tyX5 tyX5_ok nmX5 q1740 rfl (by first | rfl | assumption) (by first | rfl | assumption) (Nat.le_of_ble_eq_true rfl) dX5_watch_17 ?_
  refine jr_iload_n (i := 2) hX rfl rfl dX5_watch_20 ?_
  exact jr_zret hX hlk hr (jbz_n _) ⟨rfl, hRl, ((jFm.pt (mo_t31 hR) (by decide)).trans (jFm.pt (mo_t31 hR0) (by decide))).trans (jFm.pt (mo_t31 hRw) (by decide))⟩ dX5_watch_21
