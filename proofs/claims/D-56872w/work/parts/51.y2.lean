/-! the model's small methods -/
set_option maxHeartbeats 4000000 in
set_option maxRecDepth 100000 in
theorem mm_in (l : Launch) (D : va_G) (s0 : State) (b0 : Nat) (A : Nat → Prop) (G : jG) (x a b : Int32) : jM l yX5_in (ws_ yX5_in cX5_in 3 (some .boolean)) (jR 0 0 0) D s0 b0 A G [.int x, .int a, .int b] (fun v G1 => v = some (.int (jbz (decide (a ≤ x ∧ x ≤ b)))) ∧ G1 = G) := by
  refine jM.of (by decide +kernel) (own := RX5) rfl (Nat.le_of_ble_eq_true rfl) ?_
  intro p e s m args below meth c hX hr hlk hnm
  refine jr_iload_n (i := 0) hX rfl rfl dX5_in_0 ?_
  refine jr_iload_n (i := 1) hX rfl rfl dX5_in_1 ?_
  refine jr_icmp_lt hX (tgt := 14) (by decide) dX5_in_2 (fun c_2 => ?_) (fun c_2 => ?_)
  · refine jr_iconst (v := 0) hX rfl dX5_in_14 ?_
    exact jr_zret hX hlk hr (by decide) ⟨by rw [jdf (fun q => absurd c_2 (Int32.not_lt.mpr q.1))], rfl⟩ dX5_in_15
  · refine jr_iload_n (i := 0) hX rfl rfl dX5_in_5 ?_
    refine jr_iload_n (i := 2) hX rfl rfl dX5_in_6 ?_
    refine jr_icmp_gt hX (tgt := 14) (by decide) dX5_in_7 (fun c_7 => ?_) (fun c_7 => ?_)
    · refine jr_iconst (v := 0) hX rfl dX5_in_14 ?_
      exact jr_zret hX hlk hr (by decide) ⟨by rw [jdf (fun q => absurd c_7 (Int32.not_lt.mpr q.2))], rfl⟩ dX5_in_15
    · refine jr_iconst (v := 1) hX rfl dX5_in_10 ?_
      refine jr_goto hX (tgt := 15) (by decide) dX5_in_11 ?_
      exact jr_zret hX hlk hr (by decide) ⟨by rw [jdt (p := a ≤ x ∧ x ≤ b) ⟨Int32.not_lt.mp c_2, Int32.not_lt.mp c_7⟩], rfl⟩ dX5_in_15

set_option maxHeartbeats 4000000 in
set_option maxRecDepth 100000 in
theorem mm_isLocal (l : Launch) (D : va_G) (s0 : State) (b0 : Nat) (A : Nat → Prop) (G : jG) (x : Int32) : jM l yX5_isLocal (ws_ yX5_isLocal cX5_isLocal 1 (some .boolean)) (jR 1 0 0) D s0 b0 A G [.int x] (fun v G1 => v = some (.int (jbz (decide (0 ≤ x ∧ x ≤ 3)))) ∧ G1 = G) := by
  refine jM.of (by decide +kernel) (own := RX5) rfl (Nat.le_of_ble_eq_true rfl) ?_
  intro p e s m args below meth c hX hr hlk hnm
  refine jr_iload_n (i := 0) hX rfl rfl dX5_isLocal_0 ?_
  refine jr_iconst (v := 0) hX rfl dX5_isLocal_1 ?_
  refine jr_iconst (v := 3) hX rfl dX5_isLocal_2 ?_
  refine jr_callS (As := [.int x, .int 0, .int 3]) (bc1 := (0)) (bs1 := (0)) hX (mm_in l D s0 b0 A _ _ _ _) (va_cwS 3 hX.ts (lw_S q1784 q1785 q78 q1786) rfl rfl rfl (by decide +kernel) ⟨Nat.le_of_ble_eq_true rfl, Nat.le_of_ble_eq_true rfl⟩) rfl (Nat.le_of_ble_eq_true rfl) (by first | omega | (dsimp only; omega) | (show _ ≤ _; simp only []; omega)) (by first | omega | (dsimp only; omega) | (show _ ≤ _; simp only []; omega)) rfl dX5_isLocal_3 (fun v_3 G_3 hp_3 => ?_)
  obtain ⟨rfl, e9⟩ := hp_3
  rw [e9]
  exact jr_zret hX hlk hr (jbz_n _) ⟨rfl, rfl⟩ dX5_isLocal_6

set_option maxHeartbeats 4000000 in
set_option maxRecDepth 100000 in
theorem mm_isFunction (l : Launch) (D : va_G) (s0 : State) (b0 : Nat) (A : Nat → Prop) (G : jG) (x : Int32) : jM l yX5_isFunction (ws_ yX5_isFunction cX5_isFunction 1 (some .boolean)) (jR 1 0 0) D s0 b0 A G [.int x] (fun v G1 => v = some (.int (jbz (decide (0 ≤ x ∧ x ≤ 4)))) ∧ G1 = G) := by
  refine jM.of (by decide +kernel) (own := RX5) rfl (Nat.le_of_ble_eq_true rfl) ?_
  intro p e s m args below meth c hX hr hlk hnm
  refine jr_iload_n (i := 0) hX rfl rfl dX5_isFunction_0 ?_
  refine jr_iconst (v := 0) hX rfl dX5_isFunction_1 ?_
  refine jr_iconst (v := 4) hX rfl dX5_isFunction_2 ?_
  refine jr_callS (As := [.int x, .int 0, .int 4]) (bc1 := (0)) (bs1 := (0)) hX (mm_in l D s0 b0 A _ _ _ _) (va_cwS 3 hX.ts (lw_S q1784 q1785 q78 q1786) rfl rfl rfl (by decide +kernel) ⟨Nat.le_of_ble_eq_true rfl, Nat.le_of_ble_eq_true rfl⟩) rfl (Nat.le_of_ble_eq_true rfl) (by first | omega | (dsimp only; omega) | (show _ ≤ _; simp only []; omega)) (by first | omega | (dsimp only; omega) | (show _ ≤ _; simp only []; omega)) rfl dX5_isFunction_3 (fun v_3 G_3 hp_3 => ?_)
  obtain ⟨rfl, e9⟩ := hp_3
  rw [e9]
  exact jr_zret hX hlk hr (jbz_n _) ⟨rfl, rfl⟩ dX5_isFunction_6

set_option maxHeartbeats 4000000 in
set_option maxRecDepth 100000 in
theorem mm_raises (l : Launch) (D : va_G) (s0 : State) (b0 : Nat) (A : Nat → Prop) (G : jG) (S : sSt) (th : Nat) (ad : jN) (T : jT) (hR : jMo D s0 b0 th S ad T G) (w : Nat) : jM l yX5_raises (ws_ yX5_raises cX5_raises 2 (some .int)) (jR 0 0 0) D s0 b0 A G [.ref (ad 31 0 0), .int (nI w)] (fun v G1 => v = some (.int 0) ∧ jMo D s0 b0 w S ad T G1 ∧ jFm 31 60 T G T G1) := by
  have hxx := mo_x hR
  have hRw := mo_wth hR w
  refine jM.of (by decide +kernel) (own := RX5) rfl (Nat.le_of_ble_eq_true rfl) ?_
  intro p e s m args below meth c hX hr hlk hnm
  refine jr_aload_n (i := 0) hX rfl rfl dX5_raises_0 ?_
  refine jr_iload_n (i := 1) hX rfl rfl dX5_raises_1 ?_
  refine jr_put (ci := 11) (k := 0) hX hxx rfl in_X5 (by decide) tyX5 tyX5_ok nmX5 q1730 rfl (by first | rfl | assumption) (by first | rfl | assumption) (Nat.le_of_ble_eq_true rfl) dX5_raises_2 ?_
  refine jr_iconst (v := 0) hX rfl dX5_raises_5 ?_
  exact jr_iret hX hlk hr ⟨rfl, hRw, jFm.put (by rw [hR.t (k := 31) (i := 0) (j := 0) rfl]; exact ⟨(by show 31 ≤ 31 % 100; omega), (by show 31 % 100 < 60; omega)⟩)⟩ dX5_raises_6

set_option maxHeartbeats 4000000 in
set_option maxRecDepth 100000 in
theorem mm_noThread (l : Launch) (D : va_G) (s0 : State) (b0 : Nat) (A : Nat → Prop) (G : jG) (S : sSt) (th : Nat) (ad : jN) (T : jT) (hR : jMo D s0 b0 th S ad T G) (x : Int32) : jM l yX5_noThread (ws_ yX5_noThread cX5_noThread 2 (some .boolean)) (jR 1 0 0) D s0 b0 A G [.ref (ad 31 0 0), .int x] (fun v G1 => v = some (.int (jbz (!decide (0 ≤ x ∧ x ≤ 2)))) ∧ jMo D s0 b0 (if 0 ≤ x ∧ x ≤ 2 then 0 else 1) S ad T G1 ∧ jFm 31 60 T G T G1) := by
  have hxx := mo_x hR
  have hR0 := mo_wth hR 0
  have hR1 := mo_wth hR 1
  have hx0 := mo_x hR0
  have hx1 := mo_x hR1
  refine jM.of (by decide +kernel) (own := RX5) rfl (Nat.le_of_ble_eq_true rfl) ?_
  intro p e s m args below meth c hX hr hlk hnm
  refine jr_aload_n (i := 0) hX rfl rfl dX5_noThread_0 ?_
  refine jr_iload_n (i := 1) hX rfl rfl dX5_noThread_1 ?_
  refine jr_iconst (v := 0) hX rfl dX5_noThread_2 ?_
  refine jr_iconst (v := 2) hX rfl dX5_noThread_3 ?_
  refine jr_callS (As := [.int x, .int 0, .int 2]) (bc1 := (0)) (bs1 := (0)) hX (mm_in l D s0 b0 A _ _ _ _) (va_cwS 3 hX.ts (lw_S q1784 q1785 q78 q1786) rfl rfl rfl (by decide +kernel) ⟨Nat.le_of_ble_eq_true rfl, Nat.le_of_ble_eq_true rfl⟩) rfl (Nat.le_of_ble_eq_true rfl) (by first | omega | (dsimp only; omega) | (show _ ≤ _; simp only []; omega)) (by first | omega | (dsimp only; omega) | (show _ ≤ _; simp only []; omega)) rfl dX5_noThread_4 (fun v_4 G_4 hp_4 => ?_)
  obtain ⟨rfl, e9⟩ := hp_4
  rw [e9]
  refine jr_if_eq hX (tgt := 14) (by decide) dX5_noThread_7 (fun c_7 => ?_) (fun c_7 => ?_)
  · refine jr_iconst (v := 1) hX rfl dX5_noThread_14 ?_
    refine jr_put (ci := 11) (k := 0) hX hxx rfl in_X5 (by decide) tyX5 tyX5_ok nmX5 q1730 rfl (by first | rfl | assumption) (by first | rfl | assumption) (Nat.le_of_ble_eq_true rfl) dX5_noThread_15 ?_
    refine jr_aload_n (i := 0) hX rfl rfl dX5_noThread_18 ?_
    refine jr_get (ci := 11) (k := 0) hX (by first | assumption | exact jup_s) rfl in_X5 (by decide) q1730 rfl dX5_noThread_19 ?_
    refine jr_if_le hX (tgt := 29) (by decide) dX5_noThread_22 (fun z => absurd z (by decide)) (fun _ => ?_)
    refine jr_iconst (v := 1) hX rfl dX5_noThread_25 ?_
    refine jr_goto hX (tgt := 30) (by decide) dX5_noThread_26 ?_
    exact jr_zret hX hlk hr (by decide) ⟨by rw [of_decide_eq_false (jbz_0 c_7) |> decide_eq_false]; rfl, by rw [if_neg (of_decide_eq_false (jbz_0 c_7))]; exact hR1, jFm.put (by rw [hR.t (k := 31) (i := 0) (j := 0) rfl]; exact ⟨(by show 31 ≤ 31 % 100; omega), (by show 31 % 100 < 60; omega)⟩)⟩ dX5_noThread_30
  · refine jr_iconst (v := 0) hX rfl dX5_noThread_10 ?_
    refine jr_goto hX (tgt := 15) (by decide) dX5_noThread_11 ?_
    refine jr_put (ci := 11) (k := 0) hX hxx rfl in_X5 (by decide) tyX5 tyX5_ok nmX5 q1730 rfl (by first | rfl | assumption) (by first | rfl | assumption) (Nat.le_of_ble_eq_true rfl) dX5_noThread_15 ?_
    refine jr_aload_n (i := 0) hX rfl rfl dX5_noThread_18 ?_
    refine jr_get (ci := 11) (k := 0) hX (by first | assumption | exact jup_s) rfl in_X5 (by decide) q1730 rfl dX5_noThread_19 ?_
    refine jr_if_le hX (tgt := 29) (by decide) dX5_noThread_22 (fun _ => ?_) (fun z => absurd (by decide) z)
    refine jr_iconst (v := 0) hX rfl dX5_noThread_29 ?_
    exact jr_zret hX hlk hr (by decide) ⟨by rw [jbz_1 c_7]; rfl, by rw [if_pos (of_decide_eq_true (jbz_1 c_7))]; exact hR0, jFm.put (by rw [hR.t (k := 31) (i := 0) (j := 0) rfl]; exact ⟨(by show 31 ≤ 31 % 100; omega), (by show 31 % 100 < 60; omega)⟩)⟩ dX5_noThread_30

set_option maxHeartbeats 4000000 in
set_option maxRecDepth 100000 in
theorem mm_isOpen (l : Launch) (D : va_G) (s0 : State) (b0 : Nat) (A : Nat → Prop) (G : jG) (a fr st : Nat) (ha : G a = some (jo 13 [.int (nI st), .ref fr])) (hst : st < 1000) : jM l yX7_isOpen (ws_ yX7_isOpen cX7_isOpen 1 (some .boolean)) (jR 0 0 0) D s0 b0 A G [.ref a] (fun v G1 => v = some (.int (jbz (s_al st))) ∧ G1 = G) := by
  refine jM.of (by decide +kernel) (own := RX7) rfl (Nat.le_of_ble_eq_true rfl) ?_
  intro p e s m args below meth c hX hr hlk hnm
  refine jr_aload_n (i := 0) hX rfl rfl dX7_isOpen_0 ?_
  refine jr_get (ci := 13) (k := 0) hX (by first | assumption | exact jup_s) rfl in_X7 (by decide) q1721 rfl dX7_isOpen_1 ?_
  refine jr_bipush (v := 114) hX (by decide) dX7_isOpen_4 ?_
  refine jr_icmp_eq hX (tgt := 18) (by decide) dX7_isOpen_6 (fun c_6 => ?_) (fun c_6 => ?_)
  · refine jr_iconst (v := 1) hX rfl dX7_isOpen_18 ?_
    refine jr_goto hX (tgt := 23) (by decide) dX7_isOpen_19 ?_
    exact jr_zret hX hlk hr (by decide) ⟨by rw [show st = 114 from (nI_eq (by omega) (by omega)).mp c_6]; rfl, rfl⟩ dX7_isOpen_23
  · refine jr_aload_n (i := 0) hX rfl rfl dX7_isOpen_9 ?_
    refine jr_get (ci := 13) (k := 0) hX (by first | assumption | exact jup_s) rfl in_X7 (by decide) q1721 rfl dX7_isOpen_10 ?_
    refine jr_bipush (v := 119) hX (by decide) dX7_isOpen_13 ?_
    refine jr_icmp_ne hX (tgt := 22) (by decide) dX7_isOpen_15 (fun c_15 => ?_) (fun c_15 => ?_)
    · refine jr_iconst (v := 0) hX rfl dX7_isOpen_22 ?_
      exact jr_zret hX hlk hr (by decide) ⟨by rw [show s_al st = false by unfold s_al; simp; exact ⟨fun q => c_6 (by rw [q]; rfl), fun q => c_15 (by rw [q]; rfl)⟩]; rfl, rfl⟩ dX7_isOpen_23
    · refine jr_iconst (v := 1) hX rfl dX7_isOpen_18 ?_
      refine jr_goto hX (tgt := 23) (by decide) dX7_isOpen_19 ?_
      exact jr_zret hX hlk hr (by decide) ⟨by rw [show st = 119 from (nI_eq (by omega) (by omega)).mp c_15]; rfl, rfl⟩ dX7_isOpen_23
