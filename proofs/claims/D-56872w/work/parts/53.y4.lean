/-! the model's target -/
theorem mo_ch {D : va_G} {s0 : State} {b0 th : Nat} {S : sSt} {ad : jN} {T : jT} {G : jG} {ci : Nat} {x : sCh} (h : jMo D s0 b0 th S ad T G) (hx : (s_c S)[ci]? = some x) : G (ad 48 ci 0) = some (jo 17 [.int (nI ci), .int (nI x.1), .int (jbz x.2.1), .int (jbz x.2.2.1), .long (lN x.2.2.2.1), .int (nI x.2.2.2.2)]) := h.c (k := 48) (j := 0) (by
  show (if 0 = 0 then Option.map _ ((s_c S)[ci]?) else none) = _
  rw [if_pos rfl, hx]
  rfl)
theorem s_ld {S : sSt} {b : Bool} (hp : s_p S < s_m S) (hm : s_m S < 100) : decide ((0 : Int32) ≤ nI (s_p S) + (if b then -1 else 1) ∧ nI (s_p S) + (if b then -1 else 1) ≤ nI (s_m S - 1)) = s_lead S b ∧ (s_lead S b = true → nI (s_p S) + (if b then -1 else 1) = nI (s_to S b)) := by
  have e9 : nI (s_p S) + (if b then (-1 : Int32) else 1) = if b then nI (s_p S) - 1 else nI (s_p S) + 1 := by
    cases b with
    | true => exact (Int32.sub_eq_add_neg _ _).symm
    | false => rfl
  rw [e9]
  refine ⟨?_, fun h => s_tgt h⟩
  cases b with
  | true =>
    show decide ((0 : Int32) ≤ nI (s_p S) - 1 ∧ nI (s_p S) - 1 ≤ nI (s_m S - 1)) = decide (0 < s_p S)
    by_cases h0 : 0 < s_p S
    · rw [nI_s1 h0, decide_eq_true h0]
      exact decide_eq_true ⟨nI_pos' (by omega), nI_le (by omega) (by omega)⟩
    · rw [show s_p S = 0 by omega]
      exact (decide_eq_false (fun q => absurd q.1 (by decide))).trans (decide_eq_false (by omega)).symm
  | false =>
    show decide ((0 : Int32) ≤ nI (s_p S) + 1 ∧ nI (s_p S) + 1 ≤ nI (s_m S - 1)) = decide (s_p S + 1 < s_m S)
    rw [nI_1]
    by_cases h0 : s_p S + 1 < s_m S
    · rw [decide_eq_true h0]
      exact decide_eq_true ⟨nI_pos' (by omega), nI_le (by omega) (by omega)⟩
    · rw [decide_eq_false h0]
      exact decide_eq_false fun q => absurd ((nI_leI (by omega) (by omega)).mp q.2) (by omega)

set_option maxHeartbeats 4000000 in
set_option maxRecDepth 100000 in
theorem mm_target (l : Launch) (D : va_G) (s0 : State) (b0 : Nat) (A : Nat → Prop) (G : jG) (S : sSt) (th : Nat) (ad : jN) (T : jT) (hR : jMo D s0 b0 th S ad T G) (ci : Nat) (ch : sCh) (hch : (s_c S)[ci]? = some ch) (hp : s_p S < s_m S) (hm : s_m S < 100) : jM l yX5_target (ws_ yX5_target cX5_target 3 (some .int)) (jR 1 0 0) D s0 b0 A G [.ref (ad 31 0 0), .ref (ad 48 ci 0)] (fun w G1 => w = some (.int (if s_lead S ch.2.1 = true then nI (s_to S ch.2.1) else -1)) ∧ G1 = G) := by
  have hxx := mo_x hR
  have hC := mo_ch hR hch
  obtain ⟨moV, capV, eaV, hVL, -, hVc, -⟩ := mo_vs hR
  refine jM.of (by decide +kernel) (own := RX5) rfl (Nat.le_of_ble_eq_true rfl) ?_
  intro p e s m args below meth c hX hr hlk hnm
  refine jr_aload_n (i := 0) hX rfl rfl dX5_target_0 ?_
  refine jr_get (ci := 11) (k := 3) hX (by first | assumption | exact jup_s) rfl in_X5 (by decide) q1733 rfl dX5_target_1 ?_
  refine jr_aload_n (i := 1) hX rfl rfl dX5_target_4 ?_
  refine jr_getN (ci := 17) (k := 2) hX (by first | assumption | exact jup_s) rfl in_X18 (by decide) q2055 rfl dX5_target_5 ?_
  refine jr_if_eq hX (tgt := 15) (by decide) dX5_target_8 (fun c_8 => ?_) (fun c_8 => ?_)
  · refine jr_iconst (v := 1) hX rfl dX5_target_15 ?_
    refine jr_iadd hX dX5_target_16 ?_
    refine jr_istore_n (i := 2) hX rfl (by decide) rfl dX5_target_17 ?_
    refine jr_iload_n (i := 2) hX rfl rfl dX5_target_18 ?_
    refine jr_iconst (v := 0) hX rfl dX5_target_19 ?_
    refine jr_aload_n (i := 0) hX rfl rfl dX5_target_20 ?_
    refine jr_get (ci := 11) (k := 1) hX (by first | assumption | exact jup_s) rfl in_X5 (by decide) q1731 rfl dX5_target_21 ?_
    refine jr_callV (As := []) (bc1 := (0)) (bs1 := (0)) hX (met_size l D s0 b0 A _ (ad 32 0 0) (s_rg (s_m S) (fun v => ad 37 v 0)) moV capV eaV hVL) (cwV 0 hX.ts (lw_V q1834 q410 q2205 q68 q412) rfl rfl rfl (by decide +kernel) ⟨Nat.le_of_ble_eq_true rfl, Nat.le_of_ble_eq_true rfl⟩) hVL.1 rfl rfl (Nat.le_of_ble_eq_true rfl) (by first | omega | (dsimp only; omega) | (show _ ≤ _; simp only []; omega)) (by first | omega | (dsimp only; omega) | (show _ ≤ _; simp only []; omega)) rfl dX5_target_24 (fun v_24 G_24 hp_24 => ?_)
    obtain ⟨rfl, e9⟩ := hp_24
    rw [e9, rg_len]
    refine jr_iconst (v := 1) hX rfl dX5_target_27 ?_
    refine jr_isub hX dX5_target_28 ?_
    rw [nI_s1 (by omega)]
    refine jr_callS (As := [.int (nI (s_p S) + (1)), .int 0, .int (nI (s_m S - 1))]) (bc1 := (0)) (bs1 := (0)) hX (mm_in l D s0 b0 A _ _ _ _) (va_cwS 3 hX.ts (lw_S q1784 q1785 q78 q1786) rfl rfl rfl (by decide +kernel) ⟨Nat.le_of_ble_eq_true rfl, Nat.le_of_ble_eq_true rfl⟩) rfl (Nat.le_of_ble_eq_true rfl) (by first | omega | (dsimp only; omega) | (show _ ≤ _; simp only []; omega)) (by first | omega | (dsimp only; omega) | (show _ ≤ _; simp only []; omega)) rfl dX5_target_29 (fun v_29 G_29 hp_29 => ?_)
    obtain ⟨rfl, e9⟩ := hp_29
    rw [e9, show decide ((0 : Int32) ≤ nI (s_p S) + (1) ∧ nI (s_p S) + (1) ≤ nI (s_m S - 1)) = s_lead S ch.2.1 from by have h9 := (s_ld (b := ch.2.1) hp hm).1; rw [jbz_0 c_8] at h9 ⊢; exact h9]
    refine jr_if_eq hX (tgt := 39) (by decide) dX5_target_32 (fun c_32 => ?_) (fun c_32 => ?_)
    · refine jr_iconst (v := -1) hX rfl dX5_target_39 ?_
      exact jr_iret hX hlk hr ⟨by rw [if_neg (by rw [jbz_0 c_32]; simp)], rfl⟩ dX5_target_40
    · refine jr_iload_n (i := 2) hX rfl rfl dX5_target_35 ?_
      refine jr_goto hX (tgt := 40) (by decide) dX5_target_36 ?_
      exact jr_iret hX hlk hr ⟨by rw [if_pos (jbz_1 c_32)]; have h9 := (s_ld (b := ch.2.1) hp hm).2 (jbz_1 c_32); rw [jbz_0 c_8] at h9; rw [show nI (s_to S ch.2.1) = nI (s_p S) + (1) from by rw [jbz_0 c_8]; exact h9.symm], rfl⟩ dX5_target_40
  · refine jr_iconst (v := -1) hX rfl dX5_target_11 ?_
    refine jr_goto hX (tgt := 16) (by decide) dX5_target_12 ?_
    refine jr_iadd hX dX5_target_16 ?_
    refine jr_istore_n (i := 2) hX rfl (by decide) rfl dX5_target_17 ?_
    refine jr_iload_n (i := 2) hX rfl rfl dX5_target_18 ?_
    refine jr_iconst (v := 0) hX rfl dX5_target_19 ?_
    refine jr_aload_n (i := 0) hX rfl rfl dX5_target_20 ?_
    refine jr_get (ci := 11) (k := 1) hX (by first | assumption | exact jup_s) rfl in_X5 (by decide) q1731 rfl dX5_target_21 ?_
    refine jr_callV (As := []) (bc1 := (0)) (bs1 := (0)) hX (met_size l D s0 b0 A _ (ad 32 0 0) (s_rg (s_m S) (fun v => ad 37 v 0)) moV capV eaV hVL) (cwV 0 hX.ts (lw_V q1834 q410 q2205 q68 q412) rfl rfl rfl (by decide +kernel) ⟨Nat.le_of_ble_eq_true rfl, Nat.le_of_ble_eq_true rfl⟩) hVL.1 rfl rfl (Nat.le_of_ble_eq_true rfl) (by first | omega | (dsimp only; omega) | (show _ ≤ _; simp only []; omega)) (by first | omega | (dsimp only; omega) | (show _ ≤ _; simp only []; omega)) rfl dX5_target_24 (fun v_24 G_24 hp_24 => ?_)
    obtain ⟨rfl, e9⟩ := hp_24
    rw [e9, rg_len]
    refine jr_iconst (v := 1) hX rfl dX5_target_27 ?_
    refine jr_isub hX dX5_target_28 ?_
    rw [nI_s1 (by omega)]
    refine jr_callS (As := [.int (nI (s_p S) + (-1)), .int 0, .int (nI (s_m S - 1))]) (bc1 := (0)) (bs1 := (0)) hX (mm_in l D s0 b0 A _ _ _ _) (va_cwS 3 hX.ts (lw_S q1784 q1785 q78 q1786) rfl rfl rfl (by decide +kernel) ⟨Nat.le_of_ble_eq_true rfl, Nat.le_of_ble_eq_true rfl⟩) rfl (Nat.le_of_ble_eq_true rfl) (by first | omega | (dsimp only; omega) | (show _ ≤ _; simp only []; omega)) (by first | omega | (dsimp only; omega) | (show _ ≤ _; simp only []; omega)) rfl dX5_target_29 (fun v_29 G_29 hp_29 => ?_)
    obtain ⟨rfl, e9⟩ := hp_29
    rw [e9, show decide ((0 : Int32) ≤ nI (s_p S) + (-1) ∧ nI (s_p S) + (-1) ≤ nI (s_m S - 1)) = s_lead S ch.2.1 from by have h9 := (s_ld (b := ch.2.1) hp hm).1; rw [jbz_1 c_8] at h9 ⊢; exact h9]
    refine jr_if_eq hX (tgt := 39) (by decide) dX5_target_32 (fun c_32 => ?_) (fun c_32 => ?_)
    · refine jr_iconst (v := -1) hX rfl dX5_target_39 ?_
      exact jr_iret hX hlk hr ⟨by rw [if_neg (by rw [jbz_0 c_32]; simp)], rfl⟩ dX5_target_40
    · refine jr_iload_n (i := 2) hX rfl rfl dX5_target_35 ?_
      refine jr_goto hX (tgt := 40) (by decide) dX5_target_36 ?_
      exact jr_iret hX hlk hr ⟨by rw [if_pos (jbz_1 c_32)]; have h9 := (s_ld (b := ch.2.1) hp hm).2 (jbz_1 c_32); rw [jbz_1 c_8] at h9; rw [show nI (s_to S ch.2.1) = nI (s_p S) + (-1) from by rw [jbz_1 c_8]; exact h9.symm], rfl⟩ dX5_target_40
