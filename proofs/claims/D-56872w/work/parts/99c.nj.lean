/-! the model's add with a letter that is none of the twelve -/
set_option maxHeartbeats 4000000 in
set_option maxRecDepth 100000 in
theorem mm_addE4 (l : Launch) (D : va_G) (s0 : State) (b0 : Nat) (A : Nat → Prop) (G : jG) (S : sSt) (th : Nat) (ad : jN) (T : jT) (hR : jMo D s0 b0 th S ad T G) (f : Nat) (hf : f < 5) (n : Nat) (hn : n < 65536) (hno : ∀ q, q < 12 → nI n ≠ jCL.getD q 0) (a b c9 : Int32) : jM l yX5_add (ws_ yX5_add cX5_add 6 (some .int)) (jR 4 0 0) D s0 b0 A G [.ref (ad 31 0 0), .int (nI f), .int (nI n), .int a, .int b, .int c9] (fun w G1 => w = some (.int 0) ∧ jMo D s0 b0 1 S ad T G1 ∧ jFm 31 60 T G T G1) := by
  have hxx := mo_x hR
  have hR0 := mo_wth hR 1
  have hx0 := mo_x hR0
  have hin : (0 : Int32) ≤ nI f ∧ nI f ≤ 4 := ⟨nI_pos' (by omega), nI_le (b := 4) (by omega) (by omega)⟩
  refine jM.of (by decide +kernel) (own := RX5) rfl (Nat.le_of_ble_eq_true rfl) ?_
  intro p e s m args below meth c hX hr hlk hnm
  refine jr_aload_n (i := 0) hX rfl rfl dX5_add_0 ?_
  refine jr_iload_n (i := 1) hX rfl rfl dX5_add_1 ?_
  refine jr_callS (As := [.int (nI f)]) (bc1 := (0)) (bs1 := (0)) hX (mm_isFunction l D s0 b0 A _ (nI f)) (va_cwS 1 hX.ts (lw_S q1781 q1782 q78 q1783) rfl rfl rfl (by decide +kernel) ⟨Nat.le_of_ble_eq_true rfl, Nat.le_of_ble_eq_true rfl⟩) rfl (Nat.le_of_ble_eq_true rfl) (by first | omega | (dsimp only; omega) | (show _ ≤ _; simp only []; omega)) (by first | omega | (dsimp only; omega) | (show _ ≤ _; simp only []; omega)) rfl dX5_add_2 (fun v_2 G_2 hp_2 => ?_)
  obtain ⟨rfl, e9⟩ := hp_2
  rw [e9, decide_eq_true hin]
  refine jr_if_eq hX (tgt := 20) (by decide) dX5_add_5 (fun c_5 => absurd c_5 (by decide)) (fun c_5 => ?_)
  refine jr_iload_n (i := 2) hX rfl rfl dX5_add_8 ?_
  refine jr_iload_n (i := 3) hX rfl rfl dX5_add_9 ?_
  refine jr_iload hX rfl dX5_add_10 ?_
  refine jr_iload hX rfl dX5_add_12 ?_
  refine jr_callS (As := [.int (nI n), .int a, .int b, .int c9]) (bc1 := (0)) (bs1 := (0)) hX (mm_isCodeN l D s0 b0 A _ n hn hno a b c9) (va_cwS 4 hX.ts (lw_S q1787 q1788 q78 q1789) rfl rfl rfl (by decide +kernel) ⟨Nat.le_of_ble_eq_true rfl, Nat.le_of_ble_eq_true rfl⟩) rfl (Nat.le_of_ble_eq_true rfl) (by first | omega | (dsimp only; omega) | (show _ ≤ _; simp only []; omega)) (by first | omega | (dsimp only; omega) | (show _ ≤ _; simp only []; omega)) rfl dX5_add_14 (fun v_14 G_14 hp_14 => ?_)
  obtain ⟨rfl, e9⟩ := hp_14
  rw [e9]
  refine jr_if_ne hX (tgt := 24) (by decide) dX5_add_17 (fun c_17 => absurd c_17 (fun z => z rfl)) (fun c_17 => ?_)
  refine jr_iconst (v := 1) hX rfl dX5_add_20 ?_
  refine jr_goto hX (tgt := 42) (by decide) dX5_add_21 ?_
  refine jr_put (ci := 11) (k := 0) hX hxx rfl in_X5 (by decide) tyX5 tyX5_ok nmX5 q1730 rfl (by first | rfl | assumption) (by first | rfl | assumption) (Nat.le_of_ble_eq_true rfl) dX5_add_42 ?_
  refine jr_aload_n (i := 0) hX rfl rfl dX5_add_45 ?_
  refine jr_get (ci := 11) (k := 0) hX hx0 rfl in_X5 (by decide) q1730 rfl dX5_add_46 ?_
  refine jr_if_le hX (tgt := 54) (by decide) dX5_add_49 (fun c_49 => absurd c_49 (by decide)) (fun c_49 => ?_)
  refine jr_iconst (v := 0) hX rfl dX5_add_52 ?_
  exact jr_iret hX hlk hr ⟨rfl, hR0, jFm.pt (mo_t31 hR) (by decide)⟩ dX5_add_53
