/-! the model's versions -/
section JMV
variable {D : va_G} {s0 : State} {b0 th : Nat} {S : sSt} {ad : jN} {T : jT} {G : jG} {v f i j k : Nat}
theorem mo_ver (h : jMo D s0 b0 th S ad T G) (hv : v < (s_v S).length) : G (ad 37 v 0) = some (jo 12 [.ref (ad 40 v 0), .ref (ad 42 v 0), .ref (ad 43 v 0), .ref (ad 43 v 1), .ref (ad 43 v 2), .ref (ad 43 v 3), .ref (ad 44 v 0)]) := h.c (k := 37) (if_pos ⟨hv, rfl⟩)
theorem mo_vs (h : jMo D s0 b0 th S ad T G) : ∃ (mo : Int32) (cap ea : Nat), jLS D s0 b0 G (ad 32 0 0) (s_rg (s_m S) (fun v => ad 37 v 0)) mo cap ea ∧ 0 ≤ cap ∧ cap ≤ 200 ∧ (cap ≠ 0 → T ea = (132, 0, 0)) := h.l (k := 32) (i := 0) (j := 0) rfl
theorem mo_fns (h : jMo D s0 b0 th S ad T G) (hv : v < (s_v S).length) : ∃ (mo : Int32) (cap ea : Nat), jLS D s0 b0 G (ad 40 v 0) (s_rg 5 (fun f => ad 41 v f)) mo cap ea ∧ 0 ≤ cap ∧ cap ≤ 200 ∧ (cap ≠ 0 → T ea = (140, v, 0)) := h.l (k := 40) (if_pos ⟨hv, rfl⟩)
theorem mo_fn (h : jMo D s0 b0 th S ad T G) (hv : v < (s_v S).length) (hf : f < 5) : ∃ (mo : Int32) (cap ea : Nat), jLS D s0 b0 G (ad 41 v f) (((s_ver S v).1 f).map (fun q => ad 50 q 0)) mo cap ea ∧ 0 ≤ cap ∧ cap ≤ 200 ∧ (cap ≠ 0 → T ea = (141, v, f)) := h.l (k := 41) (if_pos ⟨hv, hf⟩)
theorem mo_nf (h : jMo D s0 b0 th S ad T G) (hv : v < (s_v S).length) : G (ad 42 v 0) = some (ji D 3 (fun q => nI ((s_ver S v).2.1 q))) := h.c (k := 42) (if_pos ⟨hv, rfl⟩)
theorem mo_lan (h : jMo D s0 b0 th S ad T G) (hi : i < 3) : G (ad 35 i 0) = some (jo 13 [.int (nI (s_s S i).1), .ref (ad 36 i 0)]) := h.c (k := 35) (if_pos ⟨hi, rfl⟩)
end JMV

set_option maxHeartbeats 4000000 in
set_option maxRecDepth 100000 in
theorem mm_latest (l : Launch) (D : va_G) (s0 : State) (b0 : Nat) (A : Nat → Prop) (G : jG) (S : sSt) (th : Nat) (ad : jN) (T : jT) (hR : jMo D s0 b0 th S ad T G) (hm : 0 < s_m S) (hm2 : s_m S < 100) : jM l yX5_latest (ws_ yX5_latest cX5_latest 1 (some (.object "SwapWhileModel$Version"))) (jR 3 0 0) D s0 b0 A G [.ref (ad 31 0 0)] (fun w G1 => w = some (.ref (ad 37 (s_m S - 1) 0)) ∧ G1 = G) := by
  have hxx := mo_x hR
  have hmm : s_m S = (s_v S).length - 1 := rfl
  obtain ⟨moV, capV, eaV, hVL, -, hVc, -⟩ := mo_vs hR
  have hcv := mo_ver hR (v := s_m S - 1) (by omega)
  refine jM.of (by decide +kernel) (own := RX5) rfl (Nat.le_of_ble_eq_true rfl) ?_
  intro p e s m args below meth c hX hr hlk hnm
  refine jr_aload_n (i := 0) hX rfl rfl dX5_latest_0 ?_
  refine jr_get (ci := 11) (k := 1) hX (by first | assumption | exact jup_s) rfl in_X5 (by decide) q1731 rfl dX5_latest_1 ?_
  refine jr_aload_n (i := 0) hX rfl rfl dX5_latest_4 ?_
  refine jr_get (ci := 11) (k := 1) hX (by first | assumption | exact jup_s) rfl in_X5 (by decide) q1731 rfl dX5_latest_5 ?_
  refine jr_callV (As := []) (bc1 := (0)) (bs1 := (0)) hX (met_size l D s0 b0 A _ (ad 32 0 0) (s_rg (s_m S) (fun v => ad 37 v 0)) moV capV eaV hVL) (cwV 0 hX.ts (lw_V q1834 q410 q2205 q68 q412) rfl rfl rfl (by decide +kernel) ⟨Nat.le_of_ble_eq_true rfl, Nat.le_of_ble_eq_true rfl⟩) hVL.1 rfl rfl (Nat.le_of_ble_eq_true rfl) (by first | omega | (dsimp only; omega) | (show _ ≤ _; simp only []; omega)) (by first | omega | (dsimp only; omega) | (show _ ≤ _; simp only []; omega)) rfl dX5_latest_8 (fun v_8 G_8 hp_8 => ?_)
  obtain ⟨rfl, e9⟩ := hp_8
  rw [e9, rg_len]
  refine jr_iconst (v := 1) hX rfl dX5_latest_11 ?_
  refine jr_isub hX dX5_latest_12 ?_
  rw [nI_s1 hm]
  refine jr_callV (As := [.int (nI (s_m S - 1))]) (bc1 := (0)) (bs1 := (0)) hX (met_get l D s0 b0 A _ (ad 32 0 0) (s_rg (s_m S) (fun v => ad 37 v 0)) moV capV eaV hVL (s_m S - 1) (ad 37 (s_m S - 1) 0) (rg_at (by omega))) (cwV 1 hX.ts (lw_V q1712 q304 q2203 q68 q306) rfl rfl rfl (by decide +kernel) ⟨Nat.le_of_ble_eq_true rfl, Nat.le_of_ble_eq_true rfl⟩) hVL.1 rfl rfl (Nat.le_of_ble_eq_true rfl) (by first | omega | (dsimp only; omega) | (show _ ≤ _; simp only []; omega)) (by first | omega | (dsimp only; omega) | (show _ ≤ _; simp only []; omega)) rfl dX5_latest_13 (fun v_13 G_13 hp_13 => ?_)
  obtain ⟨rfl, e9⟩ := hp_13
  rw [e9]
  refine jr_castS hX hcv rfl q1666 dX5_latest_16 ?_
  exact jr_aret hX hlk hr (by first | exact Or.inl ⟨_, rfl⟩ | exact Or.inr ⟨_, rfl⟩) (Or.inr ⟨_, rfl⟩) ⟨rfl, rfl⟩ dX5_latest_19

set_option maxHeartbeats 4000000 in
set_option maxRecDepth 100000 in
theorem mm_length (l : Launch) (D : va_G) (s0 : State) (b0 : Nat) (A : Nat → Prop) (G : jG) (S : sSt) (th : Nat) (ad : jN) (T : jT) (hR : jMo D s0 b0 th S ad T G) (v f : Nat) (hv : v < (s_v S).length) (hf : f < 5) : jM l yX6_length (ws_ yX6_length cX6_length 2 (some .int)) (jR 3 0 0) D s0 b0 A G [.ref (ad 37 v 0), .int (nI f)] (fun w G1 => w = some (.int (nI ((s_ver S v).1 f).length)) ∧ G1 = G) := by
  have hV := mo_ver hR hv
  obtain ⟨moF, capF, eaF, hFL, -, hFc, -⟩ := mo_fns hR hv
  obtain ⟨moL, capL, eaL, hLL, -, hLc, -⟩ := mo_fn hR hv hf
  refine jM.of (by decide +kernel) (own := RX6) rfl (Nat.le_of_ble_eq_true rfl) ?_
  intro p e s m args below meth c hX hr hlk hnm
  refine jr_aload_n (i := 0) hX rfl rfl dX6_length_0 ?_
  refine jr_get (ci := 12) (k := 0) hX (by first | assumption | exact jup_s) rfl in_X6 (by decide) q1682 rfl dX6_length_1 ?_
  refine jr_iload_n (i := 1) hX rfl rfl dX6_length_4 ?_
  refine jr_callV (As := [.int (nI (f))]) (bc1 := (0)) (bs1 := (0)) hX (met_get l D s0 b0 A _ (ad 40 v 0) (s_rg 5 (fun f => ad 41 v f)) moF capF eaF hFL (f) (ad 41 v f) (rg_at hf)) (cwV 1 hX.ts (lw_V q1675 q304 q2203 q68 q306) rfl rfl rfl (by decide +kernel) ⟨Nat.le_of_ble_eq_true rfl, Nat.le_of_ble_eq_true rfl⟩) hFL.1 rfl rfl (Nat.le_of_ble_eq_true rfl) (by first | omega | (dsimp only; omega) | (show _ ≤ _; simp only []; omega)) (by first | omega | (dsimp only; omega) | (show _ ≤ _; simp only []; omega)) rfl dX6_length_5 (fun v_5 G_5 hp_5 => ?_)
  obtain ⟨rfl, e9⟩ := hp_5
  rw [e9]
  refine jr_castS hX hLL.1 rfl q1672 dX6_length_8 ?_
  refine jr_callV (As := []) (bc1 := (0)) (bs1 := (0)) hX (met_size l D s0 b0 A _ (ad 41 v f) (((s_ver S v).1 f).map (fun q => ad 50 q 0)) moL capL eaL hLL) (cwV 0 hX.ts (lw_V q1797 q410 q2205 q68 q412) rfl rfl rfl (by decide +kernel) ⟨Nat.le_of_ble_eq_true rfl, Nat.le_of_ble_eq_true rfl⟩) hLL.1 rfl rfl (Nat.le_of_ble_eq_true rfl) (by first | omega | (dsimp only; omega) | (show _ ≤ _; simp only []; omega)) (by first | omega | (dsimp only; omega) | (show _ ≤ _; simp only []; omega)) rfl dX6_length_11 (fun v_11 G_11 hp_11 => ?_)
  obtain ⟨rfl, e9⟩ := hp_11
  rw [e9, List.length_map]
  exact jr_iret hX hlk hr ⟨rfl, rfl⟩ dX6_length_14
