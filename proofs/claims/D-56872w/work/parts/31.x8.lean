/-! more readers: strands, changes -/
theorem nI_nc {n : Nat} (h : n < 1000) : narrow .char (.int (nI n)) = .int (nI n) := by
  exact (by decide +kernel : ∀ n, n < 1000 → narrow .char (.int (nI n)) = .int (nI n)) n h

set_option maxHeartbeats 4000000 in
set_option maxRecDepth 100000 in
theorem met_stateC (l : Launch) (D : va_G) (s0 : State) (b0 : Nat) (A : Nat → Prop) (G : jG) (S : sSt) (ad : jN) (T : jT) (hR : jCo D s0 b0 S ad T G) (i : Nat) (hi3 : i < 3) (hs : sWs S) : jM l yX1_state (ws_ yX1_state cX1_state 2 (some .char)) (jR 2 0 0) D s0 b0 A G [.ref (ad 1 0 0), .int (nI i)] (fun w G1 => w = some (.int (nI (s_s S i).1)) ∧ G1 = G) := by
  have hxx := co_x hR
  have hst := co_str hR hi3
  have hb := (hs i hi3).1
  refine jM.of (by decide +kernel) (own := RX1) rfl (Nat.le_of_ble_eq_true rfl) ?_
  intro p e s m args below meth c hX hr hlk hnm
  refine jr_aload_n (i := 0) hX rfl rfl dX1_state_0 ?_
  refine jr_iload_n (i := 1) hX rfl rfl dX1_state_1 ?_
  refine jr_callV (As := [.int (nI i)]) (bc1 := (0)) (bs1 := (0)) hX (met_strandAt l D s0 b0 A _ S ad T hR i hi3) (cwV 1 hX.ts (lw_V q943 q945 qs8 q65 q946) rfl rfl rfl (by decide +kernel) ⟨Nat.le_of_ble_eq_true rfl, Nat.le_of_ble_eq_true rfl⟩) hxx rfl rfl (Nat.le_of_ble_eq_true rfl) (by first | omega | (dsimp only; omega) | (show _ ≤ _; simp only []; omega)) (by first | omega | (dsimp only; omega) | (show _ ≤ _; simp only []; omega)) rfl dX1_state_2 (fun v_2 G_2 hp_2 => ?_)
  obtain ⟨rfl, e9⟩ := hp_2
  rw [e9]
  refine jr_getN (ci := 3) (k := 1) hX (by first | assumption | exact jup_s) rfl in_X2 (by decide) q161 rfl dX1_state_5 ?_
  exact jr_zret hX hlk hr (nI_nc hb) ⟨rfl, rfl⟩ dX1_state_8

set_option maxHeartbeats 4000000 in
set_option maxRecDepth 100000 in
theorem met_framesC (l : Launch) (D : va_G) (s0 : State) (b0 : Nat) (A : Nat → Prop) (G : jG) (S : sSt) (ad : jN) (T : jT) (hR : jCo D s0 b0 S ad T G) (i : Nat) (hi3 : i < 3) : jM l yX1_frames (ws_ yX1_frames cX1_frames 2 (some .int)) (jR 2 0 0) D s0 b0 A G [.ref (ad 1 0 0), .int (nI i)] (fun w G1 => w = some (.int (nI (s_s S i).2.length)) ∧ G1 = G) := by
  have hxx := co_x hR
  have hst := co_str hR hi3
  obtain ⟨moF, capF, eaF, hFL, -, hFc, -⟩ := co_frl hR hi3
  refine jM.of (by decide +kernel) (own := RX1) rfl (Nat.le_of_ble_eq_true rfl) ?_
  intro p e s m args below meth c hX hr hlk hnm
  refine jr_aload_n (i := 0) hX rfl rfl dX1_frames_0 ?_
  refine jr_iload_n (i := 1) hX rfl rfl dX1_frames_1 ?_
  refine jr_callV (As := [.int (nI i)]) (bc1 := (0)) (bs1 := (0)) hX (met_strandAt l D s0 b0 A _ S ad T hR i hi3) (cwV 1 hX.ts (lw_V q943 q945 qs8 q65 q946) rfl rfl rfl (by decide +kernel) ⟨Nat.le_of_ble_eq_true rfl, Nat.le_of_ble_eq_true rfl⟩) hxx rfl rfl (Nat.le_of_ble_eq_true rfl) (by first | omega | (dsimp only; omega) | (show _ ≤ _; simp only []; omega)) (by first | omega | (dsimp only; omega) | (show _ ≤ _; simp only []; omega)) rfl dX1_frames_2 (fun v_2 G_2 hp_2 => ?_)
  obtain ⟨rfl, e9⟩ := hp_2
  rw [e9]
  refine jr_getN (ci := 3) (k := 0) hX (by first | assumption | exact jup_s) rfl in_X2 (by decide) q159 rfl dX1_frames_5 ?_
  refine jr_callF (As := []) (bc1 := (0)) (bs1 := (0)) hX (met_size l D s0 b0 A _ (ad 6 i 0) (s_rg (s_s S i).2.length (fun q => ad 8 i q)) moF capF eaF hFL) (va_cwF 0 hX.ts (lw_F q405 q408 q410 q68 q412) rfl rfl rfl (hX.S.fw ⟨by decide +kernel, by decide +kernel⟩ q407 q406 q411 q409 q183) (by decide +kernel) ⟨Nat.le_of_ble_eq_true rfl, Nat.le_of_ble_eq_true rfl⟩) hFL.1 rfl rfl (Nat.le_of_ble_eq_true rfl) (by first | omega | (dsimp only; omega) | (show _ ≤ _; simp only []; omega)) (by first | omega | (dsimp only; omega) | (show _ ≤ _; simp only []; omega)) rfl dX1_frames_8 (fun v_8 G_8 hp_8 => ?_)
  obtain ⟨rfl, e9⟩ := hp_8
  rw [e9, rg_len]
  exact jr_iret hX hlk hr ⟨rfl, rfl⟩ dX1_frames_13

set_option maxHeartbeats 4000000 in
set_option maxRecDepth 100000 in
theorem met_frameAt (l : Launch) (D : va_G) (s0 : State) (b0 : Nat) (A : Nat → Prop) (G : jG) (S : sSt) (ad : jN) (T : jT) (hR : jCo D s0 b0 S ad T G) (i : Nat) (hi3 : i < 3) (hs : sWs S) (j : Nat) (x : sFr) (hx : (s_s S i).2[j]? = some x) : jM l yX1_frameAt (ws_ yX1_frameAt cX1_frameAt 4 (some (.object "SwapWhile$Frame"))) (jR 3 0 0) D s0 b0 A G [.ref (ad 1 0 0), .int (nI i), .int (nI j)] (fun w G1 => w = some (.ref (ad 8 i j)) ∧ G1 = G) := by
  have hxx := co_x hR
  have hst := co_str hR hi3
  have hF := co_fr hR hi3 hx
  have hlen := (hs i hi3).2.1
  have hj := lt_ofl hx
  obtain ⟨moF, capF, eaF, hFL, -, hFc, -⟩ := co_frl hR hi3
  refine jM.of (by decide +kernel) (own := RX1) rfl (Nat.le_of_ble_eq_true rfl) ?_
  intro p e s m args below meth c hX hr hlk hnm
  refine jr_aload_n (i := 0) hX rfl rfl dX1_frameAt_0 ?_
  refine jr_iload_n (i := 1) hX rfl rfl dX1_frameAt_1 ?_
  refine jr_callV (As := [.int (nI i)]) (bc1 := (0)) (bs1 := (0)) hX (met_strandAt l D s0 b0 A _ S ad T hR i hi3) (cwV 1 hX.ts (lw_V q943 q945 qs8 q65 q946) rfl rfl rfl (by decide +kernel) ⟨Nat.le_of_ble_eq_true rfl, Nat.le_of_ble_eq_true rfl⟩) hxx rfl rfl (Nat.le_of_ble_eq_true rfl) (by first | omega | (dsimp only; omega) | (show _ ≤ _; simp only []; omega)) (by first | omega | (dsimp only; omega) | (show _ ≤ _; simp only []; omega)) rfl dX1_frameAt_2 (fun v_2 G_2 hp_2 => ?_)
  obtain ⟨rfl, e9⟩ := hp_2
  rw [e9]
  refine jr_astore_n (i := 3) hX rfl (by decide) rfl dX1_frameAt_5 ?_
  refine jr_iload_n (i := 2) hX rfl rfl dX1_frameAt_6 ?_
  refine jr_aload_n (i := 3) hX rfl rfl dX1_frameAt_7 ?_
  refine jr_getN (ci := 3) (k := 0) hX (by first | assumption | exact jup_s) rfl in_X2 (by decide) q159 rfl dX1_frameAt_8 ?_
  refine jr_callF (As := []) (bc1 := (0)) (bs1 := (0)) hX (met_size l D s0 b0 A _ (ad 6 i 0) (s_rg (s_s S i).2.length (fun q => ad 8 i q)) moF capF eaF hFL) (va_cwF 0 hX.ts (lw_F q405 q408 q410 q68 q412) rfl rfl rfl (hX.S.fw ⟨by decide +kernel, by decide +kernel⟩ q407 q406 q411 q409 q183) (by decide +kernel) ⟨Nat.le_of_ble_eq_true rfl, Nat.le_of_ble_eq_true rfl⟩) hFL.1 rfl rfl (Nat.le_of_ble_eq_true rfl) (by first | omega | (dsimp only; omega) | (show _ ≤ _; simp only []; omega)) (by first | omega | (dsimp only; omega) | (show _ ≤ _; simp only []; omega)) rfl dX1_frameAt_11 (fun v_11 G_11 hp_11 => ?_)
  obtain ⟨rfl, e9⟩ := hp_11
  rw [e9, rg_len]
  refine jr_callS (As := [.int (nI j), .int (nI (s_s S i).2.length)]) (bc1 := (0)) (bs1 := (0)) hX (met_requireIndex l D s0 b0 A _ j _ hj (by omega)) (va_cwS 2 hX.ts (lw_S q735 q736 q65 q737) rfl rfl rfl (by decide +kernel) ⟨Nat.le_of_ble_eq_true rfl, Nat.le_of_ble_eq_true rfl⟩) rfl (Nat.le_of_ble_eq_true rfl) (by first | omega | (dsimp only; omega) | (show _ ≤ _; simp only []; omega)) (by first | omega | (dsimp only; omega) | (show _ ≤ _; simp only []; omega)) rfl dX1_frameAt_16 (fun v_16 G_16 hp_16 => ?_)
  obtain ⟨rfl, e9⟩ := hp_16
  rw [e9]
  refine jr_aload_n (i := 3) hX rfl rfl dX1_frameAt_19 ?_
  refine jr_getN (ci := 3) (k := 0) hX (by first | assumption | exact jup_s) rfl in_X2 (by decide) q159 rfl dX1_frameAt_20 ?_
  refine jr_iload_n (i := 2) hX rfl rfl dX1_frameAt_23 ?_
  refine jr_callF (As := [.int (nI (j))]) (bc1 := (0)) (bs1 := (0)) hX (met_get l D s0 b0 A _ (ad 6 i 0) (s_rg (s_s S i).2.length (fun q => ad 8 i q)) moF capF eaF hFL (j) (ad 8 i j) (rg_at hj)) (va_cwF 1 hX.ts (lw_F q299 q302 q304 q68 q306) rfl rfl rfl (hX.S.fw ⟨by decide +kernel, by decide +kernel⟩ q301 q300 q305 q303 q183) (by decide +kernel) ⟨Nat.le_of_ble_eq_true rfl, Nat.le_of_ble_eq_true rfl⟩) hFL.1 rfl rfl (Nat.le_of_ble_eq_true rfl) (by first | omega | (dsimp only; omega) | (show _ ≤ _; simp only []; omega)) (by first | omega | (dsimp only; omega) | (show _ ≤ _; simp only []; omega)) rfl dX1_frameAt_24 (fun v_24 G_24 hp_24 => ?_)
  obtain ⟨rfl, e9⟩ := hp_24
  rw [e9]
  refine jr_castS hX hF rfl q957 dX1_frameAt_29 ?_
  exact jr_aret hX hlk hr (by first | exact Or.inl ⟨_, rfl⟩ | exact Or.inr ⟨_, rfl⟩) (Or.inr ⟨_, rfl⟩) ⟨rfl, rfl⟩ dX1_frameAt_32

set_option maxHeartbeats 4000000 in
set_option maxRecDepth 100000 in
theorem met_atC (l : Launch) (D : va_G) (s0 : State) (b0 : Nat) (A : Nat → Prop) (G : jG) (S : sSt) (ad : jN) (T : jT) (hR : jCo D s0 b0 S ad T G) (i : Nat) (hi3 : i < 3) (hs : sWs S) (j : Nat) (x : sFr) (hx : (s_s S i).2[j]? = some x) : jM l yX1_at (ws_ yX1_at cX1_at 4 (some .int)) (jR 4 0 0) D s0 b0 A G [.ref (ad 1 0 0), .int (nI i), .int (nI j)] (fun w G1 => w = some (.int (1000 * nI x.1 + 100 * nI x.2.1 + nI x.2.2.2.2)) ∧ G1 = G) := by
  have hxx := co_x hR
  have hF := co_fr hR hi3 hx
  refine jM.of (by decide +kernel) (own := RX1) rfl (Nat.le_of_ble_eq_true rfl) ?_
  intro p e s m args below meth c hX hr hlk hnm
  refine jr_aload_n (i := 0) hX rfl rfl dX1_at_0 ?_
  refine jr_iload_n (i := 1) hX rfl rfl dX1_at_1 ?_
  refine jr_iload_n (i := 2) hX rfl rfl dX1_at_2 ?_
  refine jr_callV (As := [.int (nI i), .int (nI j)]) (bc1 := (0)) (bs1 := (0)) hX (met_frameAt l D s0 b0 A _ S ad T hR i hi3 hs j x hx) (cwV 2 hX.ts (lw_V q1517 q1519 qs35 q65 q1520) rfl rfl rfl (by decide +kernel) ⟨Nat.le_of_ble_eq_true rfl, Nat.le_of_ble_eq_true rfl⟩) hxx rfl rfl (Nat.le_of_ble_eq_true rfl) (by first | omega | (dsimp only; omega) | (show _ ≤ _; simp only []; omega)) (by first | omega | (dsimp only; omega) | (show _ ≤ _; simp only []; omega)) rfl dX1_at_3 (fun v_3 G_3 hp_3 => ?_)
  obtain ⟨rfl, e9⟩ := hp_3
  rw [e9]
  refine jr_astore_n (i := 3) hX rfl (by decide) rfl dX1_at_6 ?_
  refine jr_sipush (v := 1000) hX (by decide) dX1_at_7 ?_
  refine jr_aload_n (i := 3) hX rfl rfl dX1_at_10 ?_
  refine jr_callU (As := []) (bc1 := (0)) (bs1 := (0)) hX (met_version_f l D s0 b0 A _ (ad 8 i j) _ _ _ _ _ hF) (va_cwU 0 hX.ts (lw_U q1147 q1148 q1149 q1109 q98 q1110) rfl rfl rfl rfl (by decide +kernel) ⟨Nat.le_of_ble_eq_true rfl, Nat.le_of_ble_eq_true rfl⟩) hF rfl rfl (Nat.le_of_ble_eq_true rfl) (by first | omega | (dsimp only; omega) | (show _ ≤ _; simp only []; omega)) (by first | omega | (dsimp only; omega) | (show _ ≤ _; simp only []; omega)) rfl dX1_at_11 (fun v_11 G_11 hp_11 => ?_)
  obtain ⟨rfl, e9⟩ := hp_11
  rw [e9]
  refine jr_imul hX dX1_at_14 ?_
  refine jr_bipush (v := 100) hX (by decide) dX1_at_15 ?_
  refine jr_aload_n (i := 3) hX rfl rfl dX1_at_17 ?_
  refine jr_getN (ci := 6) (k := 1) hX (by first | assumption | exact jup_s) rfl in_X13 (by decide) q967 rfl dX1_at_18 ?_
  refine jr_imul hX dX1_at_21 ?_
  refine jr_iadd hX dX1_at_22 ?_
  refine jr_aload_n (i := 3) hX rfl rfl dX1_at_23 ?_
  refine jr_getN (ci := 6) (k := 4) hX (by first | assumption | exact jup_s) rfl in_X13 (by decide) q973 rfl dX1_at_24 ?_
  refine jr_iadd hX dX1_at_27 ?_
  exact jr_iret hX hlk hr ⟨rfl, rfl⟩ dX1_at_28

set_option maxHeartbeats 4000000 in
set_option maxRecDepth 100000 in
theorem met_localC (l : Launch) (D : va_G) (s0 : State) (b0 : Nat) (A : Nat → Prop) (G : jG) (S : sSt) (ad : jN) (T : jT) (hR : jCo D s0 b0 S ad T G) (i : Nat) (hi3 : i < 3) (hs : sWs S) (j : Nat) (x : sFr) (hx : (s_s S i).2[j]? = some x) (k : Nat) (hk : k < 4) : jM l yX1_local (ws_ yX1_local cX1_local 5 (some .int)) (jR 3 0 0) D s0 b0 A G [.ref (ad 1 0 0), .int (nI i), .int (nI j), .int (nI k)] (fun w G1 => w = some (.int (x.2.2.2.1 k)) ∧ G1 = G) := by
  have hxx := co_x hR
  have hst := co_str hR hi3
  have hF := co_fr hR hi3 hx
  have hLo := co_loc hR hi3 hx
  have hlen := (hs i hi3).2.1
  have hj := lt_ofl hx
  obtain ⟨moF, capF, eaF, hFL, -, hFc, -⟩ := co_frl hR hi3
  refine jM.of (by decide +kernel) (own := RX1) rfl (Nat.le_of_ble_eq_true rfl) ?_
  intro p e s m args below meth c hX hr hlk hnm
  refine jr_aload_n (i := 0) hX rfl rfl dX1_local_0 ?_
  refine jr_iload_n (i := 1) hX rfl rfl dX1_local_1 ?_
  refine jr_callV (As := [.int (nI i)]) (bc1 := (0)) (bs1 := (0)) hX (met_strandAt l D s0 b0 A _ S ad T hR i hi3) (cwV 1 hX.ts (lw_V q943 q945 qs8 q65 q946) rfl rfl rfl (by decide +kernel) ⟨Nat.le_of_ble_eq_true rfl, Nat.le_of_ble_eq_true rfl⟩) hxx rfl rfl (Nat.le_of_ble_eq_true rfl) (by first | omega | (dsimp only; omega) | (show _ ≤ _; simp only []; omega)) (by first | omega | (dsimp only; omega) | (show _ ≤ _; simp only []; omega)) rfl dX1_local_2 (fun v_2 G_2 hp_2 => ?_)
  obtain ⟨rfl, e9⟩ := hp_2
  rw [e9]
  refine jr_astore hX (by decide) rfl dX1_local_5 ?_
  refine jr_iload_n (i := 3) hX rfl rfl dX1_local_7 ?_
  refine jr_iconst (v := 0) hX rfl dX1_local_8 ?_
  refine jr_iconst (v := 3) hX rfl dX1_local_9 ?_
  refine jr_callS (As := [.int (nI k), .int 0, .int 3]) (bc1 := (0)) (bs1 := (0)) hX (met_isIn l D s0 b0 A _ (nI k) 0 3) (va_cwS 3 hX.ts (lw_S q453 q454 q65 q455) rfl rfl rfl (by decide +kernel) ⟨Nat.le_of_ble_eq_true rfl, Nat.le_of_ble_eq_true rfl⟩) rfl (Nat.le_of_ble_eq_true rfl) (by first | omega | (dsimp only; omega) | (show _ ≤ _; simp only []; omega)) (by first | omega | (dsimp only; omega) | (show _ ≤ _; simp only []; omega)) rfl dX1_local_10 (fun v_10 G_10 hp_10 => ?_)
  obtain ⟨rfl, e9⟩ := hp_10
  rw [e9, jdt (p := (0 : Int32) ≤ nI k ∧ nI k ≤ 3) ⟨nI_pos' (by omega), nI_le (b := 3) (by omega) (by omega)⟩]
  refine jr_callS (As := [.int 1]) (bc1 := (0)) (bs1 := (0)) hX (met_requireValid l D s0 b0 A _ ) (va_cwS 1 hX.ts (lw_S q456 q457 q65 q458) rfl rfl rfl (by decide +kernel) ⟨Nat.le_of_ble_eq_true rfl, Nat.le_of_ble_eq_true rfl⟩) rfl (Nat.le_of_ble_eq_true rfl) (by first | omega | (dsimp only; omega) | (show _ ≤ _; simp only []; omega)) (by first | omega | (dsimp only; omega) | (show _ ≤ _; simp only []; omega)) rfl dX1_local_13 (fun v_13 G_13 hp_13 => ?_)
  obtain ⟨rfl, e9⟩ := hp_13
  rw [e9]
  refine jr_iload_n (i := 2) hX rfl rfl dX1_local_16 ?_
  refine jr_aload hX rfl dX1_local_17 ?_
  refine jr_getN (ci := 3) (k := 0) hX (by first | assumption | exact jup_s) rfl in_X2 (by decide) q159 rfl dX1_local_19 ?_
  refine jr_callF (As := []) (bc1 := (0)) (bs1 := (0)) hX (met_size l D s0 b0 A _ (ad 6 i 0) (s_rg (s_s S i).2.length (fun q => ad 8 i q)) moF capF eaF hFL) (va_cwF 0 hX.ts (lw_F q405 q408 q410 q68 q412) rfl rfl rfl (hX.S.fw ⟨by decide +kernel, by decide +kernel⟩ q407 q406 q411 q409 q183) (by decide +kernel) ⟨Nat.le_of_ble_eq_true rfl, Nat.le_of_ble_eq_true rfl⟩) hFL.1 rfl rfl (Nat.le_of_ble_eq_true rfl) (by first | omega | (dsimp only; omega) | (show _ ≤ _; simp only []; omega)) (by first | omega | (dsimp only; omega) | (show _ ≤ _; simp only []; omega)) rfl dX1_local_22 (fun v_22 G_22 hp_22 => ?_)
  obtain ⟨rfl, e9⟩ := hp_22
  rw [e9, rg_len]
  refine jr_callS (As := [.int (nI j), .int (nI (s_s S i).2.length)]) (bc1 := (0)) (bs1 := (0)) hX (met_requireIndex l D s0 b0 A _ j _ hj (by omega)) (va_cwS 2 hX.ts (lw_S q735 q736 q65 q737) rfl rfl rfl (by decide +kernel) ⟨Nat.le_of_ble_eq_true rfl, Nat.le_of_ble_eq_true rfl⟩) rfl (Nat.le_of_ble_eq_true rfl) (by first | omega | (dsimp only; omega) | (show _ ≤ _; simp only []; omega)) (by first | omega | (dsimp only; omega) | (show _ ≤ _; simp only []; omega)) rfl dX1_local_27 (fun v_27 G_27 hp_27 => ?_)
  obtain ⟨rfl, e9⟩ := hp_27
  rw [e9]
  refine jr_aload hX rfl dX1_local_30 ?_
  refine jr_getN (ci := 3) (k := 0) hX (by first | assumption | exact jup_s) rfl in_X2 (by decide) q159 rfl dX1_local_32 ?_
  refine jr_iload_n (i := 2) hX rfl rfl dX1_local_35 ?_
  refine jr_callF (As := [.int (nI (j))]) (bc1 := (0)) (bs1 := (0)) hX (met_get l D s0 b0 A _ (ad 6 i 0) (s_rg (s_s S i).2.length (fun q => ad 8 i q)) moF capF eaF hFL (j) (ad 8 i j) (rg_at hj)) (va_cwF 1 hX.ts (lw_F q299 q302 q304 q68 q306) rfl rfl rfl (hX.S.fw ⟨by decide +kernel, by decide +kernel⟩ q301 q300 q305 q303 q183) (by decide +kernel) ⟨Nat.le_of_ble_eq_true rfl, Nat.le_of_ble_eq_true rfl⟩) hFL.1 rfl rfl (Nat.le_of_ble_eq_true rfl) (by first | omega | (dsimp only; omega) | (show _ ≤ _; simp only []; omega)) (by first | omega | (dsimp only; omega) | (show _ ≤ _; simp only []; omega)) rfl dX1_local_36 (fun v_36 G_36 hp_36 => ?_)
  obtain ⟨rfl, e9⟩ := hp_36
  rw [e9]
  refine jr_castS hX hF rfl q957 dX1_local_41 ?_
  refine jr_getN (ci := 6) (k := 3) hX (by first | assumption | exact jup_s) rfl in_X13 (by decide) q971 rfl dX1_local_44 ?_
  refine jr_iload_n (i := 3) hX rfl rfl dX1_local_47 ?_
  refine jr_iald hX hLo (vp_in_nI hk (by omega)) dX1_local_48 ?_
  rw [nI_clamp (by omega)]
  exact jr_iret hX hlk hr ⟨rfl, rfl⟩ dX1_local_49

set_option maxHeartbeats 4000000 in
set_option maxRecDepth 100000 in
theorem met_changedC (l : Launch) (D : va_G) (s0 : State) (b0 : Nat) (A : Nat → Prop) (G : jG) (S : sSt) (ad : jN) (T : jT) (hR : jCo D s0 b0 S ad T G) (ci : Nat) (ch : sCh) (hch : (s_c S)[ci]? = some ch) (hcl : (s_c S).length < 20000) (hcs : ch.2.2.2.2 < 1000) : jM l yX1_changed (ws_ yX1_changed cX1_changed 2 (some .char)) (jR 3 0 0) D s0 b0 A G [.ref (ad 1 0 0), .int (nI ci)] (fun w G1 => w = some (.int (nI ch.2.2.2.2)) ∧ G1 = G) := by
  have hxx := co_x hR
  have hC := co_ch hR hch
  obtain ⟨moH, capH, eaH, hHL, -, hHc, -⟩ := co_chs hR
  refine jM.of (by decide +kernel) (own := RX1) rfl (Nat.le_of_ble_eq_true rfl) ?_
  intro p e s m args below meth c hX hr hlk hnm
  refine jr_iload_n (i := 1) hX rfl rfl dX1_changed_0 ?_
  refine jr_aload_n (i := 0) hX rfl rfl dX1_changed_1 ?_
  refine jr_get (ci := 2) (k := 3) hX (by first | assumption | exact jup_s) rfl in_X1 (by decide) q366 rfl dX1_changed_2 ?_
  refine jr_callF (As := []) (bc1 := (0)) (bs1 := (0)) hX (met_size l D s0 b0 A _ (ad 2 2 0) (s_rg (s_c S).length (fun v => ad 18 v 0)) moH capH eaH hHL) (va_cwF 0 hX.ts (lw_F q405 q408 q410 q68 q412) rfl rfl rfl (hX.S.fw ⟨by decide +kernel, by decide +kernel⟩ q407 q406 q411 q409 q183) (by decide +kernel) ⟨Nat.le_of_ble_eq_true rfl, Nat.le_of_ble_eq_true rfl⟩) hHL.1 rfl rfl (Nat.le_of_ble_eq_true rfl) (by first | omega | (dsimp only; omega) | (show _ ≤ _; simp only []; omega)) (by first | omega | (dsimp only; omega) | (show _ ≤ _; simp only []; omega)) rfl dX1_changed_5 (fun v_5 G_5 hp_5 => ?_)
  obtain ⟨rfl, e9⟩ := hp_5
  rw [e9, rg_len]
  refine jr_callS (As := [.int (nI ci), .int (nI (s_c S).length)]) (bc1 := (0)) (bs1 := (0)) hX (met_requireIndex l D s0 b0 A _ ci _ (lt_ofl hch) hcl) (va_cwS 2 hX.ts (lw_S q735 q736 q65 q737) rfl rfl rfl (by decide +kernel) ⟨Nat.le_of_ble_eq_true rfl, Nat.le_of_ble_eq_true rfl⟩) rfl (Nat.le_of_ble_eq_true rfl) (by first | omega | (dsimp only; omega) | (show _ ≤ _; simp only []; omega)) (by first | omega | (dsimp only; omega) | (show _ ≤ _; simp only []; omega)) rfl dX1_changed_10 (fun v_10 G_10 hp_10 => ?_)
  obtain ⟨rfl, e9⟩ := hp_10
  rw [e9]
  refine jr_aload_n (i := 0) hX rfl rfl dX1_changed_13 ?_
  refine jr_get (ci := 2) (k := 3) hX (by first | assumption | exact jup_s) rfl in_X1 (by decide) q366 rfl dX1_changed_14 ?_
  refine jr_iload_n (i := 1) hX rfl rfl dX1_changed_17 ?_
  refine jr_callF (As := [.int (nI (ci))]) (bc1 := (0)) (bs1 := (0)) hX (met_get l D s0 b0 A _ (ad 2 2 0) (s_rg (s_c S).length (fun v => ad 18 v 0)) moH capH eaH hHL (ci) (ad 18 ci 0) (rg_at (lt_ofl hch))) (va_cwF 1 hX.ts (lw_F q299 q302 q304 q68 q306) rfl rfl rfl (hX.S.fw ⟨by decide +kernel, by decide +kernel⟩ q301 q300 q305 q303 q183) (by decide +kernel) ⟨Nat.le_of_ble_eq_true rfl, Nat.le_of_ble_eq_true rfl⟩) hHL.1 rfl rfl (Nat.le_of_ble_eq_true rfl) (by first | omega | (dsimp only; omega) | (show _ ≤ _; simp only []; omega)) (by first | omega | (dsimp only; omega) | (show _ ≤ _; simp only []; omega)) rfl dX1_changed_18 (fun v_18 G_18 hp_18 => ?_)
  obtain ⟨rfl, e9⟩ := hp_18
  rw [e9]
  refine jr_castS hX hC rfl q999 dX1_changed_23 ?_
  refine jr_getN (ci := 8) (k := 4) hX (by first | assumption | exact jup_s) rfl in_X16 (by decide) q1229 rfl dX1_changed_26 ?_
  exact jr_zret hX hlk hr (nI_nc hcs) ⟨rfl, rfl⟩ dX1_changed_29

set_option maxHeartbeats 4000000 in
set_option maxRecDepth 100000 in
theorem met_isTouchedC (l : Launch) (D : va_G) (s0 : State) (b0 : Nat) (A : Nat → Prop) (G : jG) (S : sSt) (ad : jN) (T : jT) (hR : jCo D s0 b0 S ad T G) (hi : sWi S) (hv : sWv S) (v f : Nat) (hvm : v + 1 < s_m S) (hf : f < 5) : jM l yX1_isTouched (ws_ yX1_isTouched cX1_isTouched 3 (some .boolean)) (jR 6 1 4) D s0 b0 A G [.ref (ad 1 0 0), .int (nI v), .int (nI f)] (fun w G1 => w = some (.int (jbz (s_tch S v f))) ∧ jNw G G1) := by
  have hxx := co_x hR
  have hmm : s_m S = (s_v S).length - 1 := rfl
  have hvl := hv.1
  have hvu := hv.2.1
  obtain ⟨moV, capV, eaV, hVL, -, hVc, -⟩ := co_vs hR
  have hV0 := co_ver hR (v := v) (by omega)
  have hV1 := co_ver hR (v := v + 1) (by omega)
  refine jM.of (by decide +kernel) (own := RX1) rfl (Nat.le_of_ble_eq_true rfl) ?_
  intro p e s m args below meth c hX hr hlk hnm
  refine jr_iload_n (i := 1) hX rfl rfl dX1_isTouched_0 ?_
  refine jr_aload_n (i := 0) hX rfl rfl dX1_isTouched_1 ?_
  refine jr_get (ci := 2) (k := 0) hX (by first | assumption | exact jup_s) rfl in_X1 (by decide) q363 rfl dX1_isTouched_2 ?_
  refine jr_callF (As := []) (bc1 := (1)) (bs1 := (4)) hX (met_size l D s0 b0 A _ (ad 2 0 0) (s_rg (s_m S) (fun v => ad 7 v 0)) moV capV eaV hVL) (va_cwF 0 hX.ts (lw_F q405 q408 q410 q68 q412) rfl rfl rfl (hX.S.fw ⟨by decide +kernel, by decide +kernel⟩ q407 q406 q411 q409 q183) (by decide +kernel) ⟨Nat.le_of_ble_eq_true rfl, Nat.le_of_ble_eq_true rfl⟩) hVL.1 rfl rfl (Nat.le_of_ble_eq_true rfl) (by first | omega | (dsimp only; omega) | (show _ ≤ _; simp only []; omega)) (by first | omega | (dsimp only; omega) | (show _ ≤ _; simp only []; omega)) rfl dX1_isTouched_5 (fun v_5 G_5 hp_5 => ?_)
  obtain ⟨rfl, e9⟩ := hp_5
  rw [e9, rg_len]
  refine jr_iconst (v := 1) hX rfl dX1_isTouched_10 ?_
  refine jr_isub hX dX1_isTouched_11 ?_
  rw [nI_s1 (by omega)]
  refine jr_callS (As := [.int (nI v), .int (nI (s_m S - 1))]) (bc1 := (1)) (bs1 := (4)) hX (met_requireIndex l D s0 b0 A _ v (s_m S - 1) (by omega) (by omega)) (va_cwS 2 hX.ts (lw_S q735 q736 q65 q737) rfl rfl rfl (by decide +kernel) ⟨Nat.le_of_ble_eq_true rfl, Nat.le_of_ble_eq_true rfl⟩) rfl (Nat.le_of_ble_eq_true rfl) (by first | omega | (dsimp only; omega) | (show _ ≤ _; simp only []; omega)) (by first | omega | (dsimp only; omega) | (show _ ≤ _; simp only []; omega)) rfl dX1_isTouched_12 (fun v_12 G_12 hp_12 => ?_)
  obtain ⟨rfl, e9⟩ := hp_12
  rw [e9]
  refine jr_iload_n (i := 2) hX rfl rfl dX1_isTouched_15 ?_
  refine jr_callS (As := [.int (nI f)]) (bc1 := (1)) (bs1 := (4)) hX (met_requireFunction l D s0 b0 A _ f hf) (va_cwS 1 hX.ts (lw_S q450 q451 q65 q452) rfl rfl rfl (by decide +kernel) ⟨Nat.le_of_ble_eq_true rfl, Nat.le_of_ble_eq_true rfl⟩) rfl (Nat.le_of_ble_eq_true rfl) (by first | omega | (dsimp only; omega) | (show _ ≤ _; simp only []; omega)) (by first | omega | (dsimp only; omega) | (show _ ≤ _; simp only []; omega)) rfl dX1_isTouched_16 (fun v_16 G_16 hp_16 => ?_)
  obtain ⟨rfl, e9⟩ := hp_16
  rw [e9]
  refine jr_aload_n (i := 0) hX rfl rfl dX1_isTouched_19 ?_
  refine jr_get (ci := 2) (k := 0) hX (by first | assumption | exact jup_s) rfl in_X1 (by decide) q363 rfl dX1_isTouched_20 ?_
  refine jr_iload_n (i := 1) hX rfl rfl dX1_isTouched_23 ?_
  refine jr_iconst (v := 1) hX rfl dX1_isTouched_24 ?_
  refine jr_iadd hX dX1_isTouched_25 ?_
  rw [nI_1]
  refine jr_callF (As := [.int (nI (v + 1))]) (bc1 := (1)) (bs1 := (4)) hX (met_get l D s0 b0 A _ (ad 2 0 0) (s_rg (s_m S) (fun v => ad 7 v 0)) moV capV eaV hVL (v + 1) (ad 7 (v + 1) 0) (rg_at (by omega))) (va_cwF 1 hX.ts (lw_F q299 q302 q304 q68 q306) rfl rfl rfl (hX.S.fw ⟨by decide +kernel, by decide +kernel⟩ q301 q300 q305 q303 q183) (by decide +kernel) ⟨Nat.le_of_ble_eq_true rfl, Nat.le_of_ble_eq_true rfl⟩) hVL.1 rfl rfl (Nat.le_of_ble_eq_true rfl) (by first | omega | (dsimp only; omega) | (show _ ≤ _; simp only []; omega)) (by first | omega | (dsimp only; omega) | (show _ ≤ _; simp only []; omega)) rfl dX1_isTouched_26 (fun v_26 G_26 hp_26 => ?_)
  obtain ⟨rfl, e9⟩ := hp_26
  rw [e9]
  refine jr_castS hX hV1 rfl q167 dX1_isTouched_31 ?_
  refine jr_aload_n (i := 0) hX rfl rfl dX1_isTouched_34 ?_
  refine jr_get (ci := 2) (k := 0) hX (by first | assumption | exact jup_s) rfl in_X1 (by decide) q363 rfl dX1_isTouched_35 ?_
  refine jr_iload_n (i := 1) hX rfl rfl dX1_isTouched_38 ?_
  refine jr_callF (As := [.int (nI (v))]) (bc1 := (1)) (bs1 := (4)) hX (met_get l D s0 b0 A _ (ad 2 0 0) (s_rg (s_m S) (fun v => ad 7 v 0)) moV capV eaV hVL (v) (ad 7 v 0) (rg_at (by omega))) (va_cwF 1 hX.ts (lw_F q299 q302 q304 q68 q306) rfl rfl rfl (hX.S.fw ⟨by decide +kernel, by decide +kernel⟩ q301 q300 q305 q303 q183) (by decide +kernel) ⟨Nat.le_of_ble_eq_true rfl, Nat.le_of_ble_eq_true rfl⟩) hVL.1 rfl rfl (Nat.le_of_ble_eq_true rfl) (by first | omega | (dsimp only; omega) | (show _ ≤ _; simp only []; omega)) (by first | omega | (dsimp only; omega) | (show _ ≤ _; simp only []; omega)) rfl dX1_isTouched_39 (fun v_39 G_39 hp_39 => ?_)
  obtain ⟨rfl, e9⟩ := hp_39
  rw [e9]
  refine jr_castS hX hV0 rfl q167 dX1_isTouched_44 ?_
  refine jr_iload_n (i := 2) hX rfl rfl dX1_isTouched_47 ?_
  refine jr_callV (As := [.ref (ad 7 v 0), .int (nI f)]) (bc1 := (0)) (bs1 := (0)) hX (met_touches l D s0 b0 A _ S ad T hR hi hv v f (by omega) hf) (cwV 2 hX.ts (lw_V q753 q754 q755 q70 q756) rfl rfl rfl (by decide +kernel) ⟨Nat.le_of_ble_eq_true rfl, Nat.le_of_ble_eq_true rfl⟩) hV1 rfl rfl (Nat.le_of_ble_eq_true rfl) (by first | omega | (dsimp only; omega) | (show _ ≤ _; simp only []; omega)) (by first | omega | (dsimp only; omega) | (show _ ≤ _; simp only []; omega)) rfl dX1_isTouched_48 (fun v_48 G_48 hp_48 => ?_)
  obtain ⟨rfl, e9⟩ := hp_48
  exact jr_zret hX hlk hr (jbz_n _) ⟨rfl, e9⟩ dX1_isTouched_51
