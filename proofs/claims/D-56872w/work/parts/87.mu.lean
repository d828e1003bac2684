/-! the model's readers: what they answer where the arguments are valid, and where they aren't -/
theorem len_no {x : Int32} {n : Nat} (hn : n < 10000) (h : ¬ ∃ o, o < n ∧ x = nI o) : ¬ ((0 : Int32) ≤ x ∧ x ≤ nI n - 1) := fun z => h (by
  cases n with
  | zero => exact absurd (Int32.le_trans z.1 z.2) (by decide)
  | succ k =>
    rw [nI_pred k] at z
    obtain ⟨j, hj, rfl⟩ := nI_of (Int32.not_lt.mpr z.1)
    exact ⟨j, by have := (nI_leI hj (by omega)).mp z.2; omega, rfl⟩)
theorem len_yes {n o : Nat} (hn : n < 10000) (h : o < n) : (0 : Int32) ≤ nI o ∧ nI o ≤ nI n - 1 := by
  cases n with
  | zero => omega
  | succ k =>
    rw [nI_pred k]
    exact ⟨nI_pos' (by omega), nI_le (by omega) (by omega)⟩

set_option maxHeartbeats 4000000 in
set_option maxRecDepth 100000 in
theorem mm_framesC (l : Launch) (D : va_G) (s0 : State) (b0 : Nat) (A : Nat → Prop) (G : jG) (S : sSt) (th : Nat) (ad : jN) (T : jT) (hR : jMo D s0 b0 th S ad T G) (i : Nat) (hi3 : i < 3) : jM l yX5_frames (ws_ yX5_frames cX5_frames 2 (some .int)) (jR 4 0 0) D s0 b0 A G [.ref (ad 31 0 0), .int (nI i)] (fun w G1 => w = some (.int (nI (s_s S i).2.length)) ∧ jMo D s0 b0 0 S ad T G1 ∧ jFm 31 60 T G T G1) := by
  have hxx := mo_x hR
  have hin : (0 : Int32) ≤ nI i ∧ nI i ≤ 2 := ⟨nI_pos' (by omega), nI_le (b := 2) (by omega) (by omega)⟩
  refine jM.of (by decide +kernel) (own := RX5) rfl (Nat.le_of_ble_eq_true rfl) ?_
  intro p e s m args below meth c hX hr hlk hnm
  refine jr_aload_n (i := 0) hX rfl rfl dX5_frames_0 ?_
  refine jr_iload_n (i := 1) hX rfl rfl dX5_frames_1 ?_
  refine jr_callV (As := [.int (nI i)]) (bc1 := (0)) (bs1 := (0)) hX (mm_noThread l D s0 b0 A _ S th ad T hR (nI i)) (cwV 1 hX.ts (lw_V q1872 q1874 qs40 q78 q1875) rfl rfl rfl (by decide +kernel) ⟨Nat.le_of_ble_eq_true rfl, Nat.le_of_ble_eq_true rfl⟩) hxx rfl rfl (Nat.le_of_ble_eq_true rfl) (by first | omega | (dsimp only; omega) | (show _ ≤ _; simp only []; omega)) (by first | omega | (dsimp only; omega) | (show _ ≤ _; simp only []; omega)) rfl dX5_frames_2 (fun v_2 G_2 hp_2 => ?_)
  obtain ⟨rfl, hR1, hF1⟩ := hp_2
  rw [if_pos hin] at hR1
  rw [decide_eq_true hin]
  have hxx1 := mo_x hR1
  refine jr_if_eq hX (tgt := 12) (by decide) dX5_frames_5 (fun c_5 => ?_) (fun c_5 => absurd rfl c_5)
  refine jr_aload_n (i := 0) hX rfl rfl dX5_frames_12 ?_
  obtain ⟨moL, capL, eaL, hLL, -, -, -⟩ := mo_lns hR1
  obtain ⟨moF, capF, eaF, hFL, -, -, -⟩ := mo_frl hR1 hi3
  refine jr_get (ci := 11) (k := 4) hX hxx1 rfl in_X5 (by decide) q1734 rfl dX5_frames_13 ?_
  refine jr_iload_n (i := 1) hX rfl rfl dX5_frames_16 ?_
  refine jr_callV (As := [.int (nI i)]) (bc1 := (0)) (bs1 := (0)) hX (met_get l D s0 b0 A _ (ad 32 1 0) (s_rg 3 (fun v => ad 35 v 0)) moL capL eaL hLL i (ad 35 i 0) (rg_at hi3)) (cwV 1 hX.ts (lw_V q1712 q304 q2203 q68 q306) rfl rfl rfl (by decide +kernel) ⟨Nat.le_of_ble_eq_true rfl, Nat.le_of_ble_eq_true rfl⟩) hLL.1 rfl rfl (Nat.le_of_ble_eq_true rfl) (by first | omega | (dsimp only; omega) | (show _ ≤ _; simp only []; omega)) (by first | omega | (dsimp only; omega) | (show _ ≤ _; simp only []; omega)) rfl dX5_frames_17 (fun v_17 G_17 hp_17 => ?_)
  obtain ⟨rfl, e9⟩ := hp_17
  rw [e9]
  refine jr_castS hX (mo_lan hR1 hi3) rfl q1713 dX5_frames_20 ?_
  refine jr_getN (ci := 13) (k := 1) hX (mo_lan hR1 hi3) rfl in_X7 (by decide) q1724 rfl dX5_frames_23 ?_
  refine jr_callV (As := []) (bc1 := (0)) (bs1 := (0)) hX (met_size l D s0 b0 A _ (ad 36 i 0) (s_rg (s_s S i).2.length (fun q => ad 38 i q)) moF capF eaF hFL) (cwV 0 hX.ts (lw_V q1834 q410 q2205 q68 q412) rfl rfl rfl (by decide +kernel) ⟨Nat.le_of_ble_eq_true rfl, Nat.le_of_ble_eq_true rfl⟩) hFL.1 rfl rfl (Nat.le_of_ble_eq_true rfl) (by first | omega | (dsimp only; omega) | (show _ ≤ _; simp only []; omega)) (by first | omega | (dsimp only; omega) | (show _ ≤ _; simp only []; omega)) rfl dX5_frames_26 (fun v_26 G_26 hp_26 => ?_)
  obtain ⟨rfl, e9⟩ := hp_26
  rw [e9, rg_len]
  exact jr_iret hX hlk hr ⟨rfl, hR1, hF1⟩ dX5_frames_29

set_option maxHeartbeats 4000000 in
set_option maxRecDepth 100000 in
theorem mm_framesE (l : Launch) (D : va_G) (s0 : State) (b0 : Nat) (A : Nat → Prop) (G : jG) (S : sSt) (th : Nat) (ad : jN) (T : jT) (hR : jMo D s0 b0 th S ad T G) (x : Int32) (hin : ¬ ((0 : Int32) ≤ x ∧ x ≤ 2)) : jM l yX5_frames (ws_ yX5_frames cX5_frames 2 (some .int)) (jR 4 0 0) D s0 b0 A G [.ref (ad 31 0 0), .int x] (fun w G1 => w = some (.int 0) ∧ jMo D s0 b0 1 S ad T G1 ∧ jFm 31 60 T G T G1) := by
  have hxx := mo_x hR
  refine jM.of (by decide +kernel) (own := RX5) rfl (Nat.le_of_ble_eq_true rfl) ?_
  intro p e s m args below meth c hX hr hlk hnm
  refine jr_aload_n (i := 0) hX rfl rfl dX5_frames_0 ?_
  refine jr_iload_n (i := 1) hX rfl rfl dX5_frames_1 ?_
  refine jr_callV (As := [.int x]) (bc1 := (0)) (bs1 := (0)) hX (mm_noThread l D s0 b0 A _ S th ad T hR x) (cwV 1 hX.ts (lw_V q1872 q1874 qs40 q78 q1875) rfl rfl rfl (by decide +kernel) ⟨Nat.le_of_ble_eq_true rfl, Nat.le_of_ble_eq_true rfl⟩) hxx rfl rfl (Nat.le_of_ble_eq_true rfl) (by first | omega | (dsimp only; omega) | (show _ ≤ _; simp only []; omega)) (by first | omega | (dsimp only; omega) | (show _ ≤ _; simp only []; omega)) rfl dX5_frames_2 (fun v_2 G_2 hp_2 => ?_)
  obtain ⟨rfl, hR1, hF1⟩ := hp_2
  rw [if_neg hin] at hR1
  rw [decide_eq_false hin]
  have hxx1 := mo_x hR1
  refine jr_if_eq hX (tgt := 12) (by decide) dX5_frames_5 (fun c_5 => absurd c_5 (by decide)) (fun c_5 => ?_)
  refine jr_iconst (v := 0) hX rfl dX5_frames_8 ?_
  refine jr_goto hX (tgt := 29) (by decide) dX5_frames_9 ?_
  exact jr_iret hX hlk hr ⟨rfl, hR1, hF1⟩ dX5_frames_29

set_option maxHeartbeats 4000000 in
set_option maxRecDepth 100000 in
theorem mm_stateC (l : Launch) (D : va_G) (s0 : State) (b0 : Nat) (A : Nat → Prop) (G : jG) (S : sSt) (th : Nat) (ad : jN) (T : jT) (hR : jMo D s0 b0 th S ad T G) (i : Nat) (hi3 : i < 3) (hs : sWs S) : jM l yX5_state (ws_ yX5_state cX5_state 2 (some .char)) (jR 4 0 0) D s0 b0 A G [.ref (ad 31 0 0), .int (nI i)] (fun w G1 => w = some (.int (nI (s_s S i).1)) ∧ jMo D s0 b0 0 S ad T G1 ∧ jFm 31 60 T G T G1) := by
  have hxx := mo_x hR
  have hin : (0 : Int32) ≤ nI i ∧ nI i ≤ 2 := ⟨nI_pos' (by omega), nI_le (b := 2) (by omega) (by omega)⟩
  have hb := (hs i hi3).1
  refine jM.of (by decide +kernel) (own := RX5) rfl (Nat.le_of_ble_eq_true rfl) ?_
  intro p e s m args below meth c hX hr hlk hnm
  refine jr_aload_n (i := 0) hX rfl rfl dX5_state_0 ?_
  refine jr_iload_n (i := 1) hX rfl rfl dX5_state_1 ?_
  refine jr_callV (As := [.int (nI i)]) (bc1 := (0)) (bs1 := (0)) hX (mm_noThread l D s0 b0 A _ S th ad T hR (nI i)) (cwV 1 hX.ts (lw_V q1872 q1874 qs40 q78 q1875) rfl rfl rfl (by decide +kernel) ⟨Nat.le_of_ble_eq_true rfl, Nat.le_of_ble_eq_true rfl⟩) hxx rfl rfl (Nat.le_of_ble_eq_true rfl) (by first | omega | (dsimp only; omega) | (show _ ≤ _; simp only []; omega)) (by first | omega | (dsimp only; omega) | (show _ ≤ _; simp only []; omega)) rfl dX5_state_2 (fun v_2 G_2 hp_2 => ?_)
  obtain ⟨rfl, hR1, hF1⟩ := hp_2
  rw [if_pos hin] at hR1
  rw [decide_eq_true hin]
  have hxx1 := mo_x hR1
  refine jr_if_eq hX (tgt := 13) (by decide) dX5_state_5 (fun c_5 => ?_) (fun c_5 => absurd rfl c_5)
  refine jr_aload_n (i := 0) hX rfl rfl dX5_state_13 ?_
  obtain ⟨moL, capL, eaL, hLL, -, -, -⟩ := mo_lns hR1
  refine jr_get (ci := 11) (k := 4) hX hxx1 rfl in_X5 (by decide) q1734 rfl dX5_state_14 ?_
  refine jr_iload_n (i := 1) hX rfl rfl dX5_state_17 ?_
  refine jr_callV (As := [.int (nI i)]) (bc1 := (0)) (bs1 := (0)) hX (met_get l D s0 b0 A _ (ad 32 1 0) (s_rg 3 (fun v => ad 35 v 0)) moL capL eaL hLL i (ad 35 i 0) (rg_at hi3)) (cwV 1 hX.ts (lw_V q1712 q304 q2203 q68 q306) rfl rfl rfl (by decide +kernel) ⟨Nat.le_of_ble_eq_true rfl, Nat.le_of_ble_eq_true rfl⟩) hLL.1 rfl rfl (Nat.le_of_ble_eq_true rfl) (by first | omega | (dsimp only; omega) | (show _ ≤ _; simp only []; omega)) (by first | omega | (dsimp only; omega) | (show _ ≤ _; simp only []; omega)) rfl dX5_state_18 (fun v_18 G_18 hp_18 => ?_)
  obtain ⟨rfl, e9⟩ := hp_18
  rw [e9]
  refine jr_castS hX (mo_lan hR1 hi3) rfl q1713 dX5_state_21 ?_
  refine jr_getN (ci := 13) (k := 0) hX (mo_lan hR1 hi3) rfl in_X7 (by decide) q1722 rfl dX5_state_24 ?_
  exact jr_zret hX hlk hr (nI_nc hb) ⟨rfl, hR1, hF1⟩ dX5_state_27

set_option maxHeartbeats 4000000 in
set_option maxRecDepth 100000 in
theorem mm_stateE (l : Launch) (D : va_G) (s0 : State) (b0 : Nat) (A : Nat → Prop) (G : jG) (S : sSt) (th : Nat) (ad : jN) (T : jT) (hR : jMo D s0 b0 th S ad T G) (x : Int32) (hin : ¬ ((0 : Int32) ≤ x ∧ x ≤ 2)) : jM l yX5_state (ws_ yX5_state cX5_state 2 (some .char)) (jR 4 0 0) D s0 b0 A G [.ref (ad 31 0 0), .int x] (fun w G1 => w = some (.int 32) ∧ jMo D s0 b0 1 S ad T G1 ∧ jFm 31 60 T G T G1) := by
  have hxx := mo_x hR
  refine jM.of (by decide +kernel) (own := RX5) rfl (Nat.le_of_ble_eq_true rfl) ?_
  intro p e s m args below meth c hX hr hlk hnm
  refine jr_aload_n (i := 0) hX rfl rfl dX5_state_0 ?_
  refine jr_iload_n (i := 1) hX rfl rfl dX5_state_1 ?_
  refine jr_callV (As := [.int x]) (bc1 := (0)) (bs1 := (0)) hX (mm_noThread l D s0 b0 A _ S th ad T hR x) (cwV 1 hX.ts (lw_V q1872 q1874 qs40 q78 q1875) rfl rfl rfl (by decide +kernel) ⟨Nat.le_of_ble_eq_true rfl, Nat.le_of_ble_eq_true rfl⟩) hxx rfl rfl (Nat.le_of_ble_eq_true rfl) (by first | omega | (dsimp only; omega) | (show _ ≤ _; simp only []; omega)) (by first | omega | (dsimp only; omega) | (show _ ≤ _; simp only []; omega)) rfl dX5_state_2 (fun v_2 G_2 hp_2 => ?_)
  obtain ⟨rfl, hR1, hF1⟩ := hp_2
  rw [if_neg hin] at hR1
  rw [decide_eq_false hin]
  have hxx1 := mo_x hR1
  refine jr_if_eq hX (tgt := 13) (by decide) dX5_state_5 (fun c_5 => absurd c_5 (by decide)) (fun c_5 => ?_)
  refine jr_bipush (v := 32) hX (by decide) dX5_state_8 ?_
  refine jr_goto hX (tgt := 27) (by decide) dX5_state_10 ?_
  exact jr_zret hX hlk hr (by decide) ⟨rfl, hR1, hF1⟩ dX5_state_27

set_option maxHeartbeats 4000000 in
set_option maxRecDepth 100000 in
theorem mm_atC (l : Launch) (D : va_G) (s0 : State) (b0 : Nat) (A : Nat → Prop) (G : jG) (S : sSt) (th : Nat) (ad : jN) (T : jT) (hR : jMo D s0 b0 th S ad T G) (i : Nat) (hi3 : i < 3) (j : Nat) (x : sFr) (hx : (s_s S i).2[j]? = some x) (hl8 : (s_s S i).2.length ≤ 8) : jM l yX5_at (ws_ yX5_at cX5_at 4 (some .int)) (jR 4 0 0) D s0 b0 A G [.ref (ad 31 0 0), .int (nI i), .int (nI j)] (fun w G1 => w = some (.int (1000 * nI x.1 + 100 * nI x.2.1 + nI x.2.2.2.2)) ∧ jMo D s0 b0 0 S ad T G1 ∧ jFm 31 60 T G T G1) := by
  have hxx := mo_x hR
  have hin : (0 : Int32) ≤ nI i ∧ nI i ≤ 2 := ⟨nI_pos' (by omega), nI_le (b := 2) (by omega) (by omega)⟩
  have hin2 := len_yes (by omega) (lt_ofl hx)
  refine jM.of (by decide +kernel) (own := RX5) rfl (Nat.le_of_ble_eq_true rfl) ?_
  intro p e s m args below meth c hX hr hlk hnm
  refine jr_aload_n (i := 0) hX rfl rfl dX5_at_0 ?_
  refine jr_iload_n (i := 1) hX rfl rfl dX5_at_1 ?_
  refine jr_callV (As := [.int (nI i)]) (bc1 := (0)) (bs1 := (0)) hX (mm_noThread l D s0 b0 A _ S th ad T hR (nI i)) (cwV 1 hX.ts (lw_V q1872 q1874 qs40 q78 q1875) rfl rfl rfl (by decide +kernel) ⟨Nat.le_of_ble_eq_true rfl, Nat.le_of_ble_eq_true rfl⟩) hxx rfl rfl (Nat.le_of_ble_eq_true rfl) (by first | omega | (dsimp only; omega) | (show _ ≤ _; simp only []; omega)) (by first | omega | (dsimp only; omega) | (show _ ≤ _; simp only []; omega)) rfl dX5_at_2 (fun v_2 G_2 hp_2 => ?_)
  obtain ⟨rfl, hR1, hF1⟩ := hp_2
  rw [if_pos hin] at hR1
  rw [decide_eq_true hin]
  have hxx1 := mo_x hR1
  refine jr_if_ne hX (tgt := 17) (by decide) dX5_at_5 (fun c_5 => absurd c_5 (fun h => h rfl)) (fun c_5 => ?_)
  refine jr_aload_n (i := 0) hX rfl rfl dX5_at_8 ?_
  refine jr_iload_n (i := 1) hX rfl rfl dX5_at_9 ?_
  refine jr_iload_n (i := 2) hX rfl rfl dX5_at_10 ?_
  refine jr_callV (As := [.int (nI i), .int (nI j)]) (bc1 := (0)) (bs1 := (0)) hX (mm_noFrame l D s0 b0 A _ S 0 ad T hR1 i hi3 (nI j)) (cwV 2 hX.ts (lw_V q2096 q2098 qs61 q78 q2099) rfl rfl rfl (by decide +kernel) ⟨Nat.le_of_ble_eq_true rfl, Nat.le_of_ble_eq_true rfl⟩) hxx1 rfl rfl (Nat.le_of_ble_eq_true rfl) (by first | omega | (dsimp only; omega) | (show _ ≤ _; simp only []; omega)) (by first | omega | (dsimp only; omega) | (show _ ≤ _; simp only []; omega)) rfl dX5_at_11 (fun v_11 G_11 hp_11 => ?_)
  obtain ⟨rfl, hR2, hF2⟩ := hp_11
  rw [if_pos hin2] at hR2
  rw [decide_eq_true hin2]
  have hxx2 := mo_x hR2
  have hF3 := hF1.trans hF2
  obtain ⟨moL, capL, eaL, hLL, -, -, -⟩ := mo_lns hR2
  obtain ⟨moF, capF, eaF, hFL, -, -, -⟩ := mo_frl hR2 hi3
  refine jr_if_eq hX (tgt := 19) (by decide) dX5_at_14 (fun c_14 => ?_) (fun c_14 => absurd rfl c_14)
  refine jr_aload_n (i := 0) hX rfl rfl dX5_at_19 ?_
  refine jr_get (ci := 11) (k := 4) hX hxx2 rfl in_X5 (by decide) q1734 rfl dX5_at_20 ?_
  refine jr_iload_n (i := 1) hX rfl rfl dX5_at_23 ?_
  refine jr_callV (As := [.int (nI i)]) (bc1 := (0)) (bs1 := (0)) hX (met_get l D s0 b0 A _ (ad 32 1 0) (s_rg 3 (fun v => ad 35 v 0)) moL capL eaL hLL i (ad 35 i 0) (rg_at hi3)) (cwV 1 hX.ts (lw_V q1712 q304 q2203 q68 q306) rfl rfl rfl (by decide +kernel) ⟨Nat.le_of_ble_eq_true rfl, Nat.le_of_ble_eq_true rfl⟩) hLL.1 rfl rfl (Nat.le_of_ble_eq_true rfl) (by first | omega | (dsimp only; omega) | (show _ ≤ _; simp only []; omega)) (by first | omega | (dsimp only; omega) | (show _ ≤ _; simp only []; omega)) rfl dX5_at_24 (fun v_24 G_24 hp_24 => ?_)
  obtain ⟨rfl, e9⟩ := hp_24
  rw [e9]
  refine jr_castS hX (mo_lan hR2 hi3) rfl q1713 dX5_at_27 ?_
  refine jr_getN (ci := 13) (k := 1) hX (mo_lan hR2 hi3) rfl in_X7 (by decide) q1724 rfl dX5_at_30 ?_
  refine jr_iload_n (i := 2) hX rfl rfl dX5_at_33 ?_
  refine jr_callV (As := [.int (nI j)]) (bc1 := (0)) (bs1 := (0)) hX (met_get l D s0 b0 A _ (ad 36 i 0) (s_rg (s_s S i).2.length (fun q => ad 38 i q)) moF capF eaF hFL j (ad 38 i j) (rg_at (lt_ofl hx))) (cwV 1 hX.ts (lw_V q1712 q304 q2203 q68 q306) rfl rfl rfl (by decide +kernel) ⟨Nat.le_of_ble_eq_true rfl, Nat.le_of_ble_eq_true rfl⟩) hFL.1 rfl rfl (Nat.le_of_ble_eq_true rfl) (by first | omega | (dsimp only; omega) | (show _ ≤ _; simp only []; omega)) (by first | omega | (dsimp only; omega) | (show _ ≤ _; simp only []; omega)) rfl dX5_at_34 (fun v_34 G_34 hp_34 => ?_)
  obtain ⟨rfl, e9⟩ := hp_34
  rw [e9]
  refine jr_castS hX (mo_fr hR2 hi3 hx) rfl q1889 dX5_at_37 ?_
  refine jr_astore_n (i := 3) hX rfl (by decide) rfl dX5_at_40 ?_
  refine jr_sipush (v := 1000) hX (by decide) dX5_at_41 ?_
  refine jr_aload_n (i := 3) hX rfl rfl dX5_at_44 ?_
  refine jr_getN (ci := 15) (k := 0) hX (mo_fr hR2 hi3 hx) rfl in_X14 (by decide) q1896 rfl dX5_at_45 ?_
  refine jr_imul hX dX5_at_48 ?_
  refine jr_bipush (v := 100) hX (by decide) dX5_at_49 ?_
  refine jr_aload_n (i := 3) hX rfl rfl dX5_at_51 ?_
  refine jr_getN (ci := 15) (k := 1) hX (mo_fr hR2 hi3 hx) rfl in_X14 (by decide) q1898 rfl dX5_at_52 ?_
  refine jr_imul hX dX5_at_55 ?_
  refine jr_iadd hX dX5_at_56 ?_
  refine jr_aload_n (i := 3) hX rfl rfl dX5_at_57 ?_
  refine jr_getN (ci := 15) (k := 2) hX (mo_fr hR2 hi3 hx) rfl in_X14 (by decide) q1899 rfl dX5_at_58 ?_
  refine jr_iadd hX dX5_at_61 ?_
  exact jr_iret hX hlk hr ⟨rfl, hR2, hF3⟩ dX5_at_62

set_option maxHeartbeats 4000000 in
set_option maxRecDepth 100000 in
theorem mm_atE1 (l : Launch) (D : va_G) (s0 : State) (b0 : Nat) (A : Nat → Prop) (G : jG) (S : sSt) (th : Nat) (ad : jN) (T : jT) (hR : jMo D s0 b0 th S ad T G) (x : Int32) (hin : ¬ ((0 : Int32) ≤ x ∧ x ≤ 2)) (y : Int32) : jM l yX5_at (ws_ yX5_at cX5_at 4 (some .int)) (jR 4 0 0) D s0 b0 A G [.ref (ad 31 0 0), .int x, .int y] (fun w G1 => w = some (.int 0) ∧ jMo D s0 b0 1 S ad T G1 ∧ jFm 31 60 T G T G1) := by
  have hxx := mo_x hR
  refine jM.of (by decide +kernel) (own := RX5) rfl (Nat.le_of_ble_eq_true rfl) ?_
  intro p e s m args below meth c hX hr hlk hnm
  refine jr_aload_n (i := 0) hX rfl rfl dX5_at_0 ?_
  refine jr_iload_n (i := 1) hX rfl rfl dX5_at_1 ?_
  refine jr_callV (As := [.int x]) (bc1 := (0)) (bs1 := (0)) hX (mm_noThread l D s0 b0 A _ S th ad T hR x) (cwV 1 hX.ts (lw_V q1872 q1874 qs40 q78 q1875) rfl rfl rfl (by decide +kernel) ⟨Nat.le_of_ble_eq_true rfl, Nat.le_of_ble_eq_true rfl⟩) hxx rfl rfl (Nat.le_of_ble_eq_true rfl) (by first | omega | (dsimp only; omega) | (show _ ≤ _; simp only []; omega)) (by first | omega | (dsimp only; omega) | (show _ ≤ _; simp only []; omega)) rfl dX5_at_2 (fun v_2 G_2 hp_2 => ?_)
  obtain ⟨rfl, hR1, hF1⟩ := hp_2
  rw [if_neg hin] at hR1
  rw [decide_eq_false hin]
  have hxx1 := mo_x hR1
  refine jr_if_ne hX (tgt := 17) (by decide) dX5_at_5 (fun c_5 => ?_) (fun c_5 => absurd c_5 (by decide))
  refine jr_iconst (v := 0) hX rfl dX5_at_17 ?_
  exact jr_iret hX hlk hr ⟨rfl, hR1, hF1⟩ dX5_at_18

set_option maxHeartbeats 4000000 in
set_option maxRecDepth 100000 in
theorem mm_atE2 (l : Launch) (D : va_G) (s0 : State) (b0 : Nat) (A : Nat → Prop) (G : jG) (S : sSt) (th : Nat) (ad : jN) (T : jT) (hR : jMo D s0 b0 th S ad T G) (i : Nat) (hi3 : i < 3) (y : Int32) (hin2 : ¬ ((0 : Int32) ≤ y ∧ y ≤ nI (s_s S i).2.length - 1)) : jM l yX5_at (ws_ yX5_at cX5_at 4 (some .int)) (jR 4 0 0) D s0 b0 A G [.ref (ad 31 0 0), .int (nI i), .int y] (fun w G1 => w = some (.int 0) ∧ jMo D s0 b0 2 S ad T G1 ∧ jFm 31 60 T G T G1) := by
  have hxx := mo_x hR
  have hin : (0 : Int32) ≤ nI i ∧ nI i ≤ 2 := ⟨nI_pos' (by omega), nI_le (b := 2) (by omega) (by omega)⟩
  refine jM.of (by decide +kernel) (own := RX5) rfl (Nat.le_of_ble_eq_true rfl) ?_
  intro p e s m args below meth c hX hr hlk hnm
  refine jr_aload_n (i := 0) hX rfl rfl dX5_at_0 ?_
  refine jr_iload_n (i := 1) hX rfl rfl dX5_at_1 ?_
  refine jr_callV (As := [.int (nI i)]) (bc1 := (0)) (bs1 := (0)) hX (mm_noThread l D s0 b0 A _ S th ad T hR (nI i)) (cwV 1 hX.ts (lw_V q1872 q1874 qs40 q78 q1875) rfl rfl rfl (by decide +kernel) ⟨Nat.le_of_ble_eq_true rfl, Nat.le_of_ble_eq_true rfl⟩) hxx rfl rfl (Nat.le_of_ble_eq_true rfl) (by first | omega | (dsimp only; omega) | (show _ ≤ _; simp only []; omega)) (by first | omega | (dsimp only; omega) | (show _ ≤ _; simp only []; omega)) rfl dX5_at_2 (fun v_2 G_2 hp_2 => ?_)
  obtain ⟨rfl, hR1, hF1⟩ := hp_2
  rw [if_pos hin] at hR1
  rw [decide_eq_true hin]
  have hxx1 := mo_x hR1
  refine jr_if_ne hX (tgt := 17) (by decide) dX5_at_5 (fun c_5 => absurd c_5 (fun h => h rfl)) (fun c_5 => ?_)
  refine jr_aload_n (i := 0) hX rfl rfl dX5_at_8 ?_
  refine jr_iload_n (i := 1) hX rfl rfl dX5_at_9 ?_
  refine jr_iload_n (i := 2) hX rfl rfl dX5_at_10 ?_
  refine jr_callV (As := [.int (nI i), .int y]) (bc1 := (0)) (bs1 := (0)) hX (mm_noFrame l D s0 b0 A _ S 0 ad T hR1 i hi3 y) (cwV 2 hX.ts (lw_V q2096 q2098 qs61 q78 q2099) rfl rfl rfl (by decide +kernel) ⟨Nat.le_of_ble_eq_true rfl, Nat.le_of_ble_eq_true rfl⟩) hxx1 rfl rfl (Nat.le_of_ble_eq_true rfl) (by first | omega | (dsimp only; omega) | (show _ ≤ _; simp only []; omega)) (by first | omega | (dsimp only; omega) | (show _ ≤ _; simp only []; omega)) rfl dX5_at_11 (fun v_11 G_11 hp_11 => ?_)
  obtain ⟨rfl, hR2, hF2⟩ := hp_11
  rw [if_neg hin2] at hR2
  rw [decide_eq_false hin2]
  have hxx2 := mo_x hR2
  have hF3 := hF1.trans hF2
  obtain ⟨moL, capL, eaL, hLL, -, -, -⟩ := mo_lns hR2
  obtain ⟨moF, capF, eaF, hFL, -, -, -⟩ := mo_frl hR2 hi3
  refine jr_if_eq hX (tgt := 19) (by decide) dX5_at_14 (fun c_14 => absurd c_14 (by decide)) (fun c_14 => ?_)
  refine jr_iconst (v := 0) hX rfl dX5_at_17 ?_
  exact jr_iret hX hlk hr ⟨rfl, hR2, hF3⟩ dX5_at_18

set_option maxHeartbeats 4000000 in
set_option maxRecDepth 100000 in
theorem mm_localC (l : Launch) (D : va_G) (s0 : State) (b0 : Nat) (A : Nat → Prop) (G : jG) (S : sSt) (th : Nat) (ad : jN) (T : jT) (hR : jMo D s0 b0 th S ad T G) (i : Nat) (hi3 : i < 3) (j : Nat) (x : sFr) (hx : (s_s S i).2[j]? = some x) (hl8 : (s_s S i).2.length ≤ 8) (q : Nat) (hq : q < 4) : jM l yX5_local (ws_ yX5_local cX5_local 4 (some .int)) (jR 4 0 0) D s0 b0 A G [.ref (ad 31 0 0), .int (nI i), .int (nI j), .int (nI q)] (fun w G1 => w = some (.int (x.2.2.2.1 q)) ∧ jMo D s0 b0 0 S ad T G1 ∧ jFm 31 60 T G T G1) := by
  have hxx := mo_x hR
  have hin : (0 : Int32) ≤ nI i ∧ nI i ≤ 2 := ⟨nI_pos' (by omega), nI_le (b := 2) (by omega) (by omega)⟩
  have hin2 := len_yes (by omega) (lt_ofl hx)
  have hin4 : (0 : Int32) ≤ nI q ∧ nI q ≤ 3 := ⟨nI_pos' (by omega), nI_le (b := 3) (by omega) (by omega)⟩
  refine jM.of (by decide +kernel) (own := RX5) rfl (Nat.le_of_ble_eq_true rfl) ?_
  intro p e s m args below meth c hX hr hlk hnm
  refine jr_aload_n (i := 0) hX rfl rfl dX5_local_0 ?_
  refine jr_iload_n (i := 1) hX rfl rfl dX5_local_1 ?_
  refine jr_callV (As := [.int (nI i)]) (bc1 := (0)) (bs1 := (0)) hX (mm_noThread l D s0 b0 A _ S th ad T hR (nI i)) (cwV 1 hX.ts (lw_V q1872 q1874 qs40 q78 q1875) rfl rfl rfl (by decide +kernel) ⟨Nat.le_of_ble_eq_true rfl, Nat.le_of_ble_eq_true rfl⟩) hxx rfl rfl (Nat.le_of_ble_eq_true rfl) (by first | omega | (dsimp only; omega) | (show _ ≤ _; simp only []; omega)) (by first | omega | (dsimp only; omega) | (show _ ≤ _; simp only []; omega)) rfl dX5_local_2 (fun v_2 G_2 hp_2 => ?_)
  obtain ⟨rfl, hR1, hF1⟩ := hp_2
  rw [if_pos hin] at hR1
  rw [decide_eq_true hin]
  have hxx1 := mo_x hR1
  refine jr_if_ne hX (tgt := 15) (by decide) dX5_local_5 (fun c_5 => absurd c_5 (fun h => h rfl)) (fun c_5 => ?_)
  refine jr_iload_n (i := 3) hX rfl rfl dX5_local_8 ?_
  refine jr_callS (As := [.int (nI q)]) (bc1 := (0)) (bs1 := (0)) hX (mm_isLocal l D s0 b0 A _ (nI q)) (va_cwS 1 hX.ts (lw_S q1790 q1791 q78 q1792) rfl rfl rfl (by decide +kernel) ⟨Nat.le_of_ble_eq_true rfl, Nat.le_of_ble_eq_true rfl⟩) rfl (Nat.le_of_ble_eq_true rfl) (by first | omega | (dsimp only; omega) | (show _ ≤ _; simp only []; omega)) (by first | omega | (dsimp only; omega) | (show _ ≤ _; simp only []; omega)) rfl dX5_local_9 (fun v_9 G_9 hp_9 => ?_)
  obtain ⟨rfl, e9⟩ := hp_9
  rw [e9, decide_eq_true hin4]
  refine jr_if_ne hX (tgt := 21) (by decide) dX5_local_12 (fun c_12 => ?_) (fun c_12 => absurd c_12 (by decide))
  refine jr_aload_n (i := 0) hX rfl rfl dX5_local_21 ?_
  refine jr_iload_n (i := 1) hX rfl rfl dX5_local_22 ?_
  refine jr_iload_n (i := 2) hX rfl rfl dX5_local_23 ?_
  refine jr_callV (As := [.int (nI i), .int (nI j)]) (bc1 := (0)) (bs1 := (0)) hX (mm_noFrame l D s0 b0 A _ S 0 ad T hR1 i hi3 (nI j)) (cwV 2 hX.ts (lw_V q2096 q2098 qs61 q78 q2099) rfl rfl rfl (by decide +kernel) ⟨Nat.le_of_ble_eq_true rfl, Nat.le_of_ble_eq_true rfl⟩) hxx1 rfl rfl (Nat.le_of_ble_eq_true rfl) (by first | omega | (dsimp only; omega) | (show _ ≤ _; simp only []; omega)) (by first | omega | (dsimp only; omega) | (show _ ≤ _; simp only []; omega)) rfl dX5_local_24 (fun v_24 G_24 hp_24 => ?_)
  obtain ⟨rfl, hR2, hF2⟩ := hp_24
  rw [if_pos hin2] at hR2
  rw [decide_eq_true hin2]
  have hxx2 := mo_x hR2
  have hF3 := hF1.trans hF2
  obtain ⟨moL, capL, eaL, hLL, -, -, -⟩ := mo_lns hR2
  obtain ⟨moF, capF, eaF, hFL, -, -, -⟩ := mo_frl hR2 hi3
  refine jr_if_eq hX (tgt := 34) (by decide) dX5_local_27 (fun c_27 => ?_) (fun c_27 => absurd rfl c_27)
  refine jr_aload_n (i := 0) hX rfl rfl dX5_local_34 ?_
  refine jr_get (ci := 11) (k := 4) hX hxx2 rfl in_X5 (by decide) q1734 rfl dX5_local_35 ?_
  refine jr_iload_n (i := 1) hX rfl rfl dX5_local_38 ?_
  refine jr_callV (As := [.int (nI i)]) (bc1 := (0)) (bs1 := (0)) hX (met_get l D s0 b0 A _ (ad 32 1 0) (s_rg 3 (fun v => ad 35 v 0)) moL capL eaL hLL i (ad 35 i 0) (rg_at hi3)) (cwV 1 hX.ts (lw_V q1712 q304 q2203 q68 q306) rfl rfl rfl (by decide +kernel) ⟨Nat.le_of_ble_eq_true rfl, Nat.le_of_ble_eq_true rfl⟩) hLL.1 rfl rfl (Nat.le_of_ble_eq_true rfl) (by first | omega | (dsimp only; omega) | (show _ ≤ _; simp only []; omega)) (by first | omega | (dsimp only; omega) | (show _ ≤ _; simp only []; omega)) rfl dX5_local_39 (fun v_39 G_39 hp_39 => ?_)
  obtain ⟨rfl, e9⟩ := hp_39
  rw [e9]
  refine jr_castS hX (mo_lan hR2 hi3) rfl q1713 dX5_local_42 ?_
  refine jr_getN (ci := 13) (k := 1) hX (mo_lan hR2 hi3) rfl in_X7 (by decide) q1724 rfl dX5_local_45 ?_
  refine jr_iload_n (i := 2) hX rfl rfl dX5_local_48 ?_
  refine jr_callV (As := [.int (nI j)]) (bc1 := (0)) (bs1 := (0)) hX (met_get l D s0 b0 A _ (ad 36 i 0) (s_rg (s_s S i).2.length (fun q => ad 38 i q)) moF capF eaF hFL j (ad 38 i j) (rg_at (lt_ofl hx))) (cwV 1 hX.ts (lw_V q1712 q304 q2203 q68 q306) rfl rfl rfl (by decide +kernel) ⟨Nat.le_of_ble_eq_true rfl, Nat.le_of_ble_eq_true rfl⟩) hFL.1 rfl rfl (Nat.le_of_ble_eq_true rfl) (by first | omega | (dsimp only; omega) | (show _ ≤ _; simp only []; omega)) (by first | omega | (dsimp only; omega) | (show _ ≤ _; simp only []; omega)) rfl dX5_local_49 (fun v_49 G_49 hp_49 => ?_)
  obtain ⟨rfl, e9⟩ := hp_49
  rw [e9]
  refine jr_castS hX (mo_fr hR2 hi3 hx) rfl q1889 dX5_local_52 ?_
  refine jr_getN (ci := 15) (k := 3) hX (mo_fr hR2 hi3 hx) rfl in_X14 (by decide) q1901 rfl dX5_local_55 ?_
  refine jr_iload_n (i := 3) hX rfl rfl dX5_local_58 ?_
  refine jr_iald hX (mo_loc hR2 hi3 hx) (vp_in_nI hq (by omega)) dX5_local_59 ?_
  rw [nI_clamp (by omega)]
  exact jr_iret hX hlk hr ⟨rfl, hR2, hF3⟩ dX5_local_60

set_option maxHeartbeats 4000000 in
set_option maxRecDepth 100000 in
theorem mm_localE1 (l : Launch) (D : va_G) (s0 : State) (b0 : Nat) (A : Nat → Prop) (G : jG) (S : sSt) (th : Nat) (ad : jN) (T : jT) (hR : jMo D s0 b0 th S ad T G) (x : Int32) (hin : ¬ ((0 : Int32) ≤ x ∧ x ≤ 2)) (y z : Int32) : jM l yX5_local (ws_ yX5_local cX5_local 4 (some .int)) (jR 4 0 0) D s0 b0 A G [.ref (ad 31 0 0), .int x, .int y, .int z] (fun w G1 => w = some (.int 0) ∧ jMo D s0 b0 1 S ad T G1 ∧ jFm 31 60 T G T G1) := by
  have hxx := mo_x hR
  refine jM.of (by decide +kernel) (own := RX5) rfl (Nat.le_of_ble_eq_true rfl) ?_
  intro p e s m args below meth c hX hr hlk hnm
  refine jr_aload_n (i := 0) hX rfl rfl dX5_local_0 ?_
  refine jr_iload_n (i := 1) hX rfl rfl dX5_local_1 ?_
  refine jr_callV (As := [.int x]) (bc1 := (0)) (bs1 := (0)) hX (mm_noThread l D s0 b0 A _ S th ad T hR x) (cwV 1 hX.ts (lw_V q1872 q1874 qs40 q78 q1875) rfl rfl rfl (by decide +kernel) ⟨Nat.le_of_ble_eq_true rfl, Nat.le_of_ble_eq_true rfl⟩) hxx rfl rfl (Nat.le_of_ble_eq_true rfl) (by first | omega | (dsimp only; omega) | (show _ ≤ _; simp only []; omega)) (by first | omega | (dsimp only; omega) | (show _ ≤ _; simp only []; omega)) rfl dX5_local_2 (fun v_2 G_2 hp_2 => ?_)
  obtain ⟨rfl, hR1, hF1⟩ := hp_2
  rw [if_neg hin] at hR1
  rw [decide_eq_false hin]
  have hxx1 := mo_x hR1
  refine jr_if_ne hX (tgt := 15) (by decide) dX5_local_5 (fun c_5 => ?_) (fun c_5 => absurd c_5 (by decide))
  refine jr_aload_n (i := 0) hX rfl rfl dX5_local_15 ?_
  refine jr_iconst (v := 1) hX rfl dX5_local_16 ?_
  refine jr_callV (As := [.int (nI 1)]) (bc1 := (0)) (bs1 := (0)) hX (mm_raises l D s0 b0 A _ S 1 ad T hR1 1) (cwV 1 hX.ts (lw_V q1876 q1878 qs41 q78 q1879) rfl rfl rfl (by decide +kernel) ⟨Nat.le_of_ble_eq_true rfl, Nat.le_of_ble_eq_true rfl⟩) hxx1 rfl rfl (Nat.le_of_ble_eq_true rfl) (by first | omega | (dsimp only; omega) | (show _ ≤ _; simp only []; omega)) (by first | omega | (dsimp only; omega) | (show _ ≤ _; simp only []; omega)) rfl dX5_local_17 (fun v_17 G_17 hp_17 => ?_)
  obtain ⟨rfl, hR2, hF2⟩ := hp_17
  have hF3 := hF1.trans hF2
  exact jr_iret hX hlk hr ⟨rfl, hR2, hF3⟩ dX5_local_20

set_option maxHeartbeats 4000000 in
set_option maxRecDepth 100000 in
theorem mm_localE2 (l : Launch) (D : va_G) (s0 : State) (b0 : Nat) (A : Nat → Prop) (G : jG) (S : sSt) (th : Nat) (ad : jN) (T : jT) (hR : jMo D s0 b0 th S ad T G) (i : Nat) (hi3 : i < 3) (y z : Int32) (hin4 : ¬ ((0 : Int32) ≤ z ∧ z ≤ 3)) : jM l yX5_local (ws_ yX5_local cX5_local 4 (some .int)) (jR 4 0 0) D s0 b0 A G [.ref (ad 31 0 0), .int (nI i), .int y, .int z] (fun w G1 => w = some (.int 0) ∧ jMo D s0 b0 1 S ad T G1 ∧ jFm 31 60 T G T G1) := by
  have hxx := mo_x hR
  have hin : (0 : Int32) ≤ nI i ∧ nI i ≤ 2 := ⟨nI_pos' (by omega), nI_le (b := 2) (by omega) (by omega)⟩
  refine jM.of (by decide +kernel) (own := RX5) rfl (Nat.le_of_ble_eq_true rfl) ?_
  intro p e s m args below meth c hX hr hlk hnm
  refine jr_aload_n (i := 0) hX rfl rfl dX5_local_0 ?_
  refine jr_iload_n (i := 1) hX rfl rfl dX5_local_1 ?_
  refine jr_callV (As := [.int (nI i)]) (bc1 := (0)) (bs1 := (0)) hX (mm_noThread l D s0 b0 A _ S th ad T hR (nI i)) (cwV 1 hX.ts (lw_V q1872 q1874 qs40 q78 q1875) rfl rfl rfl (by decide +kernel) ⟨Nat.le_of_ble_eq_true rfl, Nat.le_of_ble_eq_true rfl⟩) hxx rfl rfl (Nat.le_of_ble_eq_true rfl) (by first | omega | (dsimp only; omega) | (show _ ≤ _; simp only []; omega)) (by first | omega | (dsimp only; omega) | (show _ ≤ _; simp only []; omega)) rfl dX5_local_2 (fun v_2 G_2 hp_2 => ?_)
  obtain ⟨rfl, hR1, hF1⟩ := hp_2
  rw [if_pos hin] at hR1
  rw [decide_eq_true hin]
  have hxx1 := mo_x hR1
  refine jr_if_ne hX (tgt := 15) (by decide) dX5_local_5 (fun c_5 => absurd c_5 (fun h => h rfl)) (fun c_5 => ?_)
  refine jr_iload_n (i := 3) hX rfl rfl dX5_local_8 ?_
  refine jr_callS (As := [.int z]) (bc1 := (0)) (bs1 := (0)) hX (mm_isLocal l D s0 b0 A _ z) (va_cwS 1 hX.ts (lw_S q1790 q1791 q78 q1792) rfl rfl rfl (by decide +kernel) ⟨Nat.le_of_ble_eq_true rfl, Nat.le_of_ble_eq_true rfl⟩) rfl (Nat.le_of_ble_eq_true rfl) (by first | omega | (dsimp only; omega) | (show _ ≤ _; simp only []; omega)) (by first | omega | (dsimp only; omega) | (show _ ≤ _; simp only []; omega)) rfl dX5_local_9 (fun v_9 G_9 hp_9 => ?_)
  obtain ⟨rfl, e9⟩ := hp_9
  rw [e9, decide_eq_false hin4]
  refine jr_if_ne hX (tgt := 21) (by decide) dX5_local_12 (fun c_12 => absurd c_12 (fun h => h rfl)) (fun c_12 => ?_)
  refine jr_aload_n (i := 0) hX rfl rfl dX5_local_15 ?_
  refine jr_iconst (v := 1) hX rfl dX5_local_16 ?_
  refine jr_callV (As := [.int (nI 1)]) (bc1 := (0)) (bs1 := (0)) hX (mm_raises l D s0 b0 A _ S 0 ad T hR1 1) (cwV 1 hX.ts (lw_V q1876 q1878 qs41 q78 q1879) rfl rfl rfl (by decide +kernel) ⟨Nat.le_of_ble_eq_true rfl, Nat.le_of_ble_eq_true rfl⟩) hxx1 rfl rfl (Nat.le_of_ble_eq_true rfl) (by first | omega | (dsimp only; omega) | (show _ ≤ _; simp only []; omega)) (by first | omega | (dsimp only; omega) | (show _ ≤ _; simp only []; omega)) rfl dX5_local_17 (fun v_17 G_17 hp_17 => ?_)
  obtain ⟨rfl, hR2, hF2⟩ := hp_17
  have hF3 := hF1.trans hF2
  exact jr_iret hX hlk hr ⟨rfl, hR2, hF3⟩ dX5_local_20

set_option maxHeartbeats 4000000 in
set_option maxRecDepth 100000 in
theorem mm_localE3 (l : Launch) (D : va_G) (s0 : State) (b0 : Nat) (A : Nat → Prop) (G : jG) (S : sSt) (th : Nat) (ad : jN) (T : jT) (hR : jMo D s0 b0 th S ad T G) (i : Nat) (hi3 : i < 3) (y : Int32) (hin2 : ¬ ((0 : Int32) ≤ y ∧ y ≤ nI (s_s S i).2.length - 1)) (q : Nat) (hq : q < 4) : jM l yX5_local (ws_ yX5_local cX5_local 4 (some .int)) (jR 4 0 0) D s0 b0 A G [.ref (ad 31 0 0), .int (nI i), .int y, .int (nI q)] (fun w G1 => w = some (.int 0) ∧ jMo D s0 b0 2 S ad T G1 ∧ jFm 31 60 T G T G1) := by
  have hxx := mo_x hR
  have hin : (0 : Int32) ≤ nI i ∧ nI i ≤ 2 := ⟨nI_pos' (by omega), nI_le (b := 2) (by omega) (by omega)⟩
  have hin4 : (0 : Int32) ≤ nI q ∧ nI q ≤ 3 := ⟨nI_pos' (by omega), nI_le (b := 3) (by omega) (by omega)⟩
  refine jM.of (by decide +kernel) (own := RX5) rfl (Nat.le_of_ble_eq_true rfl) ?_
  intro p e s m args below meth c hX hr hlk hnm
  refine jr_aload_n (i := 0) hX rfl rfl dX5_local_0 ?_
  refine jr_iload_n (i := 1) hX rfl rfl dX5_local_1 ?_
  refine jr_callV (As := [.int (nI i)]) (bc1 := (0)) (bs1 := (0)) hX (mm_noThread l D s0 b0 A _ S th ad T hR (nI i)) (cwV 1 hX.ts (lw_V q1872 q1874 qs40 q78 q1875) rfl rfl rfl (by decide +kernel) ⟨Nat.le_of_ble_eq_true rfl, Nat.le_of_ble_eq_true rfl⟩) hxx rfl rfl (Nat.le_of_ble_eq_true rfl) (by first | omega | (dsimp only; omega) | (show _ ≤ _; simp only []; omega)) (by first | omega | (dsimp only; omega) | (show _ ≤ _; simp only []; omega)) rfl dX5_local_2 (fun v_2 G_2 hp_2 => ?_)
  obtain ⟨rfl, hR1, hF1⟩ := hp_2
  rw [if_pos hin] at hR1
  rw [decide_eq_true hin]
  have hxx1 := mo_x hR1
  refine jr_if_ne hX (tgt := 15) (by decide) dX5_local_5 (fun c_5 => absurd c_5 (fun h => h rfl)) (fun c_5 => ?_)
  refine jr_iload_n (i := 3) hX rfl rfl dX5_local_8 ?_
  refine jr_callS (As := [.int (nI q)]) (bc1 := (0)) (bs1 := (0)) hX (mm_isLocal l D s0 b0 A _ (nI q)) (va_cwS 1 hX.ts (lw_S q1790 q1791 q78 q1792) rfl rfl rfl (by decide +kernel) ⟨Nat.le_of_ble_eq_true rfl, Nat.le_of_ble_eq_true rfl⟩) rfl (Nat.le_of_ble_eq_true rfl) (by first | omega | (dsimp only; omega) | (show _ ≤ _; simp only []; omega)) (by first | omega | (dsimp only; omega) | (show _ ≤ _; simp only []; omega)) rfl dX5_local_9 (fun v_9 G_9 hp_9 => ?_)
  obtain ⟨rfl, e9⟩ := hp_9
  rw [e9, decide_eq_true hin4]
  refine jr_if_ne hX (tgt := 21) (by decide) dX5_local_12 (fun c_12 => ?_) (fun c_12 => absurd c_12 (by decide))
  refine jr_aload_n (i := 0) hX rfl rfl dX5_local_21 ?_
  refine jr_iload_n (i := 1) hX rfl rfl dX5_local_22 ?_
  refine jr_iload_n (i := 2) hX rfl rfl dX5_local_23 ?_
  refine jr_callV (As := [.int (nI i), .int y]) (bc1 := (0)) (bs1 := (0)) hX (mm_noFrame l D s0 b0 A _ S 0 ad T hR1 i hi3 y) (cwV 2 hX.ts (lw_V q2096 q2098 qs61 q78 q2099) rfl rfl rfl (by decide +kernel) ⟨Nat.le_of_ble_eq_true rfl, Nat.le_of_ble_eq_true rfl⟩) hxx1 rfl rfl (Nat.le_of_ble_eq_true rfl) (by first | omega | (dsimp only; omega) | (show _ ≤ _; simp only []; omega)) (by first | omega | (dsimp only; omega) | (show _ ≤ _; simp only []; omega)) rfl dX5_local_24 (fun v_24 G_24 hp_24 => ?_)
  obtain ⟨rfl, hR2, hF2⟩ := hp_24
  rw [if_neg hin2] at hR2
  rw [decide_eq_false hin2]
  have hxx2 := mo_x hR2
  have hF3 := hF1.trans hF2
  obtain ⟨moL, capL, eaL, hLL, -, -, -⟩ := mo_lns hR2
  obtain ⟨moF, capF, eaF, hFL, -, -, -⟩ := mo_frl hR2 hi3
  refine jr_if_eq hX (tgt := 34) (by decide) dX5_local_27 (fun c_27 => absurd c_27 (by decide)) (fun c_27 => ?_)
  refine jr_iconst (v := 0) hX rfl dX5_local_30 ?_
  refine jr_goto hX (tgt := 60) (by decide) dX5_local_31 ?_
  exact jr_iret hX hlk hr ⟨rfl, hR2, hF3⟩ dX5_local_60
