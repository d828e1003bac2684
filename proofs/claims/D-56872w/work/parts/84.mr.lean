/-! the model's step, release, start -/
set_option maxHeartbeats 4000000 in
set_option maxRecDepth 100000 in
theorem mm_stepC (l : Launch) (D : va_G) (s0 : State) (b0 : Nat) (A : Nat → Prop) (G : jG) (S : sSt) (th : Nat) (ad : jN) (T : jT) (hR : jMo D s0 b0 th S ad T G) (hW : sW S) (hk : sWk S) (huv : s_uv S) (i k : Nat) (hi3 : i < 3) (hk1 : 1 ≤ k) (hk2 : k ≤ 99) (hu : (s_u S).length + k < 6400) (hcc : s_cc S < 99) (hn : s_n S + k < 900000) : jM l yX5_step (ws_ yX5_step cX5_step 4 (some .int)) (jR 16 ((18 * k + 159 * (s_cq S - s_cq (s_run i k S).2))) ((443 * k + 636 * (s_cq S - s_cq (s_run i k S).2) + 8 * (s_k (s_run i k S).2 - s_k S)))) D s0 b0 A G [.ref (ad 31 0 0), .int (nI i), .int (nI k)] (fun w G1 => w = some (.int (nI (s_run i k S).1)) ∧ ∃ (ad1 : jN) (T1 : jT), jMo D s0 b0 0 (s_run i k S).2 ad1 T1 G1 ∧ jFm 31 60 T G T1 G1 ∧ ∀ k i j, k < 38 → ad1 k i j = ad k i j) := by
  have hxx := mo_x hR
  refine jM.of (by decide +kernel) (own := RX5) rfl (Nat.le_of_ble_eq_true rfl) ?_
  intro p e s m args below meth c hX hr hlk hnm
  refine jr_aload_n (i := 0) hX rfl rfl dX5_step_0 ?_
  refine jr_iload_n (i := 1) hX rfl rfl dX5_step_1 ?_
  refine jr_callV (As := [.int (nI i)]) (bc1 := ((18 * k + 159 * (s_cq S - s_cq (s_run i k S).2)))) (bs1 := ((443 * k + 636 * (s_cq S - s_cq (s_run i k S).2) + 8 * (s_k (s_run i k S).2 - s_k S)))) hX (mm_noThread l D s0 b0 A _ S th ad T hR (nI i)) (cwV 1 hX.ts (lw_V q1872 q1874 qs40 q78 q1875) rfl rfl rfl (by decide +kernel) ⟨Nat.le_of_ble_eq_true rfl, Nat.le_of_ble_eq_true rfl⟩) hxx rfl rfl (Nat.le_of_ble_eq_true rfl) (by first | omega | (dsimp only; omega) | (show _ ≤ _; simp only []; omega)) (by first | omega | (dsimp only; omega) | (show _ ≤ _; simp only []; omega)) rfl dX5_step_2 (fun v_2 G_2 hp_2 => ?_)
  obtain ⟨rfl, hR1, hF1⟩ := hp_2
  have hin : (0 : Int32) ≤ nI i ∧ nI i ≤ 2 := ⟨nI_pos' (by omega), nI_le (b := 2) (by omega) (by omega)⟩
  rw [if_pos hin] at hR1
  rw [decide_eq_true hin]
  have hxx1 := mo_x hR1
  refine jr_if_ne hX (tgt := 18) (by decide) dX5_step_5 (fun c_5 => absurd c_5 (fun h => h rfl)) (fun c_5 => ?_)
  refine jr_iload_n (i := 2) hX rfl rfl dX5_step_8 ?_
  refine jr_iconst (v := 1) hX rfl dX5_step_9 ?_
  refine jr_bipush (v := 99) hX (by decide) dX5_step_10 ?_
  refine jr_callS (As := [.int (nI k), .int 1, .int 99]) (bc1 := ((18 * k + 159 * (s_cq S - s_cq (s_run i k S).2)))) (bs1 := ((443 * k + 636 * (s_cq S - s_cq (s_run i k S).2) + 8 * (s_k (s_run i k S).2 - s_k S)))) hX (mm_in l D s0 b0 A _ (nI k) 1 99) (va_cwS 3 hX.ts (lw_S q1784 q1785 q78 q1786) rfl rfl rfl (by decide +kernel) ⟨Nat.le_of_ble_eq_true rfl, Nat.le_of_ble_eq_true rfl⟩) rfl (Nat.le_of_ble_eq_true rfl) (by first | omega | (dsimp only; omega) | (show _ ≤ _; simp only []; omega)) (by first | omega | (dsimp only; omega) | (show _ ≤ _; simp only []; omega)) rfl dX5_step_12 (fun v_12 G_12 hp_12 => ?_)
  obtain ⟨rfl, e9⟩ := hp_12
  rw [e9, jdt (p := (1 : Int32) ≤ nI k ∧ nI k ≤ 99) ⟨nI_le (a := 1) (by omega) (by omega), nI_le (b := 99) (by omega) (by omega)⟩]
  refine jr_if_ne hX (tgt := 24) (by decide) dX5_step_15 (fun c_15 => ?_) (fun c_15 => absurd c_15 (by decide))
  refine jr_iconst (v := 0) hX rfl dX5_step_24 ?_
  refine jr_istore_n (i := 3) hX rfl (by decide) rfl dX5_step_25 ?_
  have loop : ∀ n : Nat, ∀ (m9 : Nat) (Sc : sSt) (adc : jN) (Tc : jT) (Gc : jG), m9 + n = k → jMo D s0 b0 0 Sc adc Tc Gc → (∀ k i j, k < 38 → adc k i j = ad k i j) → jFm 31 60 T G Tc Gc → sW Sc → sWk Sc → s_uv Sc → (s_u Sc).length + n < 6400 → s_cc Sc < 99 → s_n Sc + n < 900000 → (nI (m9 + (s_run i n Sc).1) = nI (s_run i k S).1 ∧ (s_run i n Sc).2 = (s_run i k S).2) → Jg p l e (jR 16 (18 * k + 159 * (s_cq S - s_cq (s_run i k S).2)) (443 * k + 636 * (s_cq S - s_cq (s_run i k S).2) + 8 * (s_k (s_run i k S).2 - s_k S))) s m args below meth c (MQ below (jQ D A (fun w G1 => w = some (.int (nI (s_run i k S).1)) ∧ ∃ (ad1 : jN) (T1 : jT), jMo D s0 b0 0 (s_run i k S).2 ad1 T1 G1 ∧ jFm 31 60 T G T1 G1 ∧ ∀ k i j, k < 38 → ad1 k i j = ad k i j)) args s (18 * k + 159 * (s_cq S - s_cq (s_run i k S).2)) (443 * k + 636 * (s_cq S - s_cq (s_run i k S).2) + 8 * (s_k (s_run i k S).2 - s_k S)) A) D A 4 Gc (18 * (n) + 159 * (s_cq Sc - s_cq (s_run i (n) Sc).2)) (443 * (n) + 636 * (s_cq Sc - s_cq (s_run i (n) Sc).2) + 8 * (s_k (s_run i (n) Sc).2 - s_k Sc)) 26 [(3, .int (nI (m9))), (2, .int (nI k)), (1, .int (nI i)), (0, .ref (adc 31 0 0))] [] := by
    intro n
    induction n with
    | zero =>
      intro m9 Sc adc Tc Gc hmk hRc hAd hFc hWc hkc hvc huc hcc hnc heq
      refine jr_iload_n (i := 3) hX rfl rfl dX5_step_26 ?_
      refine jr_iload_n (i := 2) hX rfl rfl dX5_step_27 ?_
      refine jr_icmp_ge hX (tgt := 71) (by decide) dX5_step_28 (fun c_28 => ?_) (fun c_28 => absurd (by rw [show m9 = k by omega]; exact Int32.le_refl _) c_28)
      refine jr_iload_n (i := 3) hX rfl rfl dX5_step_71 ?_
      refine jr_iret hX hlk hr ⟨?_, adc, Tc, ?_, hFc, hAd⟩ dX5_step_72
      · rw [← heq.1]; rfl
      · rw [← heq.2]; exact hRc
    | succ n ih =>
      intro m9 Sc adc Tc Gc hmk hRc hAd hFc hWc hkc hvc huc hcc hnc heq
      refine jr_iload_n (i := 3) hX rfl rfl dX5_step_26 ?_
      refine jr_iload_n (i := 2) hX rfl rfl dX5_step_27 ?_
      refine jr_icmp_ge hX (tgt := 71) (by decide) dX5_step_28 (fun c_28 => absurd c_28 (nI_ge (by omega) (by omega))) (fun c_28 => ?_)
      obtain ⟨moL, capL, eaL, hLL, -, -, -⟩ := mo_lns hRc
      refine jr_aload_n (i := 0) hX rfl rfl dX5_step_31 ?_
      refine jr_get (ci := 11) (k := 4) hX (mo_x hRc) rfl in_X5 (by decide) q1734 rfl dX5_step_32 ?_
      refine jr_iload_n (i := 1) hX rfl rfl dX5_step_35 ?_
      refine jr_callV (As := [.int (nI i)]) (bc1 := (18 * (n + 1) + 159 * (s_cq Sc - s_cq (s_run i (n + 1) Sc).2))) (bs1 := (443 * (n + 1) + 636 * (s_cq Sc - s_cq (s_run i (n + 1) Sc).2) + 8 * (s_k (s_run i (n + 1) Sc).2 - s_k Sc))) hX (met_get l D s0 b0 A _ (adc 32 1 0) (s_rg 3 (fun v => adc 35 v 0)) moL capL eaL hLL i (adc 35 i 0) (rg_at hi3)) (cwV 1 hX.ts (lw_V q1712 q304 q2203 q68 q306) rfl rfl rfl (by decide +kernel) ⟨Nat.le_of_ble_eq_true rfl, Nat.le_of_ble_eq_true rfl⟩) hLL.1 rfl rfl (Nat.le_of_ble_eq_true rfl) (by first | omega | (dsimp only; omega) | (show _ ≤ _; simp only []; omega)) (by first | omega | (dsimp only; omega) | (show _ ≤ _; simp only []; omega)) rfl dX5_step_36 (fun v_36 G_36 hp_36 => ?_)
      obtain ⟨rfl, e9⟩ := hp_36
      rw [e9]
      refine jr_castS hX (mo_lan hRc hi3) rfl q1713 dX5_step_39 ?_
      refine jr_getN (ci := 13) (k := 0) hX (mo_lan hRc hi3) rfl in_X7 (by decide) q1722 rfl dX5_step_42 ?_
      refine jr_bipush (v := 114) hX (by decide) dX5_step_45 ?_
      refine jr_icmp_ne hX (tgt := 71) (by decide) dX5_step_47 (fun c_47 => ?_) (fun c_47 => ?_)
      · refine jr_iload_n (i := 3) hX rfl rfl dX5_step_71 ?_
        have h9 : (s_s Sc i).1 ≠ 114 := fun z => c_47 (by rw [z]; rfl)
        rw [run_no h9] at heq
        refine jr_iret hX hlk hr ⟨?_, adc, Tc, ?_, hFc, hAd⟩ dX5_step_72
        · rw [← heq.1]; rfl
        · rw [← heq.2]; exact hRc
      · have h9 : (s_s Sc i).1 = 114 := (nI_eq (b := 114) (by have := (hWc.2.2.1 i hi3).1; omega) (by omega)).mp (Decidable.byContradiction fun z => absurd c_47 z)
        have hne : 0 < (s_s Sc i).2.length := (hWc.2.2.2.2.2.2.1 i hi3).mp (by rw [h9]; rfl)
        obtain ⟨a1, a2, a3, a4, a5, a6, a7, a8, a9, a10, -, -⟩ := one_m (i := i) hne
        obtain ⟨b1, b2, b3, b4, b5, b6, b7, b8, b9, b10⟩ := run_m hi3 n (s_one Sc i) (one_W hWc hi3 (by omega)) (by omega)
        rw [run_go h9]
        rw [run_go h9] at heq
        show Jg p l e (jR 16 (18 * k + 159 * (s_cq S - s_cq (s_run i k S).2)) (443 * k + 636 * (s_cq S - s_cq (s_run i k S).2) + 8 * (s_k (s_run i k S).2 - s_k S))) s m args below meth c (MQ below (jQ D A (fun w G1 => w = some (.int (nI (s_run i k S).1)) ∧ ∃ (ad1 : jN) (T1 : jT), jMo D s0 b0 0 (s_run i k S).2 ad1 T1 G1 ∧ jFm 31 60 T G T1 G1 ∧ ∀ k i j, k < 38 → ad1 k i j = ad k i j)) args s (18 * k + 159 * (s_cq S - s_cq (s_run i k S).2)) (443 * k + 636 * (s_cq S - s_cq (s_run i k S).2) + 8 * (s_k (s_run i k S).2 - s_k S)) A) D A 4 Gc (18 * (n + 1) + 159 * (s_cq Sc - s_cq (s_run i n (s_one Sc i)).2)) (443 * (n + 1) + 636 * (s_cq Sc - s_cq (s_run i n (s_one Sc i)).2) + 8 * (s_k (s_run i n (s_one Sc i)).2 - s_k Sc)) 50 [(3, .int (nI (m9))), (2, .int (nI k)), (1, .int (nI i)), (0, .ref (adc 31 0 0))] []
        refine jr_aload_n (i := 0) hX rfl rfl dX5_step_50 ?_
        refine jr_aload_n (i := 0) hX rfl rfl dX5_step_51 ?_
        refine jr_get (ci := 11) (k := 4) hX (mo_x hRc) rfl in_X5 (by decide) q1734 rfl dX5_step_52 ?_
        refine jr_iload_n (i := 1) hX rfl rfl dX5_step_55 ?_
        refine jr_callV (As := [.int (nI i)]) (bc1 := (18 * (n + 1) + 159 * (s_cq Sc - s_cq (s_run i n (s_one Sc i)).2))) (bs1 := (443 * (n + 1) + 636 * (s_cq Sc - s_cq (s_run i n (s_one Sc i)).2) + 8 * (s_k (s_run i n (s_one Sc i)).2 - s_k Sc))) hX (met_get l D s0 b0 A _ (adc 32 1 0) (s_rg 3 (fun v => adc 35 v 0)) moL capL eaL hLL i (adc 35 i 0) (rg_at hi3)) (cwV 1 hX.ts (lw_V q1712 q304 q2203 q68 q306) rfl rfl rfl (by decide +kernel) ⟨Nat.le_of_ble_eq_true rfl, Nat.le_of_ble_eq_true rfl⟩) hLL.1 rfl rfl (Nat.le_of_ble_eq_true rfl) (by first | omega | (dsimp only; omega) | (show _ ≤ _; simp only []; omega)) (by first | omega | (dsimp only; omega) | (show _ ≤ _; simp only []; omega)) rfl dX5_step_56 (fun v_56 G_56 hp_56 => ?_)
        obtain ⟨rfl, e9⟩ := hp_56
        rw [e9]
        refine jr_castS hX (mo_lan hRc hi3) rfl q1713 dX5_step_59 ?_
        refine jr_callV (As := [.ref (adc 35 i 0)]) (bc1 := (18 * n + 159 * (s_cq (s_one Sc i) - s_cq (s_run i n (s_one Sc i)).2))) (bs1 := (443 * n + 636 * (s_cq (s_one Sc i) - s_cq (s_run i n (s_one Sc i)).2) + 8 * (s_k (s_run i n (s_one Sc i)).2 - s_k (s_one Sc i)))) hX (mm_oneStep l D s0 b0 A _ Sc 0 adc Tc hRc hWc hkc hvc (by omega) hcc (by omega) i hi3 hne) (cwV 1 hX.ts (lw_V q1975 q1977 qs52 q78 q1978) rfl rfl rfl (by decide +kernel) ⟨Nat.le_of_ble_eq_true rfl, Nat.le_of_ble_eq_true rfl⟩) (mo_x hRc) rfl rfl (Nat.le_of_ble_eq_true rfl) (by first | omega | (dsimp only; omega) | (show _ ≤ _; simp only []; omega)) (by first | omega | (dsimp only; omega) | (show _ ≤ _; simp only []; omega)) rfl dX5_step_62 (fun v_62 G_62 hp_62 => ?_)
        obtain ⟨rfl, ad1, T1, g1, g2, g3⟩ := hp_62
        refine jr_iinc (w := 1) hX rfl rfl (by decide) rfl dX5_step_65 ?_
        rw [show nI m9 + 1 = nI (m9 + 1) from nI_1 m9]
        refine jr_goto hX (tgt := 26) (by decide) dX5_step_68 ?_
        rw [show adc 31 0 0 = ad1 31 0 0 from (g3 31 0 0 (by decide)).symm]
        refine jr_lvm [(3, .int (nI (m9 + 1))), (2, .int (nI k)), (1, .int (nI i)), (0, .ref (ad1 31 0 0))] rfl ?_
        exact ih (m9 + 1) (s_one Sc i) ad1 T1 _ (by omega) g1 (fun k i j h => (g3 k i j h).trans (hAd k i j h)) (hFc.trans g2) (one_W hWc hi3 (by omega)) (a8 hkc) (one_u hWc hi3 hvc) (by omega) (by omega) (by omega) ⟨by rw [← heq.1]; congr 1; show m9 + 1 + _ = m9 + (_ + 1); omega, heq.2⟩
  refine jr_lvm [(3, .int (nI (0))), (2, .int (nI k)), (1, .int (nI i)), (0, .ref (ad 31 0 0))] rfl ?_
  exact loop k 0 S ad T _ (by omega) hR1 (fun _ _ _ _ => rfl) hF1 hW hk huv hu hcc hn ⟨by rw [Nat.zero_add], rfl⟩

set_option maxHeartbeats 4000000 in
set_option maxRecDepth 100000 in
theorem mm_releaseC (l : Launch) (D : va_G) (s0 : State) (b0 : Nat) (A : Nat → Prop) (G : jG) (S : sSt) (th : Nat) (ad : jN) (T : jT) (hR : jMo D s0 b0 th S ad T G) (hW : sW S) (i : Nat) (hi3 : i < 3) (hs9 : (s_s S i).1 = 119) : jM l yX5_release (ws_ yX5_release cX5_release 3 (some .int)) (jR 16 ((4 + 159 * ((s_q S).length - (s_q (s_rel S i)).length))) ((16 + 636 * ((s_q S).length - (s_q (s_rel S i)).length)))) D s0 b0 A G [.ref (ad 31 0 0), .int (nI i)] (fun w G1 => w = some (.int (nI (s_s S i).2.length)) ∧ ∃ (ad1 : jN) (T1 : jT), jMo D s0 b0 0 (s_rel S i) ad1 T1 G1 ∧ jFm 31 60 T G T1 G1 ∧ ∀ k i j, k < 38 → ad1 k i j = ad k i j) := by
  have hxx := mo_x hR
  have hWr := rel_W hW hi3 hs9
  have hl8 := (hW.2.2.1 i hi3).2.1
  refine jM.of (by decide +kernel) (own := RX5) rfl (Nat.le_of_ble_eq_true rfl) ?_
  intro p e s m args below meth c hX hr hlk hnm
  refine jr_aload_n (i := 0) hX rfl rfl dX5_release_0 ?_
  refine jr_iload_n (i := 1) hX rfl rfl dX5_release_1 ?_
  refine jr_callV (As := [.int (nI i)]) (bc1 := ((4 + 159 * ((s_q S).length - (s_q (s_rel S i)).length)))) (bs1 := ((16 + 636 * ((s_q S).length - (s_q (s_rel S i)).length)))) hX (mm_noThread l D s0 b0 A _ S th ad T hR (nI i)) (cwV 1 hX.ts (lw_V q1872 q1874 qs40 q78 q1875) rfl rfl rfl (by decide +kernel) ⟨Nat.le_of_ble_eq_true rfl, Nat.le_of_ble_eq_true rfl⟩) hxx rfl rfl (Nat.le_of_ble_eq_true rfl) (by first | omega | (dsimp only; omega) | (show _ ≤ _; simp only []; omega)) (by first | omega | (dsimp only; omega) | (show _ ≤ _; simp only []; omega)) rfl dX5_release_2 (fun v_2 G_2 hp_2 => ?_)
  obtain ⟨rfl, hR1, hF1⟩ := hp_2
  have hin : (0 : Int32) ≤ nI i ∧ nI i ≤ 2 := ⟨nI_pos' (by omega), nI_le (b := 2) (by omega) (by omega)⟩
  rw [if_pos hin] at hR1
  rw [decide_eq_true hin]
  have hxx1 := mo_x hR1
  refine jr_if_eq hX (tgt := 10) (by decide) dX5_release_5 (fun c_5 => ?_) (fun c_5 => absurd rfl c_5)
  refine jr_aload_n (i := 0) hX rfl rfl dX5_release_10 ?_
  obtain ⟨moL, capL, eaL, hLL, -, -, -⟩ := mo_lns hR1
  refine jr_get (ci := 11) (k := 4) hX hxx1 rfl in_X5 (by decide) q1734 rfl dX5_release_11 ?_
  refine jr_iload_n (i := 1) hX rfl rfl dX5_release_14 ?_
  refine jr_callV (As := [.int (nI i)]) (bc1 := ((4 + 159 * ((s_q S).length - (s_q (s_rel S i)).length)))) (bs1 := ((16 + 636 * ((s_q S).length - (s_q (s_rel S i)).length)))) hX (met_get l D s0 b0 A _ (ad 32 1 0) (s_rg 3 (fun v => ad 35 v 0)) moL capL eaL hLL i (ad 35 i 0) (rg_at hi3)) (cwV 1 hX.ts (lw_V q1712 q304 q2203 q68 q306) rfl rfl rfl (by decide +kernel) ⟨Nat.le_of_ble_eq_true rfl, Nat.le_of_ble_eq_true rfl⟩) hLL.1 rfl rfl (Nat.le_of_ble_eq_true rfl) (by first | omega | (dsimp only; omega) | (show _ ≤ _; simp only []; omega)) (by first | omega | (dsimp only; omega) | (show _ ≤ _; simp only []; omega)) rfl dX5_release_15 (fun v_15 G_15 hp_15 => ?_)
  obtain ⟨rfl, e9⟩ := hp_15
  rw [e9]
  refine jr_castS hX (mo_lan hR1 hi3) rfl q1713 dX5_release_18 ?_
  refine jr_astore_n (i := 2) hX rfl (by decide) rfl dX5_release_21 ?_
  refine jr_aload_n (i := 0) hX rfl rfl dX5_release_22 ?_
  refine jr_aload_n (i := 2) hX rfl rfl dX5_release_23 ?_
  refine jr_getN (ci := 13) (k := 0) hX (mo_lan hR1 hi3) rfl in_X7 (by decide) q1722 rfl dX5_release_24 ?_
  refine jr_bipush (v := 119) hX (by decide) dX5_release_27 ?_
  refine jr_icmp_ne hX (tgt := 36) (by decide) dX5_release_29 (fun c_29 => absurd c_29 (fun z => z (by rw [hs9]; rfl))) (fun c_29 => ?_)
  refine jr_iconst (v := 0) hX rfl dX5_release_32 ?_
  refine jr_goto hX (tgt := 37) (by decide) dX5_release_33 ?_
  refine jr_put (ci := 11) (k := 0) hX hxx1 rfl in_X5 (by decide) tyX5 tyX5_ok nmX5 q1730 rfl (by first | rfl | assumption) (by first | rfl | assumption) (Nat.le_of_ble_eq_true rfl) dX5_release_37 ?_
  have hR2 := mo_wth hR1 0
  have hxx2 := mo_x hR2
  have hLn2 := mo_lan hR2 hi3
  have hF2 : jFm 31 60 T _ T _ := jFm.pt (T := T) (G := G_2) (lo := 31) (hi := 60) (c := jo 11 [.int (nI 0), .ref (ad 32 0 0), .ref (ad 37 (s_m S) 0), .int (nI (s_p S)), .ref (ad 32 1 0), .ref (ad 32 2 0), .ref (ad 34 0 0), .ref (ad 32 3 0), .ref (ad 32 4 0), .int (jbz (s_w S)), .int (s_l S), .ref (ad 32 5 0), .ref (ad 32 6 0), .long (lN (s_n S))]) (mo_t31 hR1) (by decide)
  refine jr_aload_n (i := 0) hX rfl rfl dX5_release_40 ?_
  refine jr_get (ci := 11) (k := 0) hX hxx2 rfl in_X5 (by decide) q1730 rfl dX5_release_41 ?_
  refine jr_if_le hX (tgt := 49) (by decide) dX5_release_44 (fun c_44 => ?_) (fun c_44 => absurd (by decide) c_44)
  refine jr_aload_n (i := 2) hX rfl rfl dX5_release_49 ?_
  refine jr_bipush (v := 114) hX (by decide) dX5_release_50 ?_
  refine jr_putN (ci := 13) (k := 0) hX hLn2 rfl in_X7 (by decide) tyX7 tyX7_ok nmX7 q1722 rfl (by first | rfl | assumption) (by first | rfl | assumption) (Nat.le_of_ble_eq_true rfl) dX5_release_52 ?_
  have hR3 := mo_wst hR2 hi3 114
  have hF3 : jFm 31 60 T _ T _ := jFm.pt (T := T) (G := jup G_2 (ad 31 0 0) (jo 11 [.int (nI 0), .ref (ad 32 0 0), .ref (ad 37 (s_m S) 0), .int (nI (s_p S)), .ref (ad 32 1 0), .ref (ad 32 2 0), .ref (ad 34 0 0), .ref (ad 32 3 0), .ref (ad 32 4 0), .int (jbz (s_w S)), .int (s_l S), .ref (ad 32 5 0), .ref (ad 32 6 0), .long (lN (s_n S))])) (lo := 31) (hi := 60) (c := jo 13 [.int (nI 114), .ref (ad 36 i 0)]) (mo_t35 hR2 hi3) (by decide)
  have hql : (s_q (s_st S i 114)).length = (s_q S).length := rfl
  have hqr : (s_q (s_look (s_st S i 114))).length = (s_q (s_rel S i)).length := rfl
  refine jr_aload_n (i := 0) hX rfl rfl dX5_release_55 ?_
  refine jr_callV (As := []) (bc1 := (0)) (bs1 := (0)) hX (mm_looks l D s0 b0 A _ (s_st S i 114) 0 ad T hR3 hWr) (cwV 0 hX.ts (lw_V q1915 q1917 qs42 q78 q1918) rfl rfl rfl (by decide +kernel) ⟨Nat.le_of_ble_eq_true rfl, Nat.le_of_ble_eq_true rfl⟩) (mo_x hR3) rfl rfl (Nat.le_of_ble_eq_true rfl) (by first | omega | (dsimp only; omega) | (show _ ≤ _; simp only []; omega)) (by first | omega | (dsimp only; omega) | (show _ ≤ _; simp only []; omega)) rfl dX5_release_56 (fun v_56 G_56 hp_56 => ?_)
  obtain ⟨rfl, ad1, T1, g1, g2, g3⟩ := hp_56
  have hk := look_kp (s_st S i 114)
  have hlen : (s_s (s_rel S i) i).2.length = (s_s S i).2.length := by
    show (s_s (s_look (s_st S i 114)) i).2.length = _
    rw [(hk.2.1 i).2]
    show (sup (s_s S) i _ i).2.length = _
    rw [sup_s]
  rw [show ad 35 i 0 = ad1 35 i 0 from (g3 35 i 0 (by decide)).symm]
  have hLn4 := mo_lan g1 hi3
  obtain ⟨moF, capF, eaF, hFL, -, -, -⟩ := mo_frl g1 hi3
  refine jr_aload_n (i := 2) hX rfl rfl dX5_release_59 ?_
  refine jr_getN (ci := 13) (k := 1) hX hLn4 rfl in_X7 (by decide) q1724 rfl dX5_release_60 ?_
  refine jr_callV (As := []) (bc1 := (0)) (bs1 := (0)) hX (met_size l D s0 b0 A _ (ad1 36 i 0) _ moF capF eaF hFL) (cwV 0 hX.ts (lw_V q1834 q410 q2205 q68 q412) rfl rfl rfl (by decide +kernel) ⟨Nat.le_of_ble_eq_true rfl, Nat.le_of_ble_eq_true rfl⟩) hFL.1 rfl rfl (Nat.le_of_ble_eq_true rfl) (by first | omega | (dsimp only; omega) | (show _ ≤ _; simp only []; omega)) (by first | omega | (dsimp only; omega) | (show _ ≤ _; simp only []; omega)) rfl dX5_release_63 (fun v_63 G_63 hp_63 => ?_)
  obtain ⟨rfl, e9⟩ := hp_63
  rw [e9, rg_len]
  exact jr_iret hX hlk hr ⟨by rw [← hlen]; rfl, ad1, T1, g1, ((hF1.trans hF2).trans hF3).trans g2, fun k i j hk => g3 k i j (by omega)⟩ dX5_release_66
