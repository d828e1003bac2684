/-! step(II), start -/
def s_run (i : Nat) : Nat → sSt → Nat × sSt
  | 0, S => (0, S)
  | n + 1, S => if (s_s S i).1 = 114 then ((s_run i n (s_one S i)).1 + 1, (s_run i n (s_one S i)).2) else (0, S)
theorem run_go {i n : Nat} {S : sSt} (h : (s_s S i).1 = 114) : s_run i (n + 1) S = ((s_run i n (s_one S i)).1 + 1, (s_run i n (s_one S i)).2) := if_pos h
theorem run_no {i n : Nat} {S : sSt} (h : (s_s S i).1 ≠ 114) : s_run i n S = (0, S) := by
  cases n with
  | zero => rfl
  | succ n => exact if_neg h
/-- many steps' sums -/
theorem run_m {i : Nat} (hi : i < 3) : ∀ (n : Nat) (S : sSt), sW S → s_n S + n + 51 < 1000000 → sW (s_run i n S).2 ∧ s_cq (s_run i n S).2 ≤ s_cq S ∧ s_cc (s_run i n S).2 ≤ s_cc S ∧ s_n (s_run i n S).2 ≤ s_n S + n ∧ (s_u (s_run i n S).2).length ≤ (s_u S).length + n ∧ s_k S ≤ s_k (s_run i n S).2 ∧ (sWk S → sWk (s_run i n S).2) ∧ s_v (s_run i n S).2 = s_v S ∧ s_i (s_run i n S).2 = s_i S ∧ (s_run i n S).1 ≤ n := by
  intro n
  induction n with
  | zero => intro S h _; exact ⟨h, Nat.le_refl _, Nat.le_refl _, Nat.le_refl _, Nat.le_refl _, Nat.le_refl _, id, rfl, rfl, Nat.le_refl _⟩
  | succ n ih =>
    intro S h hn
    by_cases h9 : (s_s S i).1 = 114
    · have hne : 0 < (s_s S i).2.length := (h.2.2.2.2.2.2.1 i hi).mp (by rw [h9]; rfl)
      obtain ⟨a1, a2, a3, a4, a5, a6, a7, a8, a9, a10, -, -⟩ := one_m (i := i) hne
      obtain ⟨b1, b2, b3, b4, b5, b6, b7, b8, b9, b10⟩ := ih (s_one S i) (one_W h hi (by omega)) (by omega)
      rw [run_go h9]
      exact ⟨b1, by show s_cq (s_run i n (s_one S i)).2 ≤ _; omega, by show s_cc (s_run i n (s_one S i)).2 ≤ _; omega, by show s_n (s_run i n (s_one S i)).2 ≤ _; omega, by show (s_u (s_run i n (s_one S i)).2).length ≤ _; omega, by show _ ≤ s_k (s_run i n (s_one S i)).2; omega, fun z => b7 (a8 z), b8.trans a9, b9.trans a10, by show (s_run i n (s_one S i)).1 + 1 ≤ n + 1; omega⟩
    · rw [run_no h9]
      exact ⟨h, Nat.le_refl _, Nat.le_refl _, Nat.le_add_right _ _, Nat.le_add_right _ _, Nat.le_refl _, id, rfl, rfl, Nat.zero_le _⟩

set_option maxHeartbeats 4000000 in
set_option maxRecDepth 100000 in
theorem met_stepC (l : Launch) (D : va_G) (s0 : State) (b0 : Nat) (A : Nat → Prop) (G : jG) (S : sSt) (ad : jN) (T : jT) (hR : jCo D s0 b0 S ad T G) (hW : sW S) (hk : sWk S) (i k : Nat) (hi3 : i < 3) (hk1 : 1 ≤ k) (hk2 : k ≤ 99) (hu : (s_u S).length + k < 6400) (hcc : s_cc S < 99) (hn : s_n S + k < 900000) : jM l yX1_step (ws_ yX1_step cX1_step 5 (some .int)) (jR 16 ((63 * k + 207 * (s_cq S - s_cq (s_run i k S).2))) ((628 * k + 826 * (s_cq S - s_cq (s_run i k S).2) + 4 * (s_k (s_run i k S).2 - s_k S)))) D s0 b0 A G [.ref (ad 1 0 0), .int (nI i), .int (nI k)] (fun w G1 => w = some (.int (nI (s_run i k S).1)) ∧ ∃ (ad1 : jN) (T1 : jT), jCo D s0 b0 (s_run i k S).2 ad1 T1 G1 ∧ jFm 1 30 T G T1 G1 ∧ ∀ k i j, k < 8 → ad1 k i j = ad k i j) := by
  have hxx := co_x hR
  refine jM.of (by decide +kernel) (own := RX1) rfl (Nat.le_of_ble_eq_true rfl) ?_
  intro p e s m args below meth c hX hr hlk hnm
  refine jr_aload_n (i := 0) hX rfl rfl dX1_step_0 ?_
  refine jr_iload_n (i := 1) hX rfl rfl dX1_step_1 ?_
  refine jr_callV (As := [.int (nI i)]) (bc1 := ((63 * k + 207 * (s_cq S - s_cq (s_run i k S).2)))) (bs1 := ((628 * k + 826 * (s_cq S - s_cq (s_run i k S).2) + 4 * (s_k (s_run i k S).2 - s_k S)))) hX (met_strandAt l D s0 b0 A _ S ad T hR i hi3) (cwV 1 hX.ts (lw_V q943 q945 qs8 q65 q946) rfl rfl rfl (by decide +kernel) ⟨Nat.le_of_ble_eq_true rfl, Nat.le_of_ble_eq_true rfl⟩) hxx rfl rfl (Nat.le_of_ble_eq_true rfl) (by first | omega | (dsimp only; omega) | (show _ ≤ _; simp only []; omega)) (by first | omega | (dsimp only; omega) | (show _ ≤ _; simp only []; omega)) rfl dX1_step_2 (fun v_2 G_2 hp_2 => ?_)
  obtain ⟨rfl, e9⟩ := hp_2
  rw [e9]
  refine jr_astore_n (i := 3) hX rfl (by decide) rfl dX1_step_5 ?_
  refine jr_iload_n (i := 2) hX rfl rfl dX1_step_6 ?_
  refine jr_iconst (v := 1) hX rfl dX1_step_7 ?_
  refine jr_bipush (v := 99) hX (by decide) dX1_step_8 ?_
  refine jr_callS (As := [.int (nI k), .int 1, .int 99]) (bc1 := ((63 * k + 207 * (s_cq S - s_cq (s_run i k S).2)))) (bs1 := ((628 * k + 826 * (s_cq S - s_cq (s_run i k S).2) + 4 * (s_k (s_run i k S).2 - s_k S)))) hX (met_isIn l D s0 b0 A _ (nI k) 1 99) (va_cwS 3 hX.ts (lw_S q453 q454 q65 q455) rfl rfl rfl (by decide +kernel) ⟨Nat.le_of_ble_eq_true rfl, Nat.le_of_ble_eq_true rfl⟩) rfl (Nat.le_of_ble_eq_true rfl) (by first | omega | (dsimp only; omega) | (show _ ≤ _; simp only []; omega)) (by first | omega | (dsimp only; omega) | (show _ ≤ _; simp only []; omega)) rfl dX1_step_10 (fun v_10 G_10 hp_10 => ?_)
  obtain ⟨rfl, e9⟩ := hp_10
  rw [e9, jdt (p := (1 : Int32) ≤ nI k ∧ nI k ≤ 99) ⟨nI_le (a := 1) (by omega) (by omega), nI_le (b := 99) (by omega) (by omega)⟩]
  refine jr_callS (As := [.int 1]) (bc1 := ((63 * k + 207 * (s_cq S - s_cq (s_run i k S).2)))) (bs1 := ((628 * k + 826 * (s_cq S - s_cq (s_run i k S).2) + 4 * (s_k (s_run i k S).2 - s_k S)))) hX (met_requireValid l D s0 b0 A _ ) (va_cwS 1 hX.ts (lw_S q456 q457 q65 q458) rfl rfl rfl (by decide +kernel) ⟨Nat.le_of_ble_eq_true rfl, Nat.le_of_ble_eq_true rfl⟩) rfl (Nat.le_of_ble_eq_true rfl) (by first | omega | (dsimp only; omega) | (show _ ≤ _; simp only []; omega)) (by first | omega | (dsimp only; omega) | (show _ ≤ _; simp only []; omega)) rfl dX1_step_13 (fun v_13 G_13 hp_13 => ?_)
  obtain ⟨rfl, e9⟩ := hp_13
  rw [e9]
  refine jr_iconst (v := 0) hX rfl dX1_step_16 ?_
  refine jr_istore hX (by decide) rfl dX1_step_17 ?_
  have loop : ∀ n : Nat, ∀ (m9 : Nat) (Sc : sSt) (adc : jN) (Tc : jT) (Gc : jG), m9 + n = k → jCo D s0 b0 Sc adc Tc Gc → (∀ k i j, k < 8 → adc k i j = ad k i j) → jFm 1 30 T G Tc Gc → sW Sc → sWk Sc → (s_u Sc).length + n < 6400 → s_cc Sc < 99 → s_n Sc + n < 900000 → (nI (m9 + (s_run i n Sc).1) = nI (s_run i k S).1 ∧ (s_run i n Sc).2 = (s_run i k S).2) → Jg p l e (jR 16 (63 * k + 207 * (s_cq S - s_cq (s_run i k S).2)) (628 * k + 826 * (s_cq S - s_cq (s_run i k S).2) + 4 * (s_k (s_run i k S).2 - s_k S))) s m args below meth c (MQ below (jQ D A (fun w G1 => w = some (.int (nI (s_run i k S).1)) ∧ ∃ (ad1 : jN) (T1 : jT), jCo D s0 b0 (s_run i k S).2 ad1 T1 G1 ∧ jFm 1 30 T G T1 G1 ∧ ∀ k i j, k < 8 → ad1 k i j = ad k i j)) args s (63 * k + 207 * (s_cq S - s_cq (s_run i k S).2)) (628 * k + 826 * (s_cq S - s_cq (s_run i k S).2) + 4 * (s_k (s_run i k S).2 - s_k S)) A) D A 5 Gc (63 * (n) + 207 * (s_cq Sc - s_cq (s_run i (n) Sc).2)) (628 * (n) + 826 * (s_cq Sc - s_cq (s_run i (n) Sc).2) + 4 * (s_k (s_run i (n) Sc).2 - s_k Sc)) 19 [(4, .int (nI (m9))), (2, .int (nI k)), (3, .ref (adc 5 i 0)), (0, .ref (adc 1 0 0))] [] := by
    intro n
    induction n with
    | zero =>
      intro m9 Sc adc Tc Gc hmk hRc hAd hFc hWc hkc huc hcc hnc heq
      refine jr_iload hX rfl dX1_step_19 ?_
      refine jr_iload_n (i := 2) hX rfl rfl dX1_step_21 ?_
      refine jr_icmp_ge hX (tgt := 45) (by decide) dX1_step_22 (fun c_22 => ?_) (fun c_22 => absurd (by rw [show m9 = k by omega]; exact Int32.le_refl _) c_22)
      refine jr_iload hX rfl dX1_step_45 ?_
      refine jr_iret hX hlk hr ⟨?_, adc, Tc, ?_, hFc, hAd⟩ dX1_step_47
      · rw [← heq.1]; rfl
      · rw [← heq.2]; exact hRc
    | succ n ih =>
      intro m9 Sc adc Tc Gc hmk hRc hAd hFc hWc hkc huc hcc hnc heq
      refine jr_iload hX rfl dX1_step_19 ?_
      refine jr_iload_n (i := 2) hX rfl rfl dX1_step_21 ?_
      refine jr_icmp_ge hX (tgt := 45) (by decide) dX1_step_22 (fun c_22 => absurd c_22 (nI_ge (by omega) (by omega))) (fun c_22 => ?_)
      refine jr_aload_n (i := 3) hX rfl rfl dX1_step_25 ?_
      refine jr_getN (ci := 3) (k := 1) hX (co_str hRc hi3) rfl in_X2 (by decide) q161 rfl dX1_step_26 ?_
      refine jr_bipush (v := 114) hX (by decide) dX1_step_29 ?_
      refine jr_icmp_ne hX (tgt := 45) (by decide) dX1_step_31 (fun c_31 => ?_) (fun c_31 => ?_)
      · refine jr_iload hX rfl dX1_step_45 ?_
        have h9 : (s_s Sc i).1 ≠ 114 := fun z => c_31 (by rw [z]; rfl)
        rw [run_no h9] at heq
        refine jr_iret hX hlk hr ⟨?_, adc, Tc, ?_, hFc, hAd⟩ dX1_step_47
        · rw [← heq.1]; rfl
        · rw [← heq.2]; exact hRc
      · have h9 : (s_s Sc i).1 = 114 := (nI_eq (b := 114) (by have := (hWc.2.2.1 i hi3).1; omega) (by omega)).mp (Decidable.byContradiction fun z => absurd c_31 z)
        have hne : 0 < (s_s Sc i).2.length := (hWc.2.2.2.2.2.2.1 i hi3).mp (by rw [h9]; rfl)
        obtain ⟨a1, a2, a3, a4, a5, a6, a7, a8, a9, a10, -, -⟩ := one_m (i := i) hne
        obtain ⟨b1, b2, b3, b4, b5, b6, b7, b8, b9, b10⟩ := run_m hi3 n (s_one Sc i) (one_W hWc hi3 (by omega)) (by omega)
        rw [run_go h9]
        rw [run_go h9] at heq
        show Jg p l e (jR 16 (63 * k + 207 * (s_cq S - s_cq (s_run i k S).2)) (628 * k + 826 * (s_cq S - s_cq (s_run i k S).2) + 4 * (s_k (s_run i k S).2 - s_k S))) s m args below meth c (MQ below (jQ D A (fun w G1 => w = some (.int (nI (s_run i k S).1)) ∧ ∃ (ad1 : jN) (T1 : jT), jCo D s0 b0 (s_run i k S).2 ad1 T1 G1 ∧ jFm 1 30 T G T1 G1 ∧ ∀ k i j, k < 8 → ad1 k i j = ad k i j)) args s (63 * k + 207 * (s_cq S - s_cq (s_run i k S).2)) (628 * k + 826 * (s_cq S - s_cq (s_run i k S).2) + 4 * (s_k (s_run i k S).2 - s_k S)) A) D A 5 Gc (63 * (n + 1) + 207 * (s_cq Sc - s_cq (s_run i n (s_one Sc i)).2)) (628 * (n + 1) + 826 * (s_cq Sc - s_cq (s_run i n (s_one Sc i)).2) + 4 * (s_k (s_run i n (s_one Sc i)).2 - s_k Sc)) 34 [(4, .int (nI (m9))), (2, .int (nI k)), (3, .ref (adc 5 i 0)), (0, .ref (adc 1 0 0))] []
        refine jr_aload_n (i := 0) hX rfl rfl dX1_step_34 ?_
        refine jr_aload_n (i := 3) hX rfl rfl dX1_step_35 ?_
        refine jr_callV (As := [.ref (adc 5 i 0)]) (bc1 := (63 * n + 207 * (s_cq (s_one Sc i) - s_cq (s_run i n (s_one Sc i)).2))) (bs1 := (628 * n + 826 * (s_cq (s_one Sc i) - s_cq (s_run i n (s_one Sc i)).2) + 4 * (s_k (s_run i n (s_one Sc i)).2 - s_k (s_one Sc i)))) hX (met_stepS l D s0 b0 A _ Sc adc Tc hRc hWc hkc (by omega) hcc (by omega) i hi3 hne) (cwV 1 hX.ts (lw_V q1134 q1136 qs22 q65 q1137) rfl rfl rfl (by decide +kernel) ⟨Nat.le_of_ble_eq_true rfl, Nat.le_of_ble_eq_true rfl⟩) (co_x hRc) rfl rfl (Nat.le_of_ble_eq_true rfl) (by first | omega | (dsimp only; omega) | (show _ ≤ _; simp only []; omega)) (by first | omega | (dsimp only; omega) | (show _ ≤ _; simp only []; omega)) rfl dX1_step_36 (fun v_36 G_36 hp_36 => ?_)
        obtain ⟨rfl, ad1, T1, g1, g2, g3⟩ := hp_36
        refine jr_iinc (w := 1) hX rfl rfl (by decide) rfl dX1_step_39 ?_
        rw [show nI m9 + 1 = nI (m9 + 1) from nI_1 m9]
        refine jr_goto hX (tgt := 19) (by decide) dX1_step_42 ?_
        rw [show adc 5 i 0 = ad1 5 i 0 from (g3 5 i 0 (by decide)).symm, show adc 1 0 0 = ad1 1 0 0 from (g3 1 0 0 (by decide)).symm]
        refine jr_lvm [(4, .int (nI (m9 + 1))), (2, .int (nI k)), (3, .ref (ad1 5 i 0)), (0, .ref (ad1 1 0 0))] rfl ?_
        exact ih (m9 + 1) (s_one Sc i) ad1 T1 _ (by omega) g1 (fun k i j h => (g3 k i j h).trans (hAd k i j h)) (hFc.trans g2) (one_W hWc hi3 (by omega)) (a8 hkc) (by omega) (by omega) (by omega) ⟨by rw [← heq.1]; congr 1; show m9 + 1 + _ = m9 + (_ + 1); omega, heq.2⟩
  refine jr_lvm [(4, .int (nI (0))), (2, .int (nI k)), (3, .ref (ad 5 i 0)), (0, .ref (ad 1 0 0))] rfl ?_
  exact loop k 0 S ad T G (by omega) hR (fun _ _ _ _ => rfl) jFm.refl hW hk hu hcc hn ⟨by rw [Nat.zero_add], rfl⟩

def s_sta (S : sSt) (i fn : Nat) : sSt := sw_s S (sup (s_s S) i (114, [((s_p S, fn, 0, upd (fun _ => 0) 0 0, 0) : sFr)]))
theorem sta_e {S : sSt} {i fn : Nat} : s_cal (s_end S i 114) i fn 0 0 = s_sta S i fn := by
  have e : s_s (s_end S i 114) = sup (s_s S) i (114, []) := rfl
  unfold s_cal
  rw [e, sup_s, if_neg (by decide)]
  show sw_s S (sup (sup (s_s S) i (114, [])) i _) = _
  rw [sup_sup]
  rfl
theorem sta_W {S : sSt} {i fn : Nat} (h : sW S) (hf : fn < 5) : sW (s_sta S i fn) := sW_st h (by decide) (by show 1 ≤ 8; decide) (fun j x hx => by
  cases j with
  | zero => cases hx; exact ⟨h.2.2.2.2.1, hf, by show 0 < 4; decide, Nat.zero_le _⟩
  | succ j => cases hx) ⟨fun _ => Nat.one_pos, fun _ => rfl⟩
def s_start (S : sSt) (i fn : Nat) : sSt := s_look (s_sta S i fn)

set_option maxHeartbeats 4000000 in
set_option maxRecDepth 100000 in
theorem met_startC (l : Launch) (D : va_G) (s0 : State) (b0 : Nat) (A : Nat → Prop) (G : jG) (S : sSt) (ad : jN) (T : jT) (hR : jCo D s0 b0 S ad T G) (hW : sW S) (i fn : Nat) (hi3 : i < 3) (hfn : fn < 5) (hal : s_al (s_s S i).1 = false) : jM l yX1_start (ws_ yX1_start cX1_start 5 (some .int)) (jR 16 ((32 + 207 * ((s_q S).length - (s_q (s_start S i fn)).length))) ((133 + 826 * ((s_q S).length - (s_q (s_start S i fn)).length)))) D s0 b0 A G [.ref (ad 1 0 0), .int (nI i), .int (nI fn)] (fun w G1 => w = some (.int (nI (s_p S))) ∧ ∃ (ad1 : jN) (T1 : jT), jCo D s0 b0 (s_start S i fn) ad1 T1 G1 ∧ jFm 1 30 T G T1 G1 ∧ ∀ k i j, k < 8 → ad1 k i j = ad k i j) := by
  have hxx := co_x hR
  have hst := co_str hR hi3
  obtain ⟨hs1, hs2, hs3⟩ := hW.2.2.1 i hi3
  refine jM.of (by decide +kernel) (own := RX1) rfl (Nat.le_of_ble_eq_true rfl) ?_
  intro p e s m args below meth c hX hr hlk hnm
  refine jr_aload_n (i := 0) hX rfl rfl dX1_start_0 ?_
  refine jr_iload_n (i := 1) hX rfl rfl dX1_start_1 ?_
  refine jr_callV (As := [.int (nI i)]) (bc1 := ((32 + 207 * ((s_q S).length - (s_q (s_start S i fn)).length)))) (bs1 := ((133 + 826 * ((s_q S).length - (s_q (s_start S i fn)).length)))) hX (met_strandAt l D s0 b0 A _ S ad T hR i hi3) (cwV 1 hX.ts (lw_V q943 q945 qs8 q65 q946) rfl rfl rfl (by decide +kernel) ⟨Nat.le_of_ble_eq_true rfl, Nat.le_of_ble_eq_true rfl⟩) hxx rfl rfl (Nat.le_of_ble_eq_true rfl) (by first | omega | (dsimp only; omega) | (show _ ≤ _; simp only []; omega)) (by first | omega | (dsimp only; omega) | (show _ ≤ _; simp only []; omega)) rfl dX1_start_2 (fun v_2 G_2 hp_2 => ?_)
  obtain ⟨rfl, e9⟩ := hp_2
  rw [e9]
  refine jr_astore_n (i := 3) hX rfl (by decide) rfl dX1_start_5 ?_
  refine jr_iload_n (i := 2) hX rfl rfl dX1_start_6 ?_
  refine jr_callS (As := [.int (nI fn)]) (bc1 := ((32 + 207 * ((s_q S).length - (s_q (s_start S i fn)).length)))) (bs1 := ((133 + 826 * ((s_q S).length - (s_q (s_start S i fn)).length)))) hX (met_requireFunction l D s0 b0 A _ fn hfn) (va_cwS 1 hX.ts (lw_S q450 q451 q65 q452) rfl rfl rfl (by decide +kernel) ⟨Nat.le_of_ble_eq_true rfl, Nat.le_of_ble_eq_true rfl⟩) rfl (Nat.le_of_ble_eq_true rfl) (by first | omega | (dsimp only; omega) | (show _ ≤ _; simp only []; omega)) (by first | omega | (dsimp only; omega) | (show _ ≤ _; simp only []; omega)) rfl dX1_start_7 (fun v_7 G_7 hp_7 => ?_)
  obtain ⟨rfl, e9⟩ := hp_7
  rw [e9]
  refine jr_aload_n (i := 3) hX rfl rfl dX1_start_10 ?_
  refine jr_callV (As := []) (bc1 := ((32 + 207 * ((s_q S).length - (s_q (s_start S i fn)).length)))) (bs1 := ((133 + 826 * ((s_q S).length - (s_q (s_start S i fn)).length)))) hX (met_isAlive l D s0 b0 A _ (ad 5 i 0) (ad 6 i 0) (s_s S i).1 hst hs1) (cwV 0 hX.ts (lw_V q947 q948 q949 q69 q950) rfl rfl rfl (by decide +kernel) ⟨Nat.le_of_ble_eq_true rfl, Nat.le_of_ble_eq_true rfl⟩) hst rfl rfl (Nat.le_of_ble_eq_true rfl) (by first | omega | (dsimp only; omega) | (show _ ≤ _; simp only []; omega)) (by first | omega | (dsimp only; omega) | (show _ ≤ _; simp only []; omega)) rfl dX1_start_11 (fun v_11 G_11 hp_11 => ?_)
  obtain ⟨rfl, e9⟩ := hp_11
  rw [e9, hal]
  refine jr_if_ne hX (tgt := 21) (by decide) dX1_start_14 (fun c_14 => absurd c_14 (fun h => h rfl)) (fun c_14 => ?_)
  refine jr_iconst (v := 1) hX rfl dX1_start_17 ?_
  refine jr_goto hX (tgt := 22) (by decide) dX1_start_18 ?_
  refine jr_callS (As := [.int 1]) (bc1 := ((32 + 207 * ((s_q S).length - (s_q (s_start S i fn)).length)))) (bs1 := ((133 + 826 * ((s_q S).length - (s_q (s_start S i fn)).length)))) hX (met_requireState l D s0 b0 A _ ) (va_cwS 1 hX.ts (lw_S q584 q585 q65 q586) rfl rfl rfl (by decide +kernel) ⟨Nat.le_of_ble_eq_true rfl, Nat.le_of_ble_eq_true rfl⟩) rfl (Nat.le_of_ble_eq_true rfl) (by first | omega | (dsimp only; omega) | (show _ ≤ _; simp only []; omega)) (by first | omega | (dsimp only; omega) | (show _ ≤ _; simp only []; omega)) rfl dX1_start_22 (fun v_22 G_22 hp_22 => ?_)
  obtain ⟨rfl, e9⟩ := hp_22
  rw [e9]
  refine jr_aload_n (i := 0) hX rfl rfl dX1_start_25 ?_
  refine jr_get (ci := 2) (k := 8) hX hxx rfl in_X1 (by decide) q371 rfl dX1_start_26 ?_
  refine jr_istore hX (by decide) rfl dX1_start_29 ?_
  refine jr_aload_n (i := 3) hX rfl rfl dX1_start_31 ?_
  refine jr_bipush (v := 114) hX (by decide) dX1_start_32 ?_
  refine jr_callV (As := [.int 114]) (bc1 := ((32 + 207 * ((s_q S).length - (s_q (s_start S i fn)).length)))) (bs1 := ((133 + 826 * ((s_q S).length - (s_q (s_start S i fn)).length)))) hX (met_send l D s0 b0 A _ S ad T hR i hi3 114 (by omega)) (cwV 1 hX.ts (lw_V q951 q952 q953 q69 q954) rfl rfl rfl (by decide +kernel) ⟨Nat.le_of_ble_eq_true rfl, Nat.le_of_ble_eq_true rfl⟩) hst rfl rfl (Nat.le_of_ble_eq_true rfl) (by first | omega | (dsimp only; omega) | (show _ ≤ _; simp only []; omega)) (by first | omega | (dsimp only; omega) | (show _ ≤ _; simp only []; omega)) rfl dX1_start_34 (fun v_34 G_34 hp_34 => ?_)
  obtain ⟨rfl, TE, hRE, hfE⟩ := hp_34
  obtain ⟨SE, hSE⟩ : ∃ SE, SE = s_end S i 114 := ⟨_, rfl⟩
  rw [← hSE] at hRE
  have hpE : s_p SE = s_p S := by rw [hSE]; rfl
  have hl0 : (s_s SE i).2.length = 0 := by rw [hSE]; show (sup (s_s S) i _ i).2.length = 0; rw [sup_s]; rfl
  obtain ⟨moF, capF, eaF, hFL, -, hFc, hFt⟩ := co_frl hRE hi3
  have hxxE := co_x hRE
  refine jr_aload_n (i := 3) hX rfl rfl dX1_start_37 ?_
  refine jr_getN (ci := 3) (k := 0) hX (co_str hRE hi3) rfl in_X2 (by decide) q159 rfl dX1_start_38 ?_
  refine jr_ee hX (fun hE0 => ?_)
  refine jr_new (ci := 6) (fs := [.int 0, .int 0, .int 0, .null, .int 0]) (bc1 := ((32 + 207 * ((s_q S).length - (s_q (s_start S i fn)).length))) - 1) (bs1 := ((133 + 826 * ((s_q S).length - (s_q (s_start S i fn)).length))) - 5) hX in_X13 tyX13 tyX13_ok q957 q958 q99 rfl (by decide) (by omega) (by omega) dX1_start_41 (fun n_41 hn_41 hA_41 => ?_)
  refine jr_dup hX rfl dX1_start_44 ?_
  refine jr_aload_n (i := 0) hX rfl rfl dX1_start_45 ?_
  refine jr_get (ci := 2) (k := 8) hX (jup_f hxxE hn_41) rfl in_X1 (by decide) q371 rfl dX1_start_46 ?_
  refine jr_iload_n (i := 2) hX rfl rfl dX1_start_49 ?_
  refine jr_iconst (v := 0) hX rfl dX1_start_50 ?_
  refine jr_iconst (v := 0) hX rfl dX1_start_51 ?_
  refine jr_callI (ret := none) (As := [.int (nI (s_p SE)), .int (nI fn), .int 0, .int (nI 0)]) (bc1 := ((((32 + 207 * ((s_q S).length - (s_q (s_start S i fn)).length))) - 1) - 1)) (bs1 := ((((133 + 826 * ((s_q S).length - (s_q (s_start S i fn)).length))) - 5) - 4)) hX (met_FrInit l D s0 b0 A _ n_41 (nI (s_p SE)) (nI fn) 0 (nI 0) jup_s) (cwI 4 hX.ts (lw_meth q961) rfl rfl rfl (hX.ts _ q99) (hX.ts _ q959) (hX.ts _ q960) rfl (by decide +kernel) ⟨Nat.le_of_ble_eq_true rfl, Nat.le_of_ble_eq_true rfl⟩) rfl (Nat.le_of_ble_eq_true rfl) (by first | omega | (dsimp only; omega) | (show _ ≤ _; simp only []; omega)) (by first | omega | (dsimp only; omega) | (show _ ≤ _; simp only []; omega)) rfl dX1_start_52 (fun v_52 G_52 hp_52 => ?_)
  obtain ⟨rfl, q, hq, hqA, hqn, hgn, hgq, hgo⟩ := hp_52
  have hq0 : G_34 q = none := by rw [jup_n hqn] at hq; exact hq
  have hnw : jNw G_34 G_52 := fun b x hb => by
    have z1 : b ≠ n_41 := fun z => by rw [z, hn_41] at hb; cases hb
    have z2 : b ≠ q := fun z => by rw [z, hq0] at hb; cases hb
    rw [hgo b z1 z2, jup_n z1]; exact hb
  have hR1 := co_ad89 (n := n_41) (q := q) (jRep.nw hRE hnw) hi3 (hRE.un hn_41) (hRE.un hq0) hqn (by rw [hgn]; simp) (by rw [hgq]; simp) (hX.ee hA_41) (hX.ee hqA)
  have hFL1 := hnw.jLS hFL
  refine jr_callF (As := [.ref n_41]) (bc1 := (((((32 + 207 * ((s_q S).length - (s_q (s_start S i fn)).length))) - 1) - 1) - 1)) (bs1 := (((((133 + 826 * ((s_q S).length - (s_q (s_start S i fn)).length))) - 5) - 4) - 10)) hX (met_add l D s0 b0 A _ (ad 6 i 0) (s_rg (s_s SE i).2.length (fun q => ad 8 i q)) moF capF eaF hFL1 (ob_fr (jRep.nw hRE hnw) hi3) n_41 (ob_o hgn (r := (RX13, TX13, 5)) rfl q2235) 1 10 (by omega) (fun hz => ⟨by omega, by rw [rg_len] at hz; have h9 := hFL.2.2.2; unfold jgw; split <;> omega⟩)) (va_cwF 1 hX.ts (lw_F q297 q184 q186 q68 q188) rfl rfl rfl (hX.S.fw ⟨by decide +kernel, by decide +kernel⟩ q182 q181 q187 q185 q183) (by decide +kernel) ⟨Nat.le_of_ble_eq_true rfl, Nat.le_of_ble_eq_true rfl⟩) hFL1.1 rfl rfl (Nat.le_of_ble_eq_true rfl) (by first | omega | (dsimp only; omega) | (show _ ≤ _; simp only []; omega)) (by first | omega | (dsimp only; omega) | (show _ ≤ _; simp only []; omega)) rfl dX1_start_55 (fun v_55 G_55 hp_55 => ?_)
  obtain ⟨rfl, hU⟩ := hp_55
  refine jr_ee hX (fun hE1 => ?_)
  have hlast : jas (jas ad 8 i (s_s SE i).2.length n_41) 9 i (s_s SE i).2.length q 8 i (s_s SE i).2.length = n_41 := by rw [jas_n (fun z => by omega), jas_s]
  rw [show s_rg (s_s SE i).2.length (fun q => ad 8 i q) ++ [n_41] = s_rg ((s_s SE i).2 ++ [(s_p SE, fn, 0, upd (fun _ => 0) 0 0, 0)]).length (fun j => (jas (jas ad 8 i (s_s SE i).2.length n_41) 9 i (s_s SE i).2.length q) 8 i j) by
    rw [List.length_append, List.length_singleton, ← rg_ap (f := fun q => ad 8 i q) (fun q9 hq9 => by rw [jas_n (fun z => by omega), jas_n (fun z => by omega)]), hlast]] at hU
  have hE01 : G_52 (jEE s0 b0) = none := by
    rw [hgo _ (fun z => hX.ee hA_41 z.symm) (fun z => hX.ee hqA z.symm), jup_n (fun z => hX.ee hA_41 z.symm)]
    exact hE0
  have hcap1 : (if (s_rg (s_s SE i).2.length (fun q => ad 8 i q)).length = capF then jgw capF (capF + 1) else capF) ≤ 200 := by
    rw [rg_len]
    have h9 := hFL.2.2.2
    split
    · unfold jgw; split <;> omega
    · exact hFc
  obtain ⟨T2, hR2, hfm2⟩ := co_frs (fs := (s_s SE i).2 ++ [(s_p SE, fn, 0, upd (fun _ => 0) 0 0, 0)]) hR1 hi3 hE1 (mo := moF) (cap := capF) (ea := eaF) (by
      rw [show s_rg (s_s SE i).2.length (fun q9 => (jas (jas ad 8 i (s_s SE i).2.length n_41) 9 i (s_s SE i).2.length q) 8 i q9) = s_rg (s_s SE i).2.length (fun q => ad 8 i q) from List.map_congr_left fun q9 hq9 => by
        have := List.mem_range.mp hq9
        rw [jas_n (fun z => by omega), jas_n (fun z => by omega)]]
      exact hFL1) (fun hc9 => by
      have ht := hFt hc9
      rw [jTs_n, jTs_n]
      · exact ht
      · intro z; rw [z, hRE.un hn_41 |> fun h => (by rfl : TE n_41 = TE n_41)] at ht; have := hRE.un hn_41; rw [ht] at this; cases this
      · intro z; rw [z] at ht; have := hRE.un hq0; rw [ht] at this; cases this) hU hcap1 (fun j x hx => by
      by_cases hj : j < (s_s SE i).2.length
      · rw [List.getElem?_append_left hj] at hx; exact Or.inl hx
      · have hjl := lt_ofl hx
        rw [List.length_append, List.length_singleton] at hjl
        have ej : j = (s_s SE i).2.length := by omega
        subst ej
        rw [List.getElem?_append_right (Nat.le_refl _), Nat.sub_self] at hx
        have ex := Option.some.inj hx
        subst ex
        rw [hlast, jas_s]
        exact Or.inr ⟨by rw [jTs_n (Ne.symm hqn), jTs_s], hgn, jTs_s, hgq⟩)
  have hfA : jFm 1 30 TE G_34 T2 G_55 := fun b hb hk => by
    have z1 : b ≠ n_41 := fun z => hb (by rw [z]; exact hn_41)
    have z2 : b ≠ q := fun z => hb (by rw [z]; exact hq0)
    have hb1 : G_52 b ≠ none := by rw [hgo b z1 z2, jup_n z1]; exact hb
    have h9 := co_fm (by omega) hE01 hfm2 b hb1 (by rw [jTs_n z2, jTs_n z1]; exact hk)
    rw [jTs_n z2, jTs_n z1, hgo b z1 z2, jup_n z1] at h9
    exact h9
  obtain ⟨adF, hadF, hA8⟩ : ∃ adF, adF = (jas (jas ad 8 i (s_s SE i).2.length n_41) 9 i (s_s SE i).2.length q) ∧ ∀ k i j, k < 8 → adF k i j = ad k i j := ⟨_, rfl, fun k9 i9 j9 hk => by rw [jas_n (fun z => by omega), jas_n (fun z => by omega)]⟩
  rw [← hadF] at hR2
  have hR3 : jCo D s0 b0 (s_sta S i fn) adF T2 G_55 := by
    rw [← sta_e, ← hSE]
    unfold s_cal
    rw [if_neg (by rw [hl0]; decide)]
    exact hR2
  have hxxF := co_x hR3
  have he1 : (s_q (s_look (s_sta S i fn))).length = (s_q (s_start S i fn)).length := rfl
  have he2 : (s_q (s_sta S i fn)).length = (s_q S).length := rfl
  rw [show ad 1 0 0 = adF 1 0 0 from (hA8 1 0 0 (by decide)).symm]
  refine jr_pop hX rfl dX1_start_60 ?_
  refine jr_aload_n (i := 0) hX rfl rfl dX1_start_61 ?_
  refine jr_callV (As := []) (bc1 := (0)) (bs1 := (0)) hX (met_look l D s0 b0 A _ (s_sta S i fn) adF T2 hR3 (sta_W hW hfn)) (cwV 0 hX.ts (lw_V q986 q988 qs9 q65 q989) rfl rfl rfl (by decide +kernel) ⟨Nat.le_of_ble_eq_true rfl, Nat.le_of_ble_eq_true rfl⟩) hxxF rfl rfl (Nat.le_of_ble_eq_true rfl) (by first | omega | (dsimp only; omega) | (show _ ≤ _; simp only []; omega)) (by first | omega | (dsimp only; omega) | (show _ ≤ _; simp only []; omega)) rfl dX1_start_62 (fun v_62 G_62 hp_62 => ?_)
  obtain ⟨rfl, ad4, T4, g1, g2, g3⟩ := hp_62
  refine jr_iload hX rfl dX1_start_65 ?_
  exact jr_iret hX hlk hr ⟨rfl, ad4, T4, g1, (hfE.trans hfA).trans g2, fun k i j hk => (g3 k i j (by omega)).trans (hA8 k i j hk)⟩ dX1_start_67
