/-! the model: things carried, places, what stands against a change -/
set_option maxHeartbeats 4000000 in
set_option maxRecDepth 100000 in
theorem mm_carryTo (l : Launch) (D : va_G) (s0 : State) (b0 : Nat) (A : Nat → Prop) (G : jG) (S : sSt) (th : Nat) (ad : jN) (T : jT) (hR : jMo D s0 b0 th S ad T G) (hv : sWv S) (i : Nat) (t : sTh) (ht : (s_o S)[i]? = some t) (hk : t.2.1 < 3) (htv : t.1 < s_m S) (a : Nat) (ha : a < s_m S) : jM l yX5_carry (ws_ yX5_carry cX5_carry 3 none) (jR 5 5 20) D s0 b0 A G [.ref (ad 31 0 0), .ref (ad 46 i 0), .int (nI a)] (fun w G1 => w = none ∧ ∃ (ad1 : jN) (T1 : jT), jMo D s0 b0 th (s_cto S i a) ad1 T1 G1 ∧ jFm 46 48 T G T1 G1 ∧ ∀ k i j, k ≠ 47 → ad1 k i j = ad k i j) := by
  have hxx := mo_x hR
  have hT := mo_th hR ht
  have hTF := mo_thf hR ht
  refine jM.of (by decide +kernel) (own := RX5) rfl (Nat.le_of_ble_eq_true rfl) ?_
  intro p e s m args below meth c hX hr hlk hnm
  refine jr_aload_n (i := 1) hX rfl rfl dX5_carry_0 ?_
  refine jr_aload_n (i := 0) hX rfl rfl dX5_carry_1 ?_
  refine jr_aload_n (i := 1) hX rfl rfl dX5_carry_2 ?_
  refine jr_getN (ci := 16) (k := 0) hX hT rfl in_X17 (by decide) q1993 rfl dX5_carry_3 ?_
  refine jr_aload_n (i := 1) hX rfl rfl dX5_carry_6 ?_
  refine jr_getN (ci := 16) (k := 2) hX hT rfl in_X17 (by decide) q1997 rfl dX5_carry_7 ?_
  refine jr_aload_n (i := 1) hX rfl rfl dX5_carry_10 ?_
  refine jr_getN (ci := 16) (k := 1) hX hT rfl in_X17 (by decide) q1995 rfl dX5_carry_11 ?_
  refine jr_iload_n (i := 2) hX rfl rfl dX5_carry_14 ?_
  refine jr_callV (As := [.int (nI t.2.1), .ref (ad 47 i 0), .int (nI t.1), .int (nI a)]) (bc1 := (0)) (bs1 := (0)) hX (mm_carryI l D s0 b0 A _ S th ad T hR hv t.2.1 t.1 a (ad 47 i 0) t.2.2 hk htv ha hTF) (cwV 4 hX.ts (lw_V q1964 q1966 qs51 q78 q1967) rfl rfl rfl (by decide +kernel) ⟨Nat.le_of_ble_eq_true rfl, Nat.le_of_ble_eq_true rfl⟩) hxx rfl rfl (Nat.le_of_ble_eq_true rfl) (by first | omega | (dsimp only; omega) | (show _ ≤ _; simp only []; omega)) (by first | omega | (dsimp only; omega) | (show _ ≤ _; simp only []; omega)) rfl dX5_carry_15 (fun v_15 G_15 hp_15 => ?_)
  obtain ⟨q, rfl, hn, hq, hor⟩ := hp_15
  refine jr_putN (ci := 16) (k := 2) hX (hn _ _ hT) rfl in_X17 (by decide) tyX17 tyX17_ok nmX17 q1997 rfl (by first | rfl | assumption) (by first | rfl | assumption) (Nat.le_of_ble_eq_true rfl) dX5_carry_18 ?_
  refine jr_aload_n (i := 1) hX rfl rfl dX5_carry_21 ?_
  refine jr_iload_n (i := 2) hX rfl rfl dX5_carry_22 ?_
  refine jr_putN (ci := 16) (k := 1) hX jup_s rfl in_X17 (by decide) tyX17 tyX17_ok nmX17 q1995 rfl (by first | rfl | assumption) (by first | rfl | assumption) (Nat.le_of_ble_eq_true rfl) dX5_carry_23 ?_
  rw [jup_jup]
  obtain ⟨ad1, T1, h1, h2, h3, h4⟩ := mo_cto hR ht hn hq (hor.imp id fun z => ⟨z.1, z.2.1, hX.ee z.2.2⟩)
  exact jr_vret hX hlk hr ⟨rfl, ad1, T1, h1, h2, h4⟩ dX5_carry_26

set_option maxHeartbeats 4000000 in
set_option maxRecDepth 100000 in
theorem mm_mapped (l : Launch) (D : va_G) (s0 : State) (b0 : Nat) (A : Nat → Prop) (G : jG) (S : sSt) (th : Nat) (ad : jN) (T : jT) (hR : jMo D s0 b0 th S ad T G) (hv : sWv S) (hp : s_p S < s_m S) (b : Bool) (hl : s_lead S b = true) (f q : Nat) (hf : f < 5) (hq : q < 11) : jM l yX5_mapped (ws_ yX5_mapped cX5_mapped 5 (some .int)) (jR 3 0 0) D s0 b0 A G [.ref (ad 31 0 0), .int (nI f), .int (nI q), .int (nI (s_to S b))] (fun w G1 => w = some (.int (s_pl S b f q)) ∧ G1 = G) := by
  have hxx := mo_x hR
  have hmm : s_m S = (s_v S).length - 1 := rfl
  have hvl := hv.1
  have hvu := hv.2.1
  obtain ⟨moV, capV, eaV, hVL, -, -, -⟩ := mo_vs hR
  obtain ⟨hlt1, hlt2⟩ := s_lt hl hp
  refine jM.of (by decide +kernel) (own := RX5) rfl (Nat.le_of_ble_eq_true rfl) ?_
  intro p e s m args below meth c hX hr hlk hnm
  refine jr_iload_n (i := 3) hX rfl rfl dX5_mapped_0 ?_
  refine jr_aload_n (i := 0) hX rfl rfl dX5_mapped_1 ?_
  refine jr_get (ci := 11) (k := 3) hX hxx rfl in_X5 (by decide) q1733 rfl dX5_mapped_2 ?_
  refine jr_icmp_le hX (tgt := 30) (by decide) dX5_mapped_5 (fun c_5 => ?_) (fun c_5 => ?_)
  · have hgt : s_to S b ≤ s_p S := Nat.not_lt.mp fun z => absurd c_5 (fun z2 => absurd (nI_lt z (by omega)) (Int32.not_lt.mpr z2))
    have hVp := mo_ver hR (v := s_p S) (by omega)
    have hbe : s_pl S b f q = s_bp ((s_ver S (s_p S)).2.2.2.2 f) (nI q) := by
      cases b with
      | true =>
        have h0 : 0 < s_p S := of_decide_eq_true (by unfold s_lead at hl; rw [if_pos rfl] at hl; exact hl)
        show s_bp ((s_ver S (s_p S - 1 + 1)).2.2.2.2 f) (nI q) = _
        rw [show s_p S - 1 + 1 = s_p S by omega]
      | false => exact absurd hgt (Nat.not_succ_le_self _)
    refine jr_iconst (v := 0) hX rfl dX5_mapped_30 ?_
    refine jr_istore hX (by decide) rfl dX5_mapped_31 ?_
    have loop : ∀ (n9 : Nat) (i : Nat), 11 - i = n9 → i ≤ 11 → (∀ p, p < i → (s_ver S (s_p S)).2.2.2.2 f p ≠ nI q) → Jg p l e (jR 3 0 0) s m args below meth c (MQ below (jQ D A (fun w G1 => w = some (.int (s_pl S b f q)) ∧ G1 = G)) args s 0 0 A) D A 5 G 0 0 33 [(4, .int (nI i)), (0, .ref (ad 31 0 0)), (1, .int (nI f)), (2, .int (nI q)), (3, .int (nI (s_to S b)))] [] := by
      intro n9
      induction n9 using Nat.strongRecOn with
      | ind n9 ih0 =>
      intro i hn9 hil hall
      have ih : ∀ m9, m9 < n9 → ∀ (i : Nat), 11 - i = m9 → i ≤ 11 → (∀ p, p < i → (s_ver S (s_p S)).2.2.2.2 f p ≠ nI q) → Jg p l e (jR 3 0 0) s m args below meth c (MQ below (jQ D A (fun w G1 => w = some (.int (s_pl S b f q)) ∧ G1 = G)) args s 0 0 A) D A 5 G 0 0 33 [(4, .int (nI i)), (0, .ref (ad 31 0 0)), (1, .int (nI f)), (2, .int (nI q)), (3, .int (nI (s_to S b)))] [] := fun m9 hm => ih0 m9 hm
      refine jr_iload hX rfl dX5_mapped_33 ?_
      refine jr_bipush (v := 11) hX (by decide) dX5_mapped_35 ?_
      refine jr_icmp_ge hX (tgt := 78) (by decide) dX5_mapped_37 (fun c_37 => ?_) (fun c_37 => ?_)
      · refine jr_iconst (v := -1) hX rfl dX5_mapped_78 ?_
        exact jr_iret hX hlk hr ⟨by rw [hbe, sbp_no (fun p hp9 => hall p (by have h9 : ¬ i < 11 := fun z => absurd c_37 (nI_ge (b := 11) z (by omega)); omega))], rfl⟩ dX5_mapped_79
      · have hi11 : i < 11 := Nat.not_le.mp fun z => c_37 (nI_le (a := 11) z (by omega))
        refine jr_aload_n (i := 0) hX rfl rfl dX5_mapped_40 ?_
        refine jr_get (ci := 11) (k := 1) hX hxx rfl in_X5 (by decide) q1731 rfl dX5_mapped_41 ?_
        refine jr_aload_n (i := 0) hX rfl rfl dX5_mapped_44 ?_
        refine jr_get (ci := 11) (k := 3) hX hxx rfl in_X5 (by decide) q1733 rfl dX5_mapped_45 ?_
        refine jr_callV (As := [.int (nI (s_p S))]) (bc1 := (0)) (bs1 := (0)) hX (met_get l D s0 b0 A _ (ad 32 0 0) (s_rg (s_m S) (fun v => ad 37 v 0)) moV capV eaV hVL (s_p S) (ad 37 (s_p S) 0) (rg_at (by omega))) (cwV 1 hX.ts (lw_V q1712 q304 q2203 q68 q306) rfl rfl rfl (by decide +kernel) ⟨Nat.le_of_ble_eq_true rfl, Nat.le_of_ble_eq_true rfl⟩) hVL.1 rfl rfl (Nat.le_of_ble_eq_true rfl) (by first | omega | (dsimp only; omega) | (show _ ≤ _; simp only []; omega)) (by first | omega | (dsimp only; omega) | (show _ ≤ _; simp only []; omega)) rfl dX5_mapped_48 (fun v_48 G_48 hp_48 => ?_)
        obtain ⟨rfl, e9⟩ := hp_48
        rw [e9]
        refine jr_castS hX hVp rfl q1666 dX5_mapped_51 ?_
        refine jr_getN (ci := 12) (k := 6) hX hVp rfl in_X6 (by decide) q1695 rfl dX5_mapped_54 ?_
        refine jr_bipush (v := 11) hX (by decide) dX5_mapped_57 ?_
        refine jr_iload_n (i := 1) hX rfl rfl dX5_mapped_59 ?_
        refine jr_imul hX dX5_mapped_60 ?_
        rw [show (11 : Int32) * nI f = nI (11 * f) from nI_mul 11 f]
        refine jr_iload hX rfl dX5_mapped_61 ?_
        refine jr_iadd hX dX5_mapped_63 ?_
        rw [nI_add]
        refine jr_iald hX (mo_plc hR (v := s_p S) (by omega)) (vp_in_nI (by omega) (by omega)) dX5_mapped_64 ?_
        rw [nI_clamp (by omega), show (11 * f + i) / 11 = f by omega, show (11 * f + i) % 11 = i by omega]
        refine jr_iload_n (i := 2) hX rfl rfl dX5_mapped_65 ?_
        refine jr_icmp_ne hX (tgt := 72) (by decide) dX5_mapped_66 (fun c_66 => ?_) (fun c_66 => ?_)
        · refine jr_iinc (w := 1) hX rfl rfl (by decide) rfl dX5_mapped_72 ?_
          rw [show nI i + 1 = nI (i + 1) from nI_1 i]
          refine jr_goto hX (tgt := 33) (by decide) dX5_mapped_75 ?_
          refine jr_lvm [(4, .int (nI (i + 1))), (0, .ref (ad 31 0 0)), (1, .int (nI f)), (2, .int (nI q)), (3, .int (nI (s_to S b)))] rfl ?_
          exact ih _ (by omega) (i + 1) rfl (by omega) (fun p hp9 => by
            by_cases e : p = i
            · subst e; exact c_66
            · exact hall p (by omega))
        · refine jr_iload hX rfl dX5_mapped_69 ?_
          exact jr_iret hX hlk hr ⟨by rw [hbe, sbp_at hi11 c_66 hall], rfl⟩ dX5_mapped_71
    refine jr_lvm [(4, .int (nI 0)), (0, .ref (ad 31 0 0)), (1, .int (nI f)), (2, .int (nI q)), (3, .int (nI (s_to S b)))] rfl ?_
    exact loop _ 0 rfl (Nat.zero_le _) (fun p hp9 => absurd hp9 (Nat.not_lt_zero p))
  · have hgt : s_p S < s_to S b := Nat.not_le.mp fun z => c_5 (nI_le z (by omega))
    have hVt := mo_ver hR (v := s_to S b) (by omega)
    have hbe : s_pl S b f q = (s_ver S (s_to S b)).2.2.2.2 f q := by
      cases b with
      | true => unfold s_to at hgt; rw [if_pos rfl] at hgt; omega
      | false => rfl
    refine jr_aload_n (i := 0) hX rfl rfl dX5_mapped_8 ?_
    refine jr_get (ci := 11) (k := 1) hX hxx rfl in_X5 (by decide) q1731 rfl dX5_mapped_9 ?_
    refine jr_iload_n (i := 3) hX rfl rfl dX5_mapped_12 ?_
    refine jr_callV (As := [.int (nI (s_to S b))]) (bc1 := (0)) (bs1 := (0)) hX (met_get l D s0 b0 A _ (ad 32 0 0) (s_rg (s_m S) (fun v => ad 37 v 0)) moV capV eaV hVL (s_to S b) (ad 37 (s_to S b) 0) (rg_at (by omega))) (cwV 1 hX.ts (lw_V q1712 q304 q2203 q68 q306) rfl rfl rfl (by decide +kernel) ⟨Nat.le_of_ble_eq_true rfl, Nat.le_of_ble_eq_true rfl⟩) hVL.1 rfl rfl (Nat.le_of_ble_eq_true rfl) (by first | omega | (dsimp only; omega) | (show _ ≤ _; simp only []; omega)) (by first | omega | (dsimp only; omega) | (show _ ≤ _; simp only []; omega)) rfl dX5_mapped_13 (fun v_13 G_13 hp_13 => ?_)
    obtain ⟨rfl, e9⟩ := hp_13
    rw [e9]
    refine jr_castS hX hVt rfl q1666 dX5_mapped_16 ?_
    refine jr_getN (ci := 12) (k := 6) hX hVt rfl in_X6 (by decide) q1695 rfl dX5_mapped_19 ?_
    refine jr_bipush (v := 11) hX (by decide) dX5_mapped_22 ?_
    refine jr_iload_n (i := 1) hX rfl rfl dX5_mapped_24 ?_
    refine jr_imul hX dX5_mapped_25 ?_
    rw [show (11 : Int32) * nI f = nI (11 * f) from nI_mul 11 f]
    refine jr_iload_n (i := 2) hX rfl rfl dX5_mapped_26 ?_
    refine jr_iadd hX dX5_mapped_27 ?_
    rw [nI_add]
    refine jr_iald hX (mo_plc hR (v := s_to S b) (by omega)) (vp_in_nI (by omega) (by omega)) dX5_mapped_28 ?_
    rw [nI_clamp (by omega), show (11 * f + q) / 11 = f by omega, show (11 * f + q) % 11 = q by omega]
    exact jr_iret hX hlk hr ⟨by rw [hbe], rfl⟩ dX5_mapped_29

/-- what the model asks of a frame -/
def s_stn (S : sSt) (ch : sCh) (x : sFr) : Bool := !decide (ch.1 = 111) && (s_lead S ch.2.1 && s_std S ch x)
theorem stn_no {S : sSt} {ch : sCh} {x : sFr} (h : ch.1 = 111 ∨ s_lead S ch.2.1 = false ∨ s_met S ch x = false) : s_stn S ch x = false := by
  unfold s_stn s_std
  rcases h with h | h | h
  · rw [decide_eq_true h]; rfl
  · rw [h]; simp
  · rw [h]; simp
theorem stn_go {S : sSt} {ch : sCh} {x : sFr} (h1 : ch.1 ≠ 111) (h2 : s_lead S ch.2.1 = true) (h3 : s_met S ch x = true) : s_stn S ch x = (decide (ch.1 = 119) || decide (s_pl S ch.2.1 x.2.1 x.2.2.2.2 = -1)) := by
  unfold s_stn s_std
  rw [decide_eq_false h1, h2, h3]; rfl
theorem stn_agn {S : sSt} {ch : sCh} : s_ctP S (s_stn S ch) 3 = s_agn S ch := by
  have h0 : ∀ n, (∀ x, s_stn S ch x = false) → s_ctP S (s_stn S ch) n = 0 := fun n h => by
    induction n with
    | zero => rfl
    | succ n ih =>
      show s_ctP S (s_stn S ch) n + _ = 0
      rw [ih, List.countP_eq_zero.mpr (fun x _ => by rw [h]; simp)]
  unfold s_agn
  by_cases hc : ch.1 = 111 ∨ s_lead S ch.2.1 = false
  · rw [if_pos hc]
    exact h0 3 (fun x => stn_no (by rcases hc with z | z; exact Or.inl z; exact Or.inr (Or.inl z)))
  · rw [if_neg hc]
    have e : s_stn S ch = s_std S ch := by
      funext x
      unfold s_stn
      rw [decide_eq_false (fun z => hc (Or.inl z)), show s_lead S ch.2.1 = true by cases z : s_lead S ch.2.1 with | true => rfl | false => exact absurd (Or.inr z) hc]
      simp
    rw [e]

set_option maxHeartbeats 4000000 in
set_option maxRecDepth 100000 in
theorem mm_stands (l : Launch) (D : va_G) (s0 : State) (b0 : Nat) (A : Nat → Prop) (G : jG) (S : sSt) (th : Nat) (ad : jN) (T : jT) (hR : jMo D s0 b0 th S ad T G) (ci : Nat) (ch : sCh) (hch : (s_c S)[ci]? = some ch) (hi : sWi S) (hv : sWv S) (hp : s_p S < s_m S) (i j : Nat) (x : sFr) (hi3 : i < 3) (hx : (s_s S i).2[j]? = some x) (hs : sWs S) (hcm : ch.1 < 1000) : jM l yX5_standsAgainst (ws_ yX5_standsAgainst cX5_standsAgainst 4 (some .boolean)) (jR 5 0 0) D s0 b0 A G [.ref (ad 31 0 0), .ref (ad 38 i j), .ref (ad 48 ci 0)] (fun w G1 => w = some (.int (jbz (s_stn S ch x))) ∧ G1 = G) := by
  have hxx := mo_x hR
  have hC := mo_ch hR hch
  have hF := mo_fr hR hi3 hx
  have hfx := (hs i hi3).2.2 j x hx
  have hmm : s_m S = (s_v S).length - 1 := rfl
  have hvu := hv.2.1
  refine jM.of (by decide +kernel) (own := RX5) rfl (Nat.le_of_ble_eq_true rfl) ?_
  intro p e s m args below meth c hX hr hlk hnm
  refine jr_aload_n (i := 0) hX rfl rfl dX5_standsAgainst_0 ?_
  refine jr_aload_n (i := 2) hX rfl rfl dX5_standsAgainst_1 ?_
  refine jr_callV (As := [.ref (ad 48 ci 0)]) (bc1 := (0)) (bs1 := (0)) hX (mm_target l D s0 b0 A _ S th ad T hR ci ch hch hp (by omega)) (cwV 1 hX.ts (lw_V q1921 q1923 qs43 q78 q1924) rfl rfl rfl (by decide +kernel) ⟨Nat.le_of_ble_eq_true rfl, Nat.le_of_ble_eq_true rfl⟩) hxx rfl rfl (Nat.le_of_ble_eq_true rfl) (by first | omega | (dsimp only; omega) | (show _ ≤ _; simp only []; omega)) (by first | omega | (dsimp only; omega) | (show _ ≤ _; simp only []; omega)) rfl dX5_standsAgainst_2 (fun v_2 G_2 hp_2 => ?_)
  obtain ⟨rfl, e9⟩ := hp_2
  rw [e9]
  refine jr_istore_n (i := 3) hX rfl (by decide) rfl dX5_standsAgainst_5 ?_
  refine jr_aload_n (i := 2) hX rfl rfl dX5_standsAgainst_6 ?_
  refine jr_getN (ci := 17) (k := 1) hX hC rfl in_X18 (by decide) q2053 rfl dX5_standsAgainst_7 ?_
  refine jr_bipush (v := 111) hX (by decide) dX5_standsAgainst_10 ?_
  refine jr_icmp_eq hX (tgt := 50) (by decide) dX5_standsAgainst_12 (fun c_12 => ?_) (fun c_12 => ?_)
  · refine jr_iconst (v := 0) hX rfl dX5_standsAgainst_50 ?_
    exact jr_zret hX hlk hr (by decide) ⟨by rw [stn_no (Or.inl ((nI_eq (b := 111) (by omega) (by omega)).mp c_12))]; rfl, rfl⟩ dX5_standsAgainst_51
  · refine jr_iload_n (i := 3) hX rfl rfl dX5_standsAgainst_15 ?_
    refine jr_iconst (v := -1) hX rfl dX5_standsAgainst_16 ?_
    refine jr_icmp_eq hX (tgt := 50) (by decide) dX5_standsAgainst_17 (fun c_17 => ?_) (fun c_17 => ?_)
    · refine jr_iconst (v := 0) hX rfl dX5_standsAgainst_50 ?_
      exact jr_zret hX hlk hr (by decide) ⟨by rw [stn_no (Or.inr (Or.inl (by cases z : s_lead S ch.2.1 with | false => rfl | true => rw [if_pos z] at c_17; exact absurd c_17 (fun z9 => nI_pos (n := s_to S ch.2.1) (by obtain ⟨h8, h9⟩ := s_lt z hp; omega) (by rw [z9]; decide)))))]; rfl, rfl⟩ dX5_standsAgainst_51
    · have h111 : ch.1 ≠ 111 := fun z => c_12 (by rw [z]; rfl)
      have hl : s_lead S ch.2.1 = true := by cases z : s_lead S ch.2.1 with | true => rfl | false => exact absurd (by rw [z]; rfl) c_17
      obtain ⟨hlt1, hlt2⟩ := s_lt hl hp
      rw [if_pos hl]
      refine jr_aload_n (i := 1) hX rfl rfl dX5_standsAgainst_20 ?_
      refine jr_getN (ci := 15) (k := 0) hX hF rfl in_X14 (by decide) q1896 rfl dX5_standsAgainst_21 ?_
      refine jr_aload_n (i := 0) hX rfl rfl dX5_standsAgainst_24 ?_
      refine jr_get (ci := 11) (k := 3) hX hxx rfl in_X5 (by decide) q1733 rfl dX5_standsAgainst_25 ?_
      refine jr_icmp_ne hX (tgt := 50) (by decide) dX5_standsAgainst_28 (fun c_28 => ?_) (fun c_28 => ?_)
      · refine jr_iconst (v := 0) hX rfl dX5_standsAgainst_50 ?_
        exact jr_zret hX hlk hr (by decide) ⟨by rw [stn_no (Or.inr (Or.inr (by unfold s_met; rw [decide_eq_false (fun z => c_28 (by rw [z]))]; rfl)))]; rfl, rfl⟩ dX5_standsAgainst_51
      · refine jr_aload_n (i := 0) hX rfl rfl dX5_standsAgainst_31 ?_
        refine jr_aload_n (i := 0) hX rfl rfl dX5_standsAgainst_32 ?_
        refine jr_get (ci := 11) (k := 3) hX hxx rfl in_X5 (by decide) q1733 rfl dX5_standsAgainst_33 ?_
        refine jr_iload_n (i := 3) hX rfl rfl dX5_standsAgainst_36 ?_
        refine jr_callS (As := [.int (nI (s_p S)), .int (nI (s_to S ch.2.1))]) (bc1 := (0)) (bs1 := (0)) hX (met_min l D s0 b0 A _ (nI (s_p S)) (nI (s_to S ch.2.1))) (va_cwS 2 hX.ts (lw_S q1946 q262 q72 q263) rfl rfl rfl (by decide +kernel) ⟨Nat.le_of_ble_eq_true rfl, Nat.le_of_ble_eq_true rfl⟩) rfl (Nat.le_of_ble_eq_true rfl) (by first | omega | (dsimp only; omega) | (show _ ≤ _; simp only []; omega)) (by first | omega | (dsimp only; omega) | (show _ ≤ _; simp only []; omega)) rfl dX5_standsAgainst_37 (fun v_37 G_37 hp_37 => ?_)
        obtain ⟨rfl, e9⟩ := hp_37
        rw [e9]
        rw [s_mn hl (by omega)]
        refine jr_aload_n (i := 1) hX rfl rfl dX5_standsAgainst_40 ?_
        refine jr_getN (ci := 15) (k := 1) hX hF rfl in_X14 (by decide) q1898 rfl dX5_standsAgainst_41 ?_
        refine jr_callV (As := [.int (nI (s_lo S ch.2.1)), .int (nI x.2.1)]) (bc1 := (0)) (bs1 := (0)) hX (mm_touches l D s0 b0 A _ S th ad T hR hi hv (s_lo S ch.2.1) x.2.1 hlt1 hfx.2.1) (cwV 2 hX.ts (lw_V q1852 q1854 qs39 q78 q1855) rfl rfl rfl (by decide +kernel) ⟨Nat.le_of_ble_eq_true rfl, Nat.le_of_ble_eq_true rfl⟩) hxx rfl rfl (Nat.le_of_ble_eq_true rfl) (by first | omega | (dsimp only; omega) | (show _ ≤ _; simp only []; omega)) (by first | omega | (dsimp only; omega) | (show _ ≤ _; simp only []; omega)) rfl dX5_standsAgainst_44 (fun v_44 G_44 hp_44 => ?_)
        obtain ⟨rfl, e9⟩ := hp_44
        rw [e9]
        refine jr_if_ne hX (tgt := 52) (by decide) dX5_standsAgainst_47 (fun c_47 => ?_) (fun c_47 => ?_)
        · have hmt : s_met S ch x = true := by unfold s_met; rw [jbz_1 c_47, decide_eq_true ((nI_eq (by omega) (by omega)).mp c_28)]; rfl
          refine jr_aload_n (i := 2) hX rfl rfl dX5_standsAgainst_52 ?_
          refine jr_getN (ci := 17) (k := 1) hX hC rfl in_X18 (by decide) q2053 rfl dX5_standsAgainst_53 ?_
          refine jr_bipush (v := 119) hX (by decide) dX5_standsAgainst_56 ?_
          refine jr_icmp_eq hX (tgt := 78) (by decide) dX5_standsAgainst_58 (fun c_58 => ?_) (fun c_58 => ?_)
          · refine jr_iconst (v := 1) hX rfl dX5_standsAgainst_78 ?_
            refine jr_goto hX (tgt := 83) (by decide) dX5_standsAgainst_79 ?_
            exact jr_zret hX hlk hr (by decide) ⟨by rw [stn_go h111 hl hmt, decide_eq_true ((nI_eq (b := 119) (by omega) (by omega)).mp c_58)]; rfl, rfl⟩ dX5_standsAgainst_83
          · refine jr_aload_n (i := 0) hX rfl rfl dX5_standsAgainst_61 ?_
            refine jr_aload_n (i := 1) hX rfl rfl dX5_standsAgainst_62 ?_
            refine jr_getN (ci := 15) (k := 1) hX hF rfl in_X14 (by decide) q1898 rfl dX5_standsAgainst_63 ?_
            refine jr_aload_n (i := 1) hX rfl rfl dX5_standsAgainst_66 ?_
            refine jr_getN (ci := 15) (k := 2) hX hF rfl in_X14 (by decide) q1899 rfl dX5_standsAgainst_67 ?_
            refine jr_iload_n (i := 3) hX rfl rfl dX5_standsAgainst_70 ?_
            refine jr_callV (As := [.int (nI x.2.1), .int (nI x.2.2.2.2), .int (nI (s_to S ch.2.1))]) (bc1 := (0)) (bs1 := (0)) hX (mm_mapped l D s0 b0 A _ S th ad T hR hv hp ch.2.1 hl x.2.1 x.2.2.2.2 hfx.2.1 (by omega)) (cwV 3 hX.ts (lw_V q1947 q1949 qs47 q78 q1950) rfl rfl rfl (by decide +kernel) ⟨Nat.le_of_ble_eq_true rfl, Nat.le_of_ble_eq_true rfl⟩) hxx rfl rfl (Nat.le_of_ble_eq_true rfl) (by first | omega | (dsimp only; omega) | (show _ ≤ _; simp only []; omega)) (by first | omega | (dsimp only; omega) | (show _ ≤ _; simp only []; omega)) rfl dX5_standsAgainst_71 (fun v_71 G_71 hp_71 => ?_)
            obtain ⟨rfl, e9⟩ := hp_71
            rw [e9]
            refine jr_iconst (v := -1) hX rfl dX5_standsAgainst_74 ?_
            refine jr_icmp_ne hX (tgt := 82) (by decide) dX5_standsAgainst_75 (fun c_75 => ?_) (fun c_75 => ?_)
            · refine jr_iconst (v := 0) hX rfl dX5_standsAgainst_82 ?_
              exact jr_zret hX hlk hr (by decide) ⟨by rw [stn_go h111 hl hmt, decide_eq_false (fun z => c_58 (by rw [z]; rfl)), decide_eq_false c_75]; rfl, rfl⟩ dX5_standsAgainst_83
            · refine jr_iconst (v := 1) hX rfl dX5_standsAgainst_78 ?_
              refine jr_goto hX (tgt := 83) (by decide) dX5_standsAgainst_79 ?_
              exact jr_zret hX hlk hr (by decide) ⟨by rw [stn_go h111 hl hmt, decide_eq_true c_75, Bool.or_true]; rfl, rfl⟩ dX5_standsAgainst_83
        · refine jr_iconst (v := 0) hX rfl dX5_standsAgainst_50 ?_
          exact jr_zret hX hlk hr (by decide) ⟨by rw [stn_no (Or.inr (Or.inr (by unfold s_met; rw [jbz_0 c_47, Bool.and_false])))]; rfl, rfl⟩ dX5_standsAgainst_51
