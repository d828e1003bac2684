/-! look, giveUp -/
theorem ob_q {D : va_G} {s0 : State} {b0 : Nat} {S : sSt} {ad : jN} {T : jT} {G : jG} (h : jCo D s0 b0 S ad T G) (hW : ∀ q ∈ s_q S, q < (s_c S).length) : ∀ y ∈ (s_q S).map (fun v => ad 18 v 0), jOb s0 b0 D G y := fun y hy => by
  obtain ⟨v, hv, rfl⟩ := List.mem_map.mp hy
  exact ob_ch h (hW v hv)

theorem agn_le {S : sSt} (hs : sWs S) {ch : sCh} : s_agn S ch ≤ 24 := by
  unfold s_agn
  by_cases h : ch.1 = 111 ∨ s_lead S ch.2.1 = false
  · rw [if_pos h]; exact Nat.zero_le _
  · rw [if_neg h]
    show 0 + (s_s S 0).2.countP (s_std S ch) + (s_s S 1).2.countP (s_std S ch) + (s_s S 2).2.countP (s_std S ch) ≤ 24
    have h0 := (hs 0 (by omega)).2.1
    have h1 := (hs 1 (by omega)).2.1
    have h2 := (hs 2 (by omega)).2.1
    have g0 := List.countP_le_length (p := s_std S ch) (l := (s_s S 0).2)
    have g1 := List.countP_le_length (p := s_std S ch) (l := (s_s S 1).2)
    have g2 := List.countP_le_length (p := s_std S ch) (l := (s_s S 2).2)
    omega

set_option maxHeartbeats 4000000 in
set_option maxRecDepth 100000 in
theorem met_look (l : Launch) (D : va_G) (s0 : State) (b0 : Nat) (A : Nat → Prop) (G : jG) (S : sSt) (ad : jN) (T : jT) (hR : jCo D s0 b0 S ad T G) (hW : sW S) : jM l yX1_look (ws_ yX1_look cX1_look 4 none) (jR 13 ((29 + 207 * ((s_q S).length - (s_q (s_look S)).length))) ((114 + 826 * ((s_q S).length - (s_q (s_look S)).length)))) D s0 b0 A G [.ref (ad 1 0 0)] (fun w G1 => w = none ∧ ∃ (ad1 : jN) (T1 : jT), jCo D s0 b0 (s_look S) ad1 T1 G1 ∧ jFm 1 30 T G T1 G1 ∧ ∀ k i j, k ≠ 17 → ad1 k i j = ad k i j) := by
  refine jM.of (by decide +kernel) (own := RX1) rfl (Nat.le_of_ble_eq_true rfl) ?_
  intro p e s m args below meth c hX hr hlk hnm
  refine jr_iconst (v := 1) hX rfl dX1_look_0 ?_
  refine jr_istore_n (i := 1) hX rfl (by decide) rfl dX1_look_1 ?_
  have loop : ∀ (n9 : Nat) (Sc : sSt) (adc : jN) (Tc : jT) (Gc : jG), (s_q Sc).length = n9 → jCo D s0 b0 Sc adc Tc Gc → (∀ k i j, k ≠ 17 → adc k i j = ad k i j) → jFm 1 30 T G Tc Gc → sW Sc → s_look Sc = s_look S → Jg p l e (jR 13 (29 + 207 * ((s_q S).length - (s_q (s_look S)).length)) (114 + 826 * ((s_q S).length - (s_q (s_look S)).length))) s m args below meth c (MQ below (jQ D A (fun w G1 => w = none ∧ ∃ (ad1 : jN) (T1 : jT), jCo D s0 b0 (s_look S) ad1 T1 G1 ∧ jFm 1 30 T G T1 G1 ∧ ∀ k i j, k ≠ 17 → ad1 k i j = ad k i j)) args s (29 + 207 * ((s_q S).length - (s_q (s_look S)).length)) (114 + 826 * ((s_q S).length - (s_q (s_look S)).length)) A) D A 4 Gc (29 + 207 * ((s_q Sc).length - (s_q (s_look S)).length)) (114 + 826 * ((s_q Sc).length - (s_q (s_look S)).length)) 2 [(1, .int 1), (0, .ref (adc 1 0 0))] [] := by
    intro n9
    induction n9 using Nat.strongRecOn with
    | ind n9 ih0 =>
    intro Sc adc Tc Gc hn9 hRc hAd hFc hWc hlk9
    have ih : ∀ m9, m9 < n9 → ∀ (Sc : sSt) (adc : jN) (Tc : jT) (Gc : jG), (s_q Sc).length = m9 → jCo D s0 b0 Sc adc Tc Gc → (∀ k i j, k ≠ 17 → adc k i j = ad k i j) → jFm 1 30 T G Tc Gc → sW Sc → s_look Sc = s_look S → Jg p l e (jR 13 (29 + 207 * ((s_q S).length - (s_q (s_look S)).length)) (114 + 826 * ((s_q S).length - (s_q (s_look S)).length))) s m args below meth c (MQ below (jQ D A (fun w G1 => w = none ∧ ∃ (ad1 : jN) (T1 : jT), jCo D s0 b0 (s_look S) ad1 T1 G1 ∧ jFm 1 30 T G T1 G1 ∧ ∀ k i j, k ≠ 17 → ad1 k i j = ad k i j)) args s (29 + 207 * ((s_q S).length - (s_q (s_look S)).length)) (114 + 826 * ((s_q S).length - (s_q (s_look S)).length)) A) D A 4 Gc (29 + 207 * ((s_q Sc).length - (s_q (s_look S)).length)) (114 + 826 * ((s_q Sc).length - (s_q (s_look S)).length)) 2 [(1, .int 1), (0, .ref (adc 1 0 0))] [] := fun m9 hm => ih0 m9 hm
    have hxx := co_x hRc
    obtain ⟨moQ, capQ, eaQ, hQL, -, hQc, hQt⟩ := co_que hRc
    refine jr_iload_n (i := 1) hX rfl rfl dX1_look_2 ?_
    refine jr_if_eq hX (tgt := 80) (by decide) dX1_look_3 (fun c_3 => absurd c_3 (by decide)) (fun c_3 => ?_)
    refine jr_aload_n (i := 0) hX rfl rfl dX1_look_6 ?_
    refine jr_get (ci := 2) (k := 4) hX hxx rfl in_X1 (by decide) q367 rfl dX1_look_7 ?_
    refine jr_callF (As := []) (bc1 := (29 + 207 * ((s_q Sc).length - (s_q (s_look S)).length))) (bs1 := (114 + 826 * ((s_q Sc).length - (s_q (s_look S)).length))) hX (met_isEmpty l D s0 b0 A _ (adc 2 3 0) ((s_q Sc).map (fun v => adc 18 v 0)) moQ capQ eaQ hQL) (va_cwF 0 hX.ts (lw_F q991 q994 q996 q68 q998) rfl rfl rfl (hX.S.fw ⟨by decide +kernel, by decide +kernel⟩ q993 q992 q997 q995 q183) (by decide +kernel) ⟨Nat.le_of_ble_eq_true rfl, Nat.le_of_ble_eq_true rfl⟩) hQL.1 rfl rfl (Nat.le_of_ble_eq_true rfl) (by first | omega | (dsimp only; omega) | (show _ ≤ _; simp only []; omega)) (by first | omega | (dsimp only; omega) | (show _ ≤ _; simp only []; omega)) rfl dX1_look_10 (fun v_10 G_10 hp_10 => ?_)
    obtain ⟨rfl, e9⟩ := hp_10
    rw [e9]
    refine jr_if_ne hX (tgt := 80) (by decide) dX1_look_15 (fun c_15 => ?_) (fun c_15 => ?_)
    · rw [show s_look S = Sc from by rw [← hlk9]; exact look_nil (List.map_eq_nil_iff.mp (of_decide_eq_true (jbz_1 c_15)))]
      exact jr_vret hX hlk hr ⟨rfl, adc, Tc, hRc, hFc, hAd⟩ dX1_look_80
    · obtain ⟨ci, rq, hq⟩ : ∃ ci rq, s_q Sc = ci :: rq := by
        cases z : s_q Sc with
        | nil => exact absurd (by rw [z]; rfl) (of_decide_eq_false (jbz_0 c_15))
        | cons a b => exact ⟨a, b, rfl⟩
      obtain ⟨ch, hch⟩ : ∃ ch, (s_c Sc)[ci]? = some ch := ⟨_, List.getElem?_eq_getElem (hWc.2.2.2.2.2.1.2.1 ci (by rw [hq]; exact List.mem_cons_self))⟩
      have hC := co_ch hRc hch
      have hcm := (hWc.2.2.2.2.2.1.2.2 ci ch hch).1
      have hql : (s_q Sc).length = rq.length + 1 := by rw [hq]; rfl
      refine jr_aload_n (i := 0) hX rfl rfl dX1_look_18 ?_
      refine jr_get (ci := 2) (k := 4) hX hxx rfl in_X1 (by decide) q367 rfl dX1_look_19 ?_
      refine jr_iconst (v := 0) hX rfl dX1_look_22 ?_
      refine jr_callF (As := [.int (nI 0)]) (bc1 := (29 + 207 * ((s_q Sc).length - (s_q (s_look S)).length))) (bs1 := (114 + 826 * ((s_q Sc).length - (s_q (s_look S)).length))) hX (met_get l D s0 b0 A _ (adc 2 3 0) ((s_q Sc).map (fun v => adc 18 v 0)) moQ capQ eaQ hQL 0 (adc 18 ci 0) (by rw [hq]; rfl)) (va_cwF 1 hX.ts (lw_F q299 q302 q304 q68 q306) rfl rfl rfl (hX.S.fw ⟨by decide +kernel, by decide +kernel⟩ q301 q300 q305 q303 q183) (by decide +kernel) ⟨Nat.le_of_ble_eq_true rfl, Nat.le_of_ble_eq_true rfl⟩) hQL.1 rfl rfl (Nat.le_of_ble_eq_true rfl) (by first | omega | (dsimp only; omega) | (show _ ≤ _; simp only []; omega)) (by first | omega | (dsimp only; omega) | (show _ ≤ _; simp only []; omega)) rfl dX1_look_23 (fun v_23 G_23 hp_23 => ?_)
      obtain ⟨rfl, e9⟩ := hp_23
      rw [e9]
      refine jr_castS hX hC rfl q999 dX1_look_28 ?_
      refine jr_astore_n (i := 2) hX rfl (by decide) rfl dX1_look_31 ?_
      refine jr_aload_n (i := 0) hX rfl rfl dX1_look_32 ?_
      refine jr_aload_n (i := 2) hX rfl rfl dX1_look_33 ?_
      refine jr_callV (As := [.ref (adc 18 ci 0)]) (bc1 := (29 + 207 * ((s_q Sc).length - (s_q (s_look S)).length))) (bs1 := (114 + 826 * ((s_q Sc).length - (s_q (s_look S)).length))) hX (met_canLead l D s0 b0 A _ Sc adc Tc hRc ci ch hch hWc.1 hWc.2.1 hWc.2.2.2.2.1) (cwV 1 hX.ts (lw_V q1000 q1002 qs10 q65 q1003) rfl rfl rfl (by decide +kernel) ⟨Nat.le_of_ble_eq_true rfl, Nat.le_of_ble_eq_true rfl⟩) hxx rfl rfl (Nat.le_of_ble_eq_true rfl) (by first | omega | (dsimp only; omega) | (show _ ≤ _; simp only []; omega)) (by first | omega | (dsimp only; omega) | (show _ ≤ _; simp only []; omega)) rfl dX1_look_34 (fun v_34 G_34 hp_34 => ?_)
      obtain ⟨rfl, e9⟩ := hp_34
      rw [e9]
      refine jr_if_eq hX (tgt := 48) (by decide) dX1_look_37 (fun c_37 => ?_) (fun c_37 => ?_)
      · have hRB := hRc
        have hQL := hQL
        have hfr : s_lead (sw_q Sc rq) ch.2.1 = true → s_free (sw_q Sc rq) ch.2.1 ch.1 := fun z => by rw [show s_lead (sw_q Sc rq) ch.2.1 = s_lead Sc ch.2.1 from rfl, jbz_0 c_37] at z; cases z
        have hll : (s_q (s_look S)).length ≤ rq.length := by
          rw [← hlk9, look_go hq hch (fun z => by rw [jbz_0 c_37] at z; exact absurd z.1 (by simp))]
          exact Nat.le_trans (look_len _) (by rw [endC_q]; exact Nat.le_refl _)
        refine jr_iconst (v := 1) hX rfl dX1_look_48 ?_
        refine jr_goto hX (tgt := 53) (by decide) dX1_look_49 ?_
        refine jr_istore_n (i := 1) hX rfl (by decide) rfl dX1_look_53 ?_
        refine jr_iload_n (i := 1) hX rfl rfl dX1_look_54 ?_
        refine jr_if_eq hX (tgt := 77) (by decide) dX1_look_55 (fun c_55 => absurd c_55 (by decide)) (fun c_55 => ?_)
        refine jr_aload_n (i := 0) hX rfl rfl dX1_look_58 ?_
        refine jr_get (ci := 2) (k := 4) hX (co_x hRB) rfl in_X1 (by decide) q367 rfl dX1_look_59 ?_
        refine jr_iconst (v := 0) hX rfl dX1_look_62 ?_
        refine jr_ee hX (fun hE0 => ?_)
        refine jr_callF (As := [.int 0]) (bc1 := (29 + 207 * ((s_q Sc).length - (s_q (s_look S)).length))) (bs1 := (114 + 826 * ((s_q Sc).length - (s_q (s_look S)).length))) hX (met_remove l D s0 b0 A _ (adc 2 3 0) ((s_q Sc).map (fun v => adc 18 v 0)) moQ capQ eaQ hQL (ob_q hRB hWc.2.2.2.2.2.1.2.1) 0 (adc 18 ci 0) (by rw [hq]; rfl)) (va_cwF 1 hX.ts (lw_F q1061 q1064 q1066 q68 q1068) rfl rfl rfl (hX.S.fw ⟨by decide +kernel, by decide +kernel⟩ q1063 q1062 q1067 q1065 q183) (by decide +kernel) ⟨Nat.le_of_ble_eq_true rfl, Nat.le_of_ble_eq_true rfl⟩) hQL.1 rfl rfl (Nat.le_of_ble_eq_true rfl) (by first | omega | (dsimp only; omega) | (show _ ≤ _; simp only []; omega)) (by first | omega | (dsimp only; omega) | (show _ ≤ _; simp only []; omega)) rfl dX1_look_63 (fun v_63 G_63 hp_63 => ?_)
        obtain ⟨rfl, hU⟩ := hp_63
        refine jr_ee hX (fun hE1 => ?_)
        rw [hq, List.map_cons] at hU
        obtain ⟨T1, hR1, hfm⟩ := co_qls (qs := rq) hRB hE1 hQL hQt hU hQc
        have hfm1 := co_fm (by omega) hE0 hfm
        have hch1 : (s_c (sw_q Sc rq))[ci]? = some ch := hch
        have hW1 := sW_q (r := rq) hWc (by rw [hq]; exact List.sublist_cons_self _ _)
        have hC1 := co_ch hR1 hch1
        have hxx1 := co_x hR1
        have hgo : ¬ (s_lead Sc ch.2.1 = true ∧ s_agn Sc ch ≠ 0) := fun z => by rw [jbz_0 c_37] at z; exact absurd z.1 (by simp)
        have hlg := look_go hq hch hgo
        refine jr_castS hX hC1 rfl q999 dX1_look_68 ?_
        refine jr_astore_n (i := 3) hX rfl (by decide) rfl dX1_look_71 ?_
        refine jr_aload_n (i := 0) hX rfl rfl dX1_look_72 ?_
        refine jr_aload_n (i := 2) hX rfl rfl dX1_look_73 ?_
        refine jr_callV (As := [.ref (adc 18 ci 0)]) (bc1 := (29 + 207 * (rq.length - (s_q (s_look S)).length))) (bs1 := (114 + 826 * (rq.length - (s_q (s_look S)).length))) hX (met_endC l D s0 b0 A _ (sw_q Sc rq) adc T1 hR1 ci ch hch1 hW1.1 hW1.2.1 hW1.2.2.2.2.1 hW1.2.2.1 hW1.2.2.2.1 hfr hcm) (cwV 1 hX.ts (lw_V q1073 q1075 qs19 q65 q1076) rfl rfl rfl (by decide +kernel) ⟨Nat.le_of_ble_eq_true rfl, Nat.le_of_ble_eq_true rfl⟩) hxx1 rfl rfl (Nat.le_of_ble_eq_true rfl) (by first | omega | (dsimp only; omega) | (show _ ≤ _; simp only []; omega)) (by first | omega | (dsimp only; omega) | (show _ ≤ _; simp only []; omega)) rfl dX1_look_74 (fun v_74 G_74 hp_74 => ?_)
        obtain ⟨rfl, ad2, T2, h1, h2, h3⟩ := hp_74
        refine jr_goto hX (tgt := 2) (by decide) dX1_look_77 ?_
        rw [show adc 1 0 0 = ad2 1 0 0 from (h3 1 0 0 (by decide)).symm]
        refine jr_lvm [(1, .int 1), (0, .ref (ad2 1 0 0))] rfl ?_
        have hq2 : s_q (s_endC (sw_q Sc rq) ci ch) = rq := endC_q
        have h9 := ih _ (by rw [← hn9, hq]; exact Nat.lt_succ_self _) (s_endC (sw_q Sc rq) ci ch) ad2 T2 _ (by rw [hq2]) h1 (fun k i j h => (h3 k i j h).trans (hAd k i j h)) (hFc.trans (hfm1.trans h2)) (sW_endC hW1 hch1 hfr) (hlg.symm.trans hlk9)
        rw [hq2] at h9
        exact h9
      · refine jr_aload_n (i := 0) hX rfl rfl dX1_look_40 ?_
        refine jr_aload_n (i := 2) hX rfl rfl dX1_look_41 ?_
        refine jr_callV (As := [.ref (adc 18 ci 0)]) (bc1 := (207 * ((s_q Sc).length - (s_q (s_look S)).length))) (bs1 := (826 * ((s_q Sc).length - (s_q (s_look S)).length))) hX (met_countAgainst l D s0 b0 A _ Sc adc Tc hRc ci ch hch hWc.1 hWc.2.1 hWc.2.2.2.2.1 hWc.2.2.1 hcm) (cwV 1 hX.ts (lw_V q1008 q1010 qs11 q65 q1011) rfl rfl rfl (by decide +kernel) ⟨Nat.le_of_ble_eq_true rfl, Nat.le_of_ble_eq_true rfl⟩) hxx rfl rfl (Nat.le_of_ble_eq_true rfl) (by first | omega | (dsimp only; omega) | (show _ ≤ _; simp only []; omega)) (by first | omega | (dsimp only; omega) | (show _ ≤ _; simp only []; omega)) rfl dX1_look_42 (fun v_42 G_42 hp_42 => ?_)
        obtain ⟨rfl, e9t⟩ := hp_42
        have hFA := jNw.fm (T := Tc) (lo := 1) (hi := 30) e9t
        refine jr_if_ne hX (tgt := 52) (by decide) dX1_look_45 (fun c_45 => ?_) (fun c_45 => ?_)
        · refine jr_iconst (v := 0) hX rfl dX1_look_52 ?_
          refine jr_istore_n (i := 1) hX rfl (by decide) rfl dX1_look_53 ?_
          refine jr_iload_n (i := 1) hX rfl rfl dX1_look_54 ?_
          refine jr_if_eq hX (tgt := 77) (by decide) dX1_look_55 (fun c_55 => ?_) (fun c_55 => absurd rfl c_55)
          refine jr_goto hX (tgt := 2) (by decide) dX1_look_77 ?_
          refine jr_iload_n (i := 1) hX rfl rfl dX1_look_2 ?_
          refine jr_if_eq hX (tgt := 80) (by decide) dX1_look_3 (fun c_3 => ?_) (fun c_3 => absurd rfl c_3)
          rw [show s_look S = Sc from by rw [← hlk9]; exact look_stop hq hch (jbz_1 c_37) (fun z => c_45 (by rw [z]; rfl))]
          exact jr_vret hX hlk hr ⟨rfl, adc, Tc, jRep.nw hRc e9t, hFc.trans hFA, hAd⟩ dX1_look_80
        · have hag : s_agn Sc ch = 0 := (nI_eq (b := 0) (by have := agn_le hWc.2.2.1 (ch := ch); omega) (by omega)).mp c_45
          have hRB := jRep.nw hRc e9t
          obtain ⟨moQ, capQ, eaQ, hQL, -, hQc, hQt⟩ := co_que hRB
          have hfr : s_lead (sw_q Sc rq) ch.2.1 = true → s_free (sw_q Sc rq) ch.2.1 ch.1 := fun _ => agn_free (S := Sc) (jbz_1 c_37) hag
          have hll : (s_q (s_look S)).length ≤ rq.length := by
            rw [← hlk9, look_go hq hch (fun z => z.2 hag)]
            exact Nat.le_trans (look_len _) (by rw [endC_q]; exact Nat.le_refl _)
          refine jr_iconst (v := 1) hX rfl dX1_look_48 ?_
          refine jr_goto hX (tgt := 53) (by decide) dX1_look_49 ?_
          refine jr_istore_n (i := 1) hX rfl (by decide) rfl dX1_look_53 ?_
          refine jr_iload_n (i := 1) hX rfl rfl dX1_look_54 ?_
          refine jr_if_eq hX (tgt := 77) (by decide) dX1_look_55 (fun c_55 => absurd c_55 (by decide)) (fun c_55 => ?_)
          refine jr_aload_n (i := 0) hX rfl rfl dX1_look_58 ?_
          refine jr_get (ci := 2) (k := 4) hX (co_x hRB) rfl in_X1 (by decide) q367 rfl dX1_look_59 ?_
          refine jr_iconst (v := 0) hX rfl dX1_look_62 ?_
          refine jr_ee hX (fun hE0 => ?_)
          refine jr_callF (As := [.int 0]) (bc1 := (207 * ((s_q Sc).length - (s_q (s_look S)).length))) (bs1 := (826 * ((s_q Sc).length - (s_q (s_look S)).length))) hX (met_remove l D s0 b0 A _ (adc 2 3 0) ((s_q Sc).map (fun v => adc 18 v 0)) moQ capQ eaQ hQL (ob_q hRB hWc.2.2.2.2.2.1.2.1) 0 (adc 18 ci 0) (by rw [hq]; rfl)) (va_cwF 1 hX.ts (lw_F q1061 q1064 q1066 q68 q1068) rfl rfl rfl (hX.S.fw ⟨by decide +kernel, by decide +kernel⟩ q1063 q1062 q1067 q1065 q183) (by decide +kernel) ⟨Nat.le_of_ble_eq_true rfl, Nat.le_of_ble_eq_true rfl⟩) hQL.1 rfl rfl (Nat.le_of_ble_eq_true rfl) (by first | omega | (dsimp only; omega) | (show _ ≤ _; simp only []; omega)) (by first | omega | (dsimp only; omega) | (show _ ≤ _; simp only []; omega)) rfl dX1_look_63 (fun v_63 G_63 hp_63 => ?_)
          obtain ⟨rfl, hU⟩ := hp_63
          refine jr_ee hX (fun hE1 => ?_)
          rw [hq, List.map_cons] at hU
          obtain ⟨T1, hR1, hfm⟩ := co_qls (qs := rq) hRB hE1 hQL hQt hU hQc
          have hfm1 := co_fm (by omega) hE0 hfm
          have hch1 : (s_c (sw_q Sc rq))[ci]? = some ch := hch
          have hW1 := sW_q (r := rq) hWc (by rw [hq]; exact List.sublist_cons_self _ _)
          have hC1 := co_ch hR1 hch1
          have hxx1 := co_x hR1
          have hgo : ¬ (s_lead Sc ch.2.1 = true ∧ s_agn Sc ch ≠ 0) := fun z => z.2 hag
          have hlg := look_go hq hch hgo
          refine jr_castS hX hC1 rfl q999 dX1_look_68 ?_
          refine jr_astore_n (i := 3) hX rfl (by decide) rfl dX1_look_71 ?_
          refine jr_aload_n (i := 0) hX rfl rfl dX1_look_72 ?_
          refine jr_aload_n (i := 2) hX rfl rfl dX1_look_73 ?_
          refine jr_callV (As := [.ref (adc 18 ci 0)]) (bc1 := (29 + 207 * (rq.length - (s_q (s_look S)).length))) (bs1 := (114 + 826 * (rq.length - (s_q (s_look S)).length))) hX (met_endC l D s0 b0 A _ (sw_q Sc rq) adc T1 hR1 ci ch hch1 hW1.1 hW1.2.1 hW1.2.2.2.2.1 hW1.2.2.1 hW1.2.2.2.1 hfr hcm) (cwV 1 hX.ts (lw_V q1073 q1075 qs19 q65 q1076) rfl rfl rfl (by decide +kernel) ⟨Nat.le_of_ble_eq_true rfl, Nat.le_of_ble_eq_true rfl⟩) hxx1 rfl rfl (Nat.le_of_ble_eq_true rfl) (by first | omega | (dsimp only; omega) | (show _ ≤ _; simp only []; omega)) (by first | omega | (dsimp only; omega) | (show _ ≤ _; simp only []; omega)) rfl dX1_look_74 (fun v_74 G_74 hp_74 => ?_)
          obtain ⟨rfl, ad2, T2, h1, h2, h3⟩ := hp_74
          refine jr_goto hX (tgt := 2) (by decide) dX1_look_77 ?_
          rw [show adc 1 0 0 = ad2 1 0 0 from (h3 1 0 0 (by decide)).symm]
          refine jr_lvm [(1, .int 1), (0, .ref (ad2 1 0 0))] rfl ?_
          have hq2 : s_q (s_endC (sw_q Sc rq) ci ch) = rq := endC_q
          have h9 := ih _ (by rw [← hn9, hq]; exact Nat.lt_succ_self _) (s_endC (sw_q Sc rq) ci ch) ad2 T2 _ (by rw [hq2]) h1 (fun k i j h => (h3 k i j h).trans (hAd k i j h)) ((hFc.trans hFA).trans (hfm1.trans h2)) (sW_endC hW1 hch1 hfr) (hlg.symm.trans hlk9)
          rw [hq2] at h9
          exact h9
  refine jr_lvm [(1, .int 1), (0, .ref (ad 1 0 0))] rfl ?_
  exact loop _ S ad T G rfl hR (fun _ _ _ _ => rfl) jFm.refl hW rfl
