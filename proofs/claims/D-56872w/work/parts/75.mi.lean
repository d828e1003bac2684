/-! the model's looks -/
set_option maxHeartbeats 4000000 in
set_option maxRecDepth 100000 in
theorem mm_looks (l : Launch) (D : va_G) (s0 : State) (b0 : Nat) (A : Nat → Prop) (G : jG) (S : sSt) (th : Nat) (ad : jN) (T : jT) (hR : jMo D s0 b0 th S ad T G) (hW : sW S) : jM l yX5_looks (ws_ yX5_looks cX5_looks 3 none) (jR 7 ((4 + 159 * ((s_q S).length - (s_q (s_look S)).length))) ((16 + 636 * ((s_q S).length - (s_q (s_look S)).length)))) D s0 b0 A G [.ref (ad 31 0 0)] (fun w G1 => w = none ∧ ∃ (ad1 : jN) (T1 : jT), jMo D s0 b0 th (s_look S) ad1 T1 G1 ∧ jFm 31 60 T G T1 G1 ∧ ∀ k i j, k ≠ 47 → ad1 k i j = ad k i j) := by
  refine jM.of (by decide +kernel) (own := RX5) rfl (Nat.le_of_ble_eq_true rfl) ?_
  intro p e s m args below meth c hX hr hlk hnm
  refine jr_iconst (v := 1) hX rfl dX5_looks_0 ?_
  refine jr_istore_n (i := 1) hX rfl (by decide) rfl dX5_looks_1 ?_
  have loop : ∀ (n9 : Nat) (Sc : sSt) (adc : jN) (Tc : jT) (Gc : jG), (s_q Sc).length = n9 → jMo D s0 b0 th Sc adc Tc Gc → (∀ k i j, k ≠ 47 → adc k i j = ad k i j) → jFm 31 60 T G Tc Gc → sW Sc → s_look Sc = s_look S → Jg p l e (jR 7 (4 + 159 * ((s_q S).length - (s_q (s_look S)).length)) (16 + 636 * ((s_q S).length - (s_q (s_look S)).length))) s m args below meth c (MQ below (jQ D A (fun w G1 => w = none ∧ ∃ (ad1 : jN) (T1 : jT), jMo D s0 b0 th (s_look S) ad1 T1 G1 ∧ jFm 31 60 T G T1 G1 ∧ ∀ k i j, k ≠ 47 → ad1 k i j = ad k i j)) args s (4 + 159 * ((s_q S).length - (s_q (s_look S)).length)) (16 + 636 * ((s_q S).length - (s_q (s_look S)).length)) A) D A 3 Gc (4 + 159 * ((s_q Sc).length - (s_q (s_look S)).length)) (16 + 636 * ((s_q Sc).length - (s_q (s_look S)).length)) 2 [(1, .int 1), (0, .ref (adc 31 0 0))] [] := by
    intro n9
    induction n9 using Nat.strongRecOn with
    | ind n9 ih0 =>
    intro Sc adc Tc Gc hn9 hRc hAd hFc hWc hlk9
    have ih : ∀ m9, m9 < n9 → ∀ (Sc : sSt) (adc : jN) (Tc : jT) (Gc : jG), (s_q Sc).length = m9 → jMo D s0 b0 th Sc adc Tc Gc → (∀ k i j, k ≠ 47 → adc k i j = ad k i j) → jFm 31 60 T G Tc Gc → sW Sc → s_look Sc = s_look S → Jg p l e (jR 7 (4 + 159 * ((s_q S).length - (s_q (s_look S)).length)) (16 + 636 * ((s_q S).length - (s_q (s_look S)).length))) s m args below meth c (MQ below (jQ D A (fun w G1 => w = none ∧ ∃ (ad1 : jN) (T1 : jT), jMo D s0 b0 th (s_look S) ad1 T1 G1 ∧ jFm 31 60 T G T1 G1 ∧ ∀ k i j, k ≠ 47 → ad1 k i j = ad k i j)) args s (4 + 159 * ((s_q S).length - (s_q (s_look S)).length)) (16 + 636 * ((s_q S).length - (s_q (s_look S)).length)) A) D A 3 Gc (4 + 159 * ((s_q Sc).length - (s_q (s_look S)).length)) (16 + 636 * ((s_q Sc).length - (s_q (s_look S)).length)) 2 [(1, .int 1), (0, .ref (adc 31 0 0))] [] := fun m9 hm => ih0 m9 hm
    have hxx := mo_x hRc
    obtain ⟨moQ, capQ, eaQ, hQL, -, hQc, hQt⟩ := mo_que hRc
    refine jr_iload_n (i := 1) hX rfl rfl dX5_looks_2 ?_
    refine jr_if_eq hX (tgt := 66) (by decide) dX5_looks_3 (fun c_3 => absurd c_3 (by decide)) (fun c_3 => ?_)
    refine jr_aload_n (i := 0) hX rfl rfl dX5_looks_6 ?_
    refine jr_get (ci := 11) (k := 8) hX hxx rfl in_X5 (by decide) q1738 rfl dX5_looks_7 ?_
    refine jr_callV (As := []) (bc1 := (4 + 159 * ((s_q Sc).length - (s_q (s_look S)).length))) (bs1 := (16 + 636 * ((s_q Sc).length - (s_q (s_look S)).length))) hX (met_isEmpty l D s0 b0 A _ (adc 32 4 0) ((s_q Sc).map (fun v => adc 48 v 0)) moQ capQ eaQ hQL) (cwV 0 hX.ts (lw_V q1919 q996 q2207 q68 q998) rfl rfl rfl (by decide +kernel) ⟨Nat.le_of_ble_eq_true rfl, Nat.le_of_ble_eq_true rfl⟩) hQL.1 rfl rfl (Nat.le_of_ble_eq_true rfl) (by first | omega | (dsimp only; omega) | (show _ ≤ _; simp only []; omega)) (by first | omega | (dsimp only; omega) | (show _ ≤ _; simp only []; omega)) rfl dX5_looks_10 (fun v_10 G_10 hp_10 => ?_)
    obtain ⟨rfl, e9⟩ := hp_10
    rw [e9]
    refine jr_if_ne hX (tgt := 66) (by decide) dX5_looks_13 (fun c_13 => ?_) (fun c_13 => ?_)
    · rw [show s_look S = Sc from by rw [← hlk9]; exact look_nil (List.map_eq_nil_iff.mp (of_decide_eq_true (jbz_1 c_13)))]
      exact jr_vret hX hlk hr ⟨rfl, adc, Tc, hRc, hFc, hAd⟩ dX5_looks_66
    · obtain ⟨ci, rq, hq⟩ : ∃ ci rq, s_q Sc = ci :: rq := by
        cases z : s_q Sc with
        | nil => exact absurd (by rw [z]; rfl) (of_decide_eq_false (jbz_0 c_13))
        | cons a b => exact ⟨a, b, rfl⟩
      obtain ⟨ch, hch⟩ : ∃ ch, (s_c Sc)[ci]? = some ch := ⟨_, List.getElem?_eq_getElem (hWc.2.2.2.2.2.1.2.1 ci (by rw [hq]; exact List.mem_cons_self))⟩
      have hC := mo_ch hRc hch
      have hcm := (hWc.2.2.2.2.2.1.2.2 ci ch hch).1
      have hql : (s_q Sc).length = rq.length + 1 := by rw [hq]; rfl
      have hmm : s_m Sc = (s_v Sc).length - 1 := rfl
      have hvu := hWc.2.1.2.1
      refine jr_aload_n (i := 0) hX rfl rfl dX5_looks_16 ?_
      refine jr_get (ci := 11) (k := 8) hX hxx rfl in_X5 (by decide) q1738 rfl dX5_looks_17 ?_
      refine jr_iconst (v := 0) hX rfl dX5_looks_20 ?_
      refine jr_callV (As := [.int (nI 0)]) (bc1 := (4 + 159 * ((s_q Sc).length - (s_q (s_look S)).length))) (bs1 := (16 + 636 * ((s_q Sc).length - (s_q (s_look S)).length))) hX (met_get l D s0 b0 A _ (adc 32 4 0) ((s_q Sc).map (fun v => adc 48 v 0)) moQ capQ eaQ hQL 0 (adc 48 ci 0) (by rw [hq]; rfl)) (cwV 1 hX.ts (lw_V q1712 q304 q2203 q68 q306) rfl rfl rfl (by decide +kernel) ⟨Nat.le_of_ble_eq_true rfl, Nat.le_of_ble_eq_true rfl⟩) hQL.1 rfl rfl (Nat.le_of_ble_eq_true rfl) (by first | omega | (dsimp only; omega) | (show _ ≤ _; simp only []; omega)) (by first | omega | (dsimp only; omega) | (show _ ≤ _; simp only []; omega)) rfl dX5_looks_21 (fun v_21 G_21 hp_21 => ?_)
      obtain ⟨rfl, e9⟩ := hp_21
      rw [e9]
      refine jr_castS hX hC rfl q1920 dX5_looks_24 ?_
      refine jr_astore_n (i := 2) hX rfl (by decide) rfl dX5_looks_27 ?_
      refine jr_aload_n (i := 0) hX rfl rfl dX5_looks_28 ?_
      refine jr_aload_n (i := 2) hX rfl rfl dX5_looks_29 ?_
      refine jr_callV (As := [.ref (adc 48 ci 0)]) (bc1 := (4 + 159 * ((s_q Sc).length - (s_q (s_look S)).length))) (bs1 := (16 + 636 * ((s_q Sc).length - (s_q (s_look S)).length))) hX (mm_target l D s0 b0 A _ Sc th adc Tc hRc ci ch hch hWc.2.2.2.2.1 (by omega)) (cwV 1 hX.ts (lw_V q1921 q1923 qs43 q78 q1924) rfl rfl rfl (by decide +kernel) ⟨Nat.le_of_ble_eq_true rfl, Nat.le_of_ble_eq_true rfl⟩) hxx rfl rfl (Nat.le_of_ble_eq_true rfl) (by first | omega | (dsimp only; omega) | (show _ ≤ _; simp only []; omega)) (by first | omega | (dsimp only; omega) | (show _ ≤ _; simp only []; omega)) rfl dX5_looks_30 (fun v_30 G_30 hp_30 => ?_)
      obtain ⟨rfl, e9⟩ := hp_30
      rw [e9]
      refine jr_iconst (v := -1) hX rfl dX5_looks_33 ?_
      refine jr_icmp_ne hX (tgt := 45) (by decide) dX5_looks_34 (fun c_34 => ?_) (fun c_34 => ?_)
      · have hlt : s_lead Sc ch.2.1 = true := by cases z : s_lead Sc ch.2.1 with | true => rfl | false => exact absurd (by rw [z]; rfl) c_34
        refine jr_aload_n (i := 0) hX rfl rfl dX5_looks_45 ?_
        refine jr_aload_n (i := 2) hX rfl rfl dX5_looks_46 ?_
        refine jr_callV (As := [.ref (adc 48 ci 0)]) (bc1 := (159 * ((s_q Sc).length - (s_q (s_look S)).length))) (bs1 := (636 * ((s_q Sc).length - (s_q (s_look S)).length))) hX (mm_against l D s0 b0 A _ Sc th adc Tc hRc ci ch hch hWc.1 hWc.2.1 hWc.2.2.2.2.1 hWc.2.2.1 hcm) (cwV 1 hX.ts (lw_V q1933 q1935 qs45 q78 q1936) rfl rfl rfl (by decide +kernel) ⟨Nat.le_of_ble_eq_true rfl, Nat.le_of_ble_eq_true rfl⟩) hxx rfl rfl (Nat.le_of_ble_eq_true rfl) (by first | omega | (dsimp only; omega) | (show _ ≤ _; simp only []; omega)) (by first | omega | (dsimp only; omega) | (show _ ≤ _; simp only []; omega)) rfl dX5_looks_47 (fun v_47 G_47 hp_47 => ?_)
        obtain ⟨rfl, e9t⟩ := hp_47
        have hRB := jRep.nw hRc e9t
        have hFA := hFc.trans (jNw.fm (T := Tc) (lo := 31) (hi := 60) e9t)
        refine jr_if_ne hX (tgt := 61) (by decide) dX5_looks_50 (fun c_50 => ?_) (fun c_50 => ?_)
        · refine jr_iconst (v := 0) hX rfl dX5_looks_61 ?_
          refine jr_istore_n (i := 1) hX rfl (by decide) rfl dX5_looks_62 ?_
          refine jr_goto hX (tgt := 2) (by decide) dX5_looks_63 ?_
          refine jr_iload_n (i := 1) hX rfl rfl dX5_looks_2 ?_
          refine jr_if_eq hX (tgt := 66) (by decide) dX5_looks_3 (fun c_3 => ?_) (fun c_3 => absurd rfl c_3)
          rw [show s_look S = Sc from by rw [← hlk9]; exact look_stop hq hch hlt (fun z => c_50 (by rw [z]; rfl))]
          exact jr_vret hX hlk hr ⟨rfl, adc, Tc, hRB, hFA, hAd⟩ dX5_looks_66
        · have hag : s_agn Sc ch = 0 := (nI_eq (b := 0) (by have := agn_le hWc.2.2.1 (ch := ch); omega) (by omega)).mp c_50
          have hgo : ¬ (s_lead Sc ch.2.1 = true ∧ s_agn Sc ch ≠ 0) := fun z => z.2 hag
          have hfr : s_lead (sw_q Sc rq) ch.2.1 = true → s_free (sw_q Sc rq) ch.2.1 ch.1 := fun _ => agn_free (S := Sc) hlt hag
          have hW1 := sW_q (r := rq) hWc (by rw [hq]; exact List.sublist_cons_self _ _)
          have hlg := look_go hq hch hgo
          have hll : (s_q (s_look S)).length ≤ rq.length := by
            rw [← hlk9, hlg]
            exact Nat.le_trans (look_len _) (by rw [endC_q]; exact Nat.le_refl _)
          refine jr_aload_n (i := 0) hX rfl rfl dX5_looks_53 ?_
          refine jr_aload_n (i := 2) hX rfl rfl dX5_looks_54 ?_
          refine jr_callV (As := [.ref (adc 48 ci 0)]) (bc1 := (4 + 159 * (rq.length - (s_q (s_look S)).length))) (bs1 := (16 + 636 * (rq.length - (s_q (s_look S)).length))) hX (mm_takesEffect l D s0 b0 A _ Sc th adc Tc hRB ci rq hq ch hch hWc.1 hWc.2.1 hWc.2.2.2.2.1 hlt hWc.2.2.1 hWc.2.2.2.1 hWc.2.2.2.2.2.1 (agn_free (S := Sc) hlt hag) hcm) (cwV 1 hX.ts (lw_V q1951 q1953 qs48 q78 q1954) rfl rfl rfl (by decide +kernel) ⟨Nat.le_of_ble_eq_true rfl, Nat.le_of_ble_eq_true rfl⟩) (mo_x hRB) rfl rfl (Nat.le_of_ble_eq_true rfl) (by first | omega | (dsimp only; omega) | (show _ ≤ _; simp only []; omega)) (by first | omega | (dsimp only; omega) | (show _ ≤ _; simp only []; omega)) rfl dX5_looks_55 (fun v_55 G_55 hp_55 => ?_)
          obtain ⟨rfl, ad2, T2, h1', h2, h3⟩ := hp_55
          have h1 : jMo D s0 b0 th (s_endC (sw_q Sc rq) ci ch) ad2 T2 G_55 := by
            rw [show s_endC (sw_q Sc rq) ci ch = s_tke (sw_q Sc rq) ci ch from if_pos hlt]
            exact h1'
          refine jr_goto hX (tgt := 63) (by decide) dX5_looks_58 ?_
          refine jr_goto hX (tgt := 2) (by decide) dX5_looks_63 ?_
          rw [show adc 31 0 0 = ad2 31 0 0 from (h3 31 0 0 (by decide)).symm]
          refine jr_lvm [(1, .int 1), (0, .ref (ad2 31 0 0))] rfl ?_
          have hq2 : s_q (s_endC (sw_q Sc rq) ci ch) = rq := endC_q
          have h9 := ih _ (by rw [← hn9, hq]; exact Nat.lt_succ_self _) (s_endC (sw_q Sc rq) ci ch) ad2 T2 _ (by rw [hq2]) h1 (fun k i j h => (h3 k i j h).trans (hAd k i j h)) (hFA.trans h2) (sW_endC hW1 hch hfr) (hlg.symm.trans hlk9)
          rw [hq2] at h9
          exact jr_wk (by omega) (by omega) h9
      · have hl0 : s_lead Sc ch.2.1 = false := by
          cases z : s_lead Sc ch.2.1 with
          | false => rfl
          | true =>
            rw [if_pos z] at c_34
            exact absurd c_34 (fun z9 => nI_pos (n := s_to Sc ch.2.1) (by obtain ⟨h8, h9⟩ := s_lt z hWc.2.2.2.2.1; omega) (by rw [z9]; decide))
        have hgo : ¬ (s_lead Sc ch.2.1 = true ∧ s_agn Sc ch ≠ 0) := fun z => by rw [hl0] at z; exact absurd z.1 (by simp)
        have hfr : s_lead (sw_q Sc rq) ch.2.1 = true → s_free (sw_q Sc rq) ch.2.1 ch.1 := fun z => by rw [show s_lead (sw_q Sc rq) ch.2.1 = s_lead Sc ch.2.1 from rfl, hl0] at z; cases z
        have hW1 := sW_q (r := rq) hWc (by rw [hq]; exact List.sublist_cons_self _ _)
        have hlg := look_go hq hch hgo
        have hll : (s_q (s_look S)).length ≤ rq.length := by
          rw [← hlk9, hlg]
          exact Nat.le_trans (look_len _) (by rw [endC_q]; exact Nat.le_refl _)
        refine jr_aload_n (i := 0) hX rfl rfl dX5_looks_37 ?_
        refine jr_aload_n (i := 2) hX rfl rfl dX5_looks_38 ?_
        refine jr_callV (As := [.ref (adc 48 ci 0)]) (bc1 := (4 + 159 * ((s_q Sc).length - (s_q (s_look S)).length))) (bs1 := (16 + 636 * ((s_q Sc).length - (s_q (s_look S)).length))) hX (mm_drops l D s0 b0 A _ Sc th adc Tc hRc ci ch hch hWc.2.2.2.2.2.1 0 (by rw [hq]; rfl)) (cwV 1 hX.ts (lw_V q1925 q1927 qs44 q78 q1928) rfl rfl rfl (by decide +kernel) ⟨Nat.le_of_ble_eq_true rfl, Nat.le_of_ble_eq_true rfl⟩) hxx rfl rfl (Nat.le_of_ble_eq_true rfl) (by first | omega | (dsimp only; omega) | (show _ ≤ _; simp only []; omega)) (by first | omega | (dsimp only; omega) | (show _ ≤ _; simp only []; omega)) rfl dX5_looks_39 (fun v_39 G_39 hp_39 => ?_)
        obtain ⟨rfl, T2, h1', h2⟩ := hp_39
        have h1 : jMo D s0 b0 th (s_endC (sw_q Sc rq) ci ch) adc T2 G_39 := by
          rw [show s_endC (sw_q Sc rq) ci ch = s_cw (sw_q Sc rq) ci ch 100 from if_neg (by rw [show s_lead (sw_q Sc rq) ch.2.1 = s_lead Sc ch.2.1 from rfl, hl0]; simp)]
          rw [hq] at h1'
          exact h1'
        refine jr_goto hX (tgt := 63) (by decide) dX5_looks_42 ?_
        refine jr_goto hX (tgt := 2) (by decide) dX5_looks_63 ?_
        have h3 : ∀ k i j, k ≠ 47 → adc k i j = adc k i j := fun _ _ _ _ => rfl
        rw [show adc 31 0 0 = adc 31 0 0 from (h3 31 0 0 (by decide)).symm]
        refine jr_lvm [(1, .int 1), (0, .ref (adc 31 0 0))] rfl ?_
        have hq2 : s_q (s_endC (sw_q Sc rq) ci ch) = rq := endC_q
        have h9 := ih _ (by rw [← hn9, hq]; exact Nat.lt_succ_self _) (s_endC (sw_q Sc rq) ci ch) adc T2 _ (by rw [hq2]) h1 (fun k i j h => (h3 k i j h).trans (hAd k i j h)) (hFc.trans h2) (sW_endC hW1 hch hfr) (hlg.symm.trans hlk9)
        rw [hq2] at h9
        exact jr_wk (by omega) (by omega) h9
  refine jr_lvm [(1, .int 1), (0, .ref (ad 31 0 0))] rfl ?_
  exact loop _ S ad T G rfl hR (fun _ _ _ _ => rfl) jFm.refl hW rfl
