/-! giveUp -/
theorem guI_due {S : sSt} {k ci : Nat} {ch : sCh} (h : (s_c (s_guI S k))[ci]? = some ch) : s_due S ci = decide (ch.2.2.2.1 ≤ s_n S) := by
  have h' : (s_dr (s_c S) (((s_q S).drop k).filter (s_due S)))[ci]? = some ch := h
  rw [dr_at] at h'
  cases hx : (s_c S)[ci]? with
  | none => rw [hx] at h'; cases h'
  | some c =>
    rw [hx] at h'
    have e := Option.some.inj h'
    rw [due_e hx, ← e]
    by_cases z : ci ∈ ((s_q S).drop k).filter (s_due S)
    · simp only [z, if_true]
    · simp only [z, if_false]
theorem guI_at {S : sSt} {k ci : Nat} (h : (s_q S)[k]? = some ci) : (s_q (s_guI S (k + 1)))[k]? = some ci := by
  have hk := lt_ofl h
  show ((s_q S).take (k + 1) ++ ((s_q S).drop (k + 1)).filter (fun ci => !s_due S ci))[k]? = some ci
  rw [List.getElem?_append_left (by rw [List.length_take]; omega), List.getElem?_take_of_lt (Nat.lt_succ_self k)]
  exact h
theorem any_dr {S : sSt} {k ci : Nat} (h : (s_q S)[k]? = some ci) : ((s_q S).drop k).any (s_due S) = (s_due S ci || ((s_q S).drop (k + 1)).any (s_due S)) := by
  have hk := lt_ofl h
  rw [List.drop_eq_getElem_cons hk, Option.some.inj ((List.getElem?_eq_getElem hk).symm.trans h)]
  rfl

theorem map_er {α β : Type} {f : α → β} {L : List α} {k : Nat} : (L.eraseIdx k).map f = (L.map f).eraseIdx k := by
  refine List.ext_getElem? fun i => ?_
  rw [List.getElem?_map, List.getElem?_eraseIdx, List.getElem?_eraseIdx]
  split <;> rw [List.getElem?_map]

set_option maxHeartbeats 4000000 in
set_option maxRecDepth 100000 in
theorem met_giveUp (l : Launch) (D : va_G) (s0 : State) (b0 : Nat) (A : Nat → Prop) (G : jG) (S : sSt) (ad : jN) (T : jT) (hR : jCo D s0 b0 S ad T G) (hW : sW S) (hn6 : s_n S < 1000000) (hql : (s_q S).length < 1000) : jM l yX1_giveUp (ws_ yX1_giveUp cX1_giveUp 4 none) (jR 14 ((29 + 207 * ((s_q S).length - (s_q (s_giveUp S)).length))) ((114 + 826 * ((s_q S).length - (s_q (s_giveUp S)).length)))) D s0 b0 A G [.ref (ad 1 0 0)] (fun w G1 => w = none ∧ ∃ (ad1 : jN) (T1 : jT), jCo D s0 b0 (s_giveUp S) ad1 T1 G1 ∧ jFm 1 30 T G T1 G1 ∧ ∀ k i j, k ≠ 17 → ad1 k i j = ad k i j) := by
  have hxx := co_x hR
  obtain ⟨moQ, capQ, eaQ, hQL, -, hQc, hQt⟩ := co_que hR
  refine jM.of (by decide +kernel) (own := RX1) rfl (Nat.le_of_ble_eq_true rfl) ?_
  intro p e s m args below meth c hX hr hlk hnm
  refine jr_iconst (v := 0) hX rfl dX1_giveUp_0 ?_
  refine jr_istore_n (i := 1) hX rfl (by decide) rfl dX1_giveUp_1 ?_
  refine jr_aload_n (i := 0) hX rfl rfl dX1_giveUp_2 ?_
  refine jr_get (ci := 2) (k := 4) hX hxx rfl in_X1 (by decide) q367 rfl dX1_giveUp_3 ?_
  refine jr_callF (As := []) (bc1 := ((29 + 207 * ((s_q S).length - (s_q (s_giveUp S)).length)))) (bs1 := ((114 + 826 * ((s_q S).length - (s_q (s_giveUp S)).length)))) hX (met_size l D s0 b0 A _ (ad 2 3 0) ((s_q S).map (fun v => ad 18 v 0)) moQ capQ eaQ hQL) (va_cwF 0 hX.ts (lw_F q405 q408 q410 q68 q412) rfl rfl rfl (hX.S.fw ⟨by decide +kernel, by decide +kernel⟩ q407 q406 q411 q409 q183) (by decide +kernel) ⟨Nat.le_of_ble_eq_true rfl, Nat.le_of_ble_eq_true rfl⟩) hQL.1 rfl rfl (Nat.le_of_ble_eq_true rfl) (by first | omega | (dsimp only; omega) | (show _ ≤ _; simp only []; omega)) (by first | omega | (dsimp only; omega) | (show _ ≤ _; simp only []; omega)) rfl dX1_giveUp_6 (fun v_6 G_6 hp_6 => ?_)
  obtain ⟨rfl, e9⟩ := hp_6
  rw [e9, List.length_map]
  refine jr_iconst (v := 1) hX rfl dX1_giveUp_11 ?_
  refine jr_isub hX dX1_giveUp_12 ?_
  refine jr_istore_n (i := 2) hX rfl (by decide) rfl dX1_giveUp_13 ?_
  have loop : ∀ k : Nat, ∀ (Gc : jG) (Tc : jT), k ≤ (s_q S).length → jCo D s0 b0 (s_guI S (k)) ad Tc Gc → jFm 1 30 T G Tc Gc → Jg p l e (jR 14 (29 + 207 * ((s_q S).length - (s_q (s_giveUp S)).length)) (114 + 826 * ((s_q S).length - (s_q (s_giveUp S)).length))) s m args below meth c (MQ below (jQ D A (fun w G1 => w = none ∧ ∃ (ad1 : jN) (T1 : jT), jCo D s0 b0 (s_giveUp S) ad1 T1 G1 ∧ jFm 1 30 T G T1 G1 ∧ ∀ k i j, k ≠ 17 → ad1 k i j = ad k i j)) args s (29 + 207 * ((s_q S).length - (s_q (s_giveUp S)).length)) (114 + 826 * ((s_q S).length - (s_q (s_giveUp S)).length)) A) D A 4 Gc (29 + 207 * ((s_q S).length - (s_q (s_giveUp S)).length)) (114 + 826 * ((s_q S).length - (s_q (s_giveUp S)).length)) 14 [(2, .int (nI (k) - 1)), (1, .int (jbz (((s_q S).drop (k)).any (s_due S)))), (0, .ref (ad 1 0 0))] [] := by
    intro k
    induction k with
    | zero =>
      intro Gc Tc hkl hRc hFc
      refine jr_iload_n (i := 2) hX rfl rfl dX1_giveUp_14 ?_
      refine jr_if_lt hX (tgt := 82) (by decide) dX1_giveUp_15 (fun c_15 => ?_) (fun c_15 => absurd (by decide) c_15)
      refine jr_iload_n (i := 1) hX rfl rfl dX1_giveUp_82 ?_
      refine jr_if_eq hX (tgt := 90) (by decide) dX1_giveUp_83 (fun c_83 => ?_) (fun c_83 => ?_)
      · rw [show s_giveUp S = s_guI S 0 from by unfold s_giveUp; rw [if_neg (by rw [← List.drop_zero (l := s_q S), jbz_0 c_83]; simp)]; exact (gvu_no (by rw [← List.drop_zero (l := s_q S)]; exact jbz_0 c_83)).symm]
        exact jr_vret hX hlk hr ⟨rfl, ad, Tc, hRc, hFc, fun _ _ _ _ => rfl⟩ dX1_giveUp_90
      · have hgu : s_giveUp S = s_look (s_guI S 0) := if_pos (by rw [← List.drop_zero (l := s_q S)]; exact jbz_1 c_83)
        have hgl : (s_q (s_giveUp S)).length = (s_q (s_look (s_guI S 0))).length := by rw [hgu]
        have hgm := guI_len (S := S) (k := 0)
        refine jr_aload_n (i := 0) hX rfl rfl dX1_giveUp_86 ?_
        refine jr_callV (As := []) (bc1 := (0)) (bs1 := (0)) hX (met_look l D s0 b0 A _ (s_guI S 0) ad Tc hRc (guI_W hW)) (cwV 0 hX.ts (lw_V q986 q988 qs9 q65 q989) rfl rfl rfl (by decide +kernel) ⟨Nat.le_of_ble_eq_true rfl, Nat.le_of_ble_eq_true rfl⟩) (co_x hRc) rfl rfl (Nat.le_of_ble_eq_true rfl) (by first | omega | (dsimp only; omega) | (show _ ≤ _; simp only []; omega)) (by first | omega | (dsimp only; omega) | (show _ ≤ _; simp only []; omega)) rfl dX1_giveUp_87 (fun v_87 G_87 hp_87 => ?_)
        obtain ⟨rfl, ad2, T2, h1, h2, h3⟩ := hp_87
        exact jr_vret hX hlk hr ⟨rfl, ad2, T2, by rw [hgu]; exact h1, hFc.trans h2, h3⟩ dX1_giveUp_90
    | succ k ih =>
      intro Gc Tc hkl hRc hFc
      rw [nI_pred k]
      refine jr_iload_n (i := 2) hX rfl rfl dX1_giveUp_14 ?_
      refine jr_if_lt hX (tgt := 82) (by decide) dX1_giveUp_15 (fun c_15 => absurd c_15 (nI_pos (by omega))) (fun c_15 => ?_)
      have hxx := co_x hRc
      obtain ⟨moQ, capQ, eaQ, hQL, -, -, -⟩ := co_que hRc
      have hW1 := guI_W (k := k + 1) hW
      obtain ⟨ci, hqs⟩ : ∃ ci, (s_q S)[k]? = some ci := ⟨_, List.getElem?_eq_getElem (by omega)⟩
      have hqk := guI_at hqs
      obtain ⟨ch, hch⟩ : ∃ ch, (s_c (s_guI S (k + 1)))[ci]? = some ch := ⟨_, List.getElem?_eq_getElem (hW1.2.2.2.2.2.1.2.1 ci (List.mem_of_getElem? hqk))⟩
      have hC := co_ch hRc hch
      have hwc := hW1.2.2.2.2.2.1.2.2 ci ch hch
      have hnn : s_n (s_guI S (k + 1)) = s_n S := rfl
      refine jr_aload_n (i := 0) hX rfl rfl dX1_giveUp_18 ?_
      refine jr_get (ci := 2) (k := 4) hX hxx rfl in_X1 (by decide) q367 rfl dX1_giveUp_19 ?_
      refine jr_iload_n (i := 2) hX rfl rfl dX1_giveUp_22 ?_
      refine jr_callF (As := [.int (nI k)]) (bc1 := (29 + 207 * ((s_q S).length - (s_q (s_giveUp S)).length))) (bs1 := (114 + 826 * ((s_q S).length - (s_q (s_giveUp S)).length))) hX (met_get l D s0 b0 A _ (ad 2 3 0) ((s_q (s_guI S (k + 1))).map (fun v => ad 18 v 0)) moQ capQ eaQ hQL k (ad 18 ci 0) (by rw [List.getElem?_map, hqk]; rfl)) (va_cwF 1 hX.ts (lw_F q299 q302 q304 q68 q306) rfl rfl rfl (hX.S.fw ⟨by decide +kernel, by decide +kernel⟩ q301 q300 q305 q303 q183) (by decide +kernel) ⟨Nat.le_of_ble_eq_true rfl, Nat.le_of_ble_eq_true rfl⟩) hQL.1 rfl rfl (Nat.le_of_ble_eq_true rfl) (by first | omega | (dsimp only; omega) | (show _ ≤ _; simp only []; omega)) (by first | omega | (dsimp only; omega) | (show _ ≤ _; simp only []; omega)) rfl dX1_giveUp_23 (fun v_23 G_23 hp_23 => ?_)
      obtain ⟨rfl, e9⟩ := hp_23
      rw [e9]
      refine jr_castS hX hC rfl q999 dX1_giveUp_28 ?_
      refine jr_getN (ci := 8) (k := 3) hX hC rfl in_X16 (by decide) q1227 rfl dX1_giveUp_31 ?_
      refine jr_aload_n (i := 0) hX rfl rfl dX1_giveUp_34 ?_
      refine jr_get (ci := 2) (k := 11) hX hxx rfl in_X1 (by decide) q374 rfl dX1_giveUp_35 ?_
      refine jr_lcmp hX dX1_giveUp_38 ?_
      refine jr_if_gt hX (tgt := 76) (by decide) dX1_giveUp_39 (fun c_39 => ?_) (fun c_39 => ?_)
      · have hnd : s_due S ci = false := by rw [guI_due hch]; exact decide_eq_false fun z => absurd ((lN_lt (by omega) (by omega)).mp ((lg_cmp_gt _ _).mp c_39)) (by omega)
        refine jr_iinc (w := -1) hX rfl rfl (by decide) rfl dX1_giveUp_76 ?_
        rw [show nI k + (-1) = nI k - 1 from (Int32.sub_eq_add_neg _ _).symm]
        refine jr_goto hX (tgt := 14) (by decide) dX1_giveUp_79 ?_
        rw [guI_no hqs hnd] at hRc
        rw [show ((s_q S).drop (k + 1)).any (s_due S) = ((s_q S).drop k).any (s_due S) from by rw [any_dr hqs, hnd]; rfl]
        refine jr_lvm [(2, .int (nI (k) - 1)), (1, .int (jbz (((s_q S).drop (k)).any (s_due S)))), (0, .ref (ad 1 0 0))] rfl ?_
        exact ih _ _ (by omega) hRc hFc
      · have hdue : s_due S ci = true := by rw [guI_due hch]; exact decide_eq_true (Nat.not_lt.mp fun z => c_39 ((lg_cmp_gt _ _).mpr ((lN_lt (by omega) (by omega)).mpr z)))
        refine jr_aload_n (i := 0) hX rfl rfl dX1_giveUp_42 ?_
        refine jr_get (ci := 2) (k := 4) hX hxx rfl in_X1 (by decide) q367 rfl dX1_giveUp_43 ?_
        refine jr_iload_n (i := 2) hX rfl rfl dX1_giveUp_46 ?_
        refine jr_callF (As := [.int (nI k)]) (bc1 := (29 + 207 * ((s_q S).length - (s_q (s_giveUp S)).length))) (bs1 := (114 + 826 * ((s_q S).length - (s_q (s_giveUp S)).length))) hX (met_get l D s0 b0 A _ (ad 2 3 0) ((s_q (s_guI S (k + 1))).map (fun v => ad 18 v 0)) moQ capQ eaQ hQL k (ad 18 ci 0) (by rw [List.getElem?_map, hqk]; rfl)) (va_cwF 1 hX.ts (lw_F q299 q302 q304 q68 q306) rfl rfl rfl (hX.S.fw ⟨by decide +kernel, by decide +kernel⟩ q301 q300 q305 q303 q183) (by decide +kernel) ⟨Nat.le_of_ble_eq_true rfl, Nat.le_of_ble_eq_true rfl⟩) hQL.1 rfl rfl (Nat.le_of_ble_eq_true rfl) (by first | omega | (dsimp only; omega) | (show _ ≤ _; simp only []; omega)) (by first | omega | (dsimp only; omega) | (show _ ≤ _; simp only []; omega)) rfl dX1_giveUp_47 (fun v_47 G_47 hp_47 => ?_)
        obtain ⟨rfl, e9⟩ := hp_47
        rw [e9]
        refine jr_castS hX hC rfl q999 dX1_giveUp_52 ?_
        refine jr_bipush (v := 100) hX (by decide) dX1_giveUp_55 ?_
        refine jr_putN (ci := 8) (k := 4) hX hC rfl in_X16 (by decide) tyX16 tyX16_ok nmX16 q1229 rfl (by first | rfl | assumption) (by first | rfl | assumption) (Nat.le_of_ble_eq_true rfl) dX1_giveUp_57 ?_
        have hR2 := co_wch hRc hch 100
        have hob := ob_q hR2 (sW_cwW (st := 100) hW1 hch (by decide)).2.2.2.2.2.1.2.1
        obtain ⟨moR, capR, eaR, hRL, -, hRcap, hRt⟩ := co_que hR2
        have hF2 := hFc.trans (jFm.pt (c := jo 8 [.int (nI ch.1), .int (jbz ch.2.1), .int (jbz ch.2.2.1), .long (lN ch.2.2.2.1), .int (nI 100)]) (co_t18 hRc hch) (by decide))
        refine jr_aload_n (i := 0) hX rfl rfl dX1_giveUp_60 ?_
        refine jr_get (ci := 2) (k := 4) hX (co_x hR2) rfl in_X1 (by decide) q367 rfl dX1_giveUp_61 ?_
        refine jr_iload_n (i := 2) hX rfl rfl dX1_giveUp_64 ?_
        refine jr_ee hX (fun hE0 => ?_)
        refine jr_callF (As := [.int (nI k)]) (bc1 := (29 + 207 * ((s_q S).length - (s_q (s_giveUp S)).length))) (bs1 := (114 + 826 * ((s_q S).length - (s_q (s_giveUp S)).length))) hX (met_remove l D s0 b0 A _ (ad 2 3 0) ((s_q (s_guI S (k + 1))).map (fun v => ad 18 v 0)) moR capR eaR hRL hob k (ad 18 ci 0) (by rw [List.getElem?_map, hqk]; rfl)) (va_cwF 1 hX.ts (lw_F q1061 q1064 q1066 q68 q1068) rfl rfl rfl (hX.S.fw ⟨by decide +kernel, by decide +kernel⟩ q1063 q1062 q1067 q1065 q183) (by decide +kernel) ⟨Nat.le_of_ble_eq_true rfl, Nat.le_of_ble_eq_true rfl⟩) hRL.1 rfl rfl (Nat.le_of_ble_eq_true rfl) (by first | omega | (dsimp only; omega) | (show _ ≤ _; simp only []; omega)) (by first | omega | (dsimp only; omega) | (show _ ≤ _; simp only []; omega)) rfl dX1_giveUp_65 (fun v_65 G_65 hp_65 => ?_)
        obtain ⟨rfl, hU⟩ := hp_65
        refine jr_ee hX (fun hE1 => ?_)
        rw [← map_er] at hU
        obtain ⟨T1, hR1, hfm⟩ := co_qls (qs := (s_q (s_guI S (k + 1))).eraseIdx k) hR2 hE1 hRL hRt hU hRcap
        have hfm1 := co_fm (by omega) hE0 hfm
        have hR3 : jCo D s0 b0 (s_guI S k) ad T1 G_65 := by rw [← guI_yes hqs hdue hch]; exact hR1
        have hC1 := hR3
        refine jr_castS hX (co_ch (S := sw_q (s_cw (s_guI S (k + 1)) ci ch 100) ((s_q (s_guI S (k + 1))).eraseIdx k)) hR1 (i := ci) (x := (ch.1, ch.2.1, ch.2.2.1, ch.2.2.2.1, 100)) (List.getElem?_set_self (lt_ofl hch))) rfl q999 dX1_giveUp_70 ?_
        refine jr_astore_n (i := 3) hX rfl (by decide) rfl dX1_giveUp_73 ?_
        refine jr_iconst (v := 1) hX rfl dX1_giveUp_74 ?_
        rw [show (1 : Int32) = jbz (((s_q S).drop k).any (s_due S)) from by rw [any_dr hqs, hdue]; rfl]
        refine jr_istore_n (i := 1) hX rfl (by decide) rfl dX1_giveUp_75 ?_
        refine jr_iinc (w := -1) hX rfl rfl (by decide) rfl dX1_giveUp_76 ?_
        rw [show nI k + (-1) = nI k - 1 from (Int32.sub_eq_add_neg _ _).symm]
        refine jr_goto hX (tgt := 14) (by decide) dX1_giveUp_79 ?_
        refine jr_lvm [(2, .int (nI (k) - 1)), (1, .int (jbz (((s_q S).drop (k)).any (s_due S)))), (0, .ref (ad 1 0 0))] rfl ?_
        exact ih _ _ (by omega) hR3 (hF2.trans hfm1)
  rw [show (0 : Int32) = jbz (((s_q S).drop (s_q S).length).any (s_due S)) from by rw [List.drop_length]; rfl]
  refine jr_lvm [(2, .int (nI ((s_q S).length) - 1)), (1, .int (jbz (((s_q S).drop ((s_q S).length)).any (s_due S)))), (0, .ref (ad 1 0 0))] rfl ?_
  exact loop _ G T (Nat.le_refl _) (by rw [guI_n]; exact hR) jFm.refl
