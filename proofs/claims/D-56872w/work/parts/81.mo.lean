/-! the model's puts -/
set_option maxHeartbeats 4000000 in
set_option maxRecDepth 100000 in
theorem mm_putOut (l : Launch) (D : va_G) (s0 : State) (b0 : Nat) (A : Nat → Prop) (G : jG) (S : sSt) (th : Nat) (ad : jN) (T : jT) (hR : jMo D s0 b0 th S ad T G) (hW : ∀ q ∈ s_q S, q < (s_c S).length) (hcl : (s_c S).length < 100) (hql : (s_q S).length < 100) (hpp : s_p S < 100) (i j : Nat) (x : sFr) (hi3 : i < 3) (hx : (s_s S i).2[j]? = some x) (hx1 : x.1 < 100) (hu2 : ∀ v, v < (s_u S).length → ((s_u S).getD v (0, 0)).2 + 128 < 256) (amt : Int32) (hk13 : s_k S < 13000) (g mc ms : Nat) (hg : (s_u S).length = s_k S → jgw (s_k S) (s_k S + 1) ≤ g) (hmc0 : 4 ≤ mc) (hms0 : 2 + 2 * g ≤ ms) (hmc : (s_asks S amt && decide (0 < s_p S)) = true → 7 ≤ mc) (hms : (s_asks S amt && decide (0 < s_p S)) = true → 2 + 2 * g + 306 ≤ ms) : jM l yX5_puts (ws_ yX5_puts cX5_puts 3 none) (jR 8 (mc) (ms)) D s0 b0 A G [.ref (ad 31 0 0), .ref (ad 38 i j), .int amt] (fun w G1 => w = none ∧ ∃ (ad1 : jN) (T1 : jT), jMo D s0 b0 th (s_out S x.1 amt) ad1 T1 G1 ∧ jFm 31 60 T G T1 G1 ∧ ∀ k i j, ¬ (k = 48 ∧ i = (s_c S).length ∧ j = 0) → ¬ (k = 49 ∧ i = (s_u S).length ∧ j = 0) → ad1 k i j = ad k i j) := by
  have hxx := mo_x hR
  refine jM.of (by decide +kernel) (own := RX5) rfl (Nat.le_of_ble_eq_true rfl) ?_
  intro p e s m args below meth c hX hr hlk hnm
  refine jr_aload_n (i := 0) hX rfl rfl dX5_puts_0 ?_
  refine jr_get (ci := 11) (k := 11) hX hxx rfl in_X5 (by decide) q1741 rfl dX5_puts_1 ?_
  refine jr_iload_n (i := 2) hX rfl rfl dX5_puts_4 ?_
  refine jr_callS (As := [.int amt]) (bc1 := (mc - 1)) (bs1 := (ms - 1)) hX (met_valueOf l D s0 b0 A _ amt) (va_cwS 1 hX.ts (lw_S q2022 q2023 q107 q2024) rfl rfl rfl (by decide +kernel) ⟨Nat.le_of_ble_eq_true rfl, Nat.le_of_ble_eq_true rfl⟩) rfl (Nat.le_of_ble_eq_true rfl) (by show mc - 1 + 1 ≤ mc; omega) (by show ms - 1 + 1 ≤ ms; omega) rfl dX5_puts_5 (fun v_5 G_5 hp_5 => ?_)
  obtain ⟨y, rfl, hy⟩ := hp_5
  obtain ⟨ad1, T1, hR1, hnw, hT1, hA1, hyb, hyn, hyo⟩ := mo_box hR hy (fun z => hX.ee z)
  obtain ⟨moU, capU, eaU, hUL, hUlo, hUc, hUt⟩ := mo_am hR1
  have hcu : capU = s_k S := by omega
  rw [show ad 32 5 0 = ad1 32 5 0 from (hA1 32 5 0 (by omega)).symm]
  refine jr_ee hX (fun hE0 => ?_)
  have hget : ∀ v, v < (s_u S).length → ((s_u S ++ [(amt, x.1)])).getD v (0, 0) = (s_u S).getD v (0, 0) := fun v hv => by rw [List.getD_eq_getElem?_getD, List.getD_eq_getElem?_getD, List.getElem?_append_left hv]
  have hgl : ((s_u S ++ [(amt, x.1)])).getD (s_u S).length (0, 0) = (amt, x.1) := by rw [List.getD_eq_getElem?_getD, List.getElem?_append_right (Nat.le_refl _), Nat.sub_self]; rfl
  have hfl : ((s_u S ++ [(amt, x.1)])).length = (s_u S).length + 1 := by rw [List.length_append]; rfl
  have hF1 : jFm 31 60 T G T1 G_5 := fun b hb _ => ⟨hT1 b hb, by
    cases w9 : G b with
    | none => exact absurd w9 hb
    | some z9 => exact hnw _ _ w9⟩
  refine jr_callV (As := [.ref y]) (bc1 := (mc - 2)) (bs1 := (ms - 1 - g)) hX (met_add l D s0 b0 A _ (ad1 32 5 0) (s_rg (s_u S).length (fun v => jbx s0 b0 ((s_u S).getD v (0, 0)).1 (ad1 49 v 0))) moU capU eaU hUL (fun z hz => by obtain ⟨q8, hq8, rfl⟩ := List.mem_map.mp hz; exact ob_bx hR1 (List.mem_range.mp hq8)) y hyo 1 g (by omega) (fun hz => ⟨by omega, by rw [rg_len] at hz; rw [hcu]; exact hg (by omega)⟩)) (cwV 1 hX.ts (lw_V q1711 q186 q2202 q68 q188) rfl rfl rfl (by decide +kernel) ⟨Nat.le_of_ble_eq_true rfl, Nat.le_of_ble_eq_true rfl⟩) hUL.1 rfl rfl (Nat.le_of_ble_eq_true rfl) (by show mc - 2 + 1 ≤ mc - 1; omega) (by show ms - 1 - g + g ≤ ms - 1; omega) rfl dX5_puts_8 (fun v_8 G_8 hp_8 => ?_)
  obtain ⟨rfl, hU⟩ := hp_8
  refine jr_ee hX (fun hE1 => ?_)
  rw [show s_rg (s_u S).length (fun v => jbx s0 b0 ((s_u S).getD v (0, 0)).1 (ad1 49 v 0)) ++ [y] = s_rg ((s_u S ++ [(amt, x.1)])).length (fun v => jbx s0 b0 (((s_u S ++ [(amt, x.1)])).getD v (0, 0)).1 (ad1 49 v 0)) by
    have h9 := rg_ap (n := (s_u S).length) (f := fun v => jbx s0 b0 ((s_u S).getD v (0, 0)).1 (ad1 49 v 0)) (g := fun v => jbx s0 b0 (((s_u S ++ [(amt, x.1)])).getD v (0, 0)).1 (ad1 49 v 0)) (fun v hv => by rw [hget v hv])
    rw [hfl, ← h9, hgl, ← hyb], rg_len, hcu] at hU
  obtain ⟨T2, h5, hfm2⟩ := mo_u5 (cap1 := s_gr S) hR1 hE1 hUL hUt hU (fun j9 x9 hx9 => by
    by_cases hj : j9 < (s_u S).length
    · rw [List.getElem?_append_left hj] at hx9; exact Or.inl hx9
    · have hjl := lt_ofl hx9
      rw [hfl] at hjl
      have ej : j9 = (s_u S).length := by omega
      subst ej
      rw [List.getElem?_append_right (Nat.le_refl _), Nat.sub_self] at hx9
      have ex := Option.some.inj hx9
      subst ex
      exact Or.inr hyn)
  have hF2 := hF1.trans (mo_fm (by omega) hE0 hfm2)
  have hxx5 : G_8 (ad1 31 0 0) = some (jo 11 [.int (nI th), .ref (ad1 32 0 0), .ref (ad1 37 (s_m S) 0), .int (nI (s_p S)), .ref (ad1 32 1 0), .ref (ad1 32 2 0), .ref (ad1 34 0 0), .ref (ad1 32 3 0), .ref (ad1 32 4 0), .int (jbz (s_w S)), .int (s_l S), .ref (ad1 32 5 0), .ref (ad1 32 6 0), .long (lN (s_n S))]) := h5.c (k := 31) (i := 0) (j := 0) ((sh5_n (by omega)).trans rfl)
  have hFr5 : G_8 (ad1 38 i j) = some (jo 15 [.int (nI x.1), .int (nI x.2.1), .int (nI x.2.2.2.2), .ref (ad1 39 i j), .int (nI x.2.2.1)]) := h5.c (k := 38) (i := i) (j := j) ((sh5_n (by omega)).trans (by
    show (if i < 3 then Option.map _ ((s_s S i).2[j]?) else none) = _
    rw [if_pos hi3, hx]; rfl))
  rw [hA1 31 0 0 (by omega)] at hxx5
  rw [hA1 38 i j (by omega)] at hFr5
  obtain ⟨moV, capV, eaV, hVL, hVlo, hVc, hVt⟩ := h5.l (k := 32) (i := 6) (j := 0) (if_pos ⟨rfl, rfl, rfl⟩)
  have hcv : capV = s_k S := by omega
  refine jr_pop hX rfl dX5_puts_11 ?_
  refine jr_aload_n (i := 0) hX rfl rfl dX5_puts_12 ?_
  refine jr_get (ci := 11) (k := 12) hX hxx5 rfl in_X5 (by decide) q1742 rfl dX5_puts_13 ?_
  refine jr_aload_n (i := 1) hX rfl rfl dX5_puts_16 ?_
  refine jr_getN (ci := 15) (k := 0) hX hFr5 rfl in_X14 (by decide) q1896 rfl dX5_puts_17 ?_
  refine jr_callS (As := [.int (nI x.1)]) (bc1 := (mc - 3)) (bs1 := (ms - 2 - g)) hX (met_valueOf l D s0 b0 A _ (nI x.1)) (va_cwS 1 hX.ts (lw_S q2022 q2023 q107 q2024) rfl rfl rfl (by decide +kernel) ⟨Nat.le_of_ble_eq_true rfl, Nat.le_of_ble_eq_true rfl⟩) rfl (Nat.le_of_ble_eq_true rfl) (by show mc - 3 + 1 ≤ mc - 2; omega) (by show ms - 2 - g + 1 ≤ ms - 1 - g; omega) rfl dX5_puts_20 (fun v_20 G_20 hp_20 => ?_)
  obtain ⟨y2, rfl, hy2⟩ := hp_20
  have hin2 : (-128 : Int32) ≤ nI x.1 ∧ nI x.1 ≤ 127 := ⟨Int32.le_trans (by decide : (-128 : Int32) ≤ 0) (nI_pos' (by omega)), nI_le (a := x.1) (b := 127) (by omega) (by omega)⟩
  obtain ⟨-, ey, ey2, e9⟩ := hy2.resolve_right (fun z => z.1 hin2)
  rw [e9]
  rw [show nI x.1 + 128 = nI (x.1 + 128) from nI_add x.1 128, nI_clamp (by omega)] at ey
  refine jr_callV (As := [.ref y2]) (bc1 := (mc - 4)) (bs1 := (ms - 2 - 2 * g)) hX (met_add l D s0 b0 A _ (ad1 32 6 0) (s_rg (s_u S).length (fun v => jAI s0 b0 (((s_u S).getD v (0, 0)).2 + 128))) moV capV eaV hVL (fun z hz => by obtain ⟨q8, hq8, rfl⟩ := List.mem_map.mp hz; exact Or.inr (Or.inr ⟨_, hu2 q8 (List.mem_range.mp hq8), rfl⟩)) y2 (Or.inr (Or.inr ⟨x.1 + 128, by omega, ey⟩)) 1 g (by omega) (fun hz => ⟨by omega, by rw [rg_len] at hz; rw [hcv]; exact hg (by omega)⟩)) (cwV 1 hX.ts (lw_V q1711 q186 q2202 q68 q188) rfl rfl rfl (by decide +kernel) ⟨Nat.le_of_ble_eq_true rfl, Nat.le_of_ble_eq_true rfl⟩) hVL.1 rfl rfl (Nat.le_of_ble_eq_true rfl) (by show mc - 4 + 1 ≤ mc - 3; omega) (by show ms - 2 - 2 * g + g ≤ ms - 2 - g; omega) rfl dX5_puts_23 (fun v_23 G_23 hp_23 => ?_)
  obtain ⟨rfl, hU2⟩ := hp_23
  refine jr_ee hX (fun hE2 => ?_)
  rw [show s_rg (s_u S).length (fun v => jAI s0 b0 (((s_u S).getD v (0, 0)).2 + 128)) ++ [y2] = s_rg ((s_u S ++ [(amt, x.1)])).length (fun v => jAI s0 b0 ((((s_u S ++ [(amt, x.1)])).getD v (0, 0)).2 + 128)) by
    have h9 := rg_ap (n := (s_u S).length) (f := fun v => jAI s0 b0 (((s_u S).getD v (0, 0)).2 + 128)) (g := fun v => jAI s0 b0 ((((s_u S ++ [(amt, x.1)])).getD v (0, 0)).2 + 128)) (fun v hv => by rw [hget v hv])
    rw [hfl, ← h9, hgl, ey], rg_len, hcv] at hU2
  obtain ⟨T3, hR3, hfm3⟩ := mo_u6 (cap1 := s_gr S) h5 hE2 hVL hVt hU2
  have hF3 := hF2.trans (mo_fm (by omega) hE1 hfm3)
  have hxx3 := mo_x hR3
  rw [hA1 31 0 0 (by omega)] at hxx3
  have hRw := mo_ww hR3 false
  rw [hA1 31 0 0 (by omega)] at hRw
  refine jr_pop hX rfl dX5_puts_26 ?_
  refine jr_aload_n (i := 0) hX rfl rfl dX5_puts_27 ?_
  refine jr_get (ci := 11) (k := 9) hX hxx3 rfl in_X5 (by decide) q1739 rfl dX5_puts_28 ?_
  refine jr_if_eq hX (tgt := 72) (by decide) dX5_puts_31 (fun c_31 => ?_) (fun c_31 => ?_)
  · exact jr_vret hX hlk hr ⟨rfl, ad1, T3, by unfold s_out; rw [if_neg (by unfold s_asks; rw [jbz_0 c_31]; simp)]; exact hR3, hF3, fun k9 i9 j9 hk1 hk2 => hA1 k9 i9 j9 hk2⟩ dX5_puts_72
  · refine jr_iload_n (i := 2) hX rfl rfl dX5_puts_34 ?_
    refine jr_aload_n (i := 0) hX rfl rfl dX5_puts_35 ?_
    refine jr_get (ci := 11) (k := 10) hX hxx3 rfl in_X5 (by decide) q1740 rfl dX5_puts_36 ?_
    refine jr_icmp_le hX (tgt := 72) (by decide) dX5_puts_39 (fun c_39 => ?_) (fun c_39 => ?_)
    · exact jr_vret hX hlk hr ⟨rfl, ad1, T3, by unfold s_out; rw [if_neg (by unfold s_asks; rw [jbz_1 c_31, Bool.true_and, decide_eq_false (Int32.not_lt.mpr c_39)]; simp)]; exact hR3, hF3, fun k9 i9 j9 hk1 hk2 => hA1 k9 i9 j9 hk2⟩ dX5_puts_72
    · have hask : s_asks S amt = true := by unfold s_asks; rw [jbz_1 c_31, Bool.true_and]; exact decide_eq_true (Int32.not_le.mp c_39)
      refine jr_aload_n (i := 0) hX rfl rfl dX5_puts_42 ?_
      refine jr_iconst (v := 0) hX rfl dX5_puts_43 ?_
      refine jr_put (ci := 11) (k := 9) hX hxx3 rfl in_X5 (by decide) tyX5 tyX5_ok nmX5 q1739 rfl (by first | rfl | assumption) (by first | rfl | assumption) (Nat.le_of_ble_eq_true rfl) dX5_puts_44 ?_
      have hxw := mo_x hRw
      rw [hA1 31 0 0 (by omega)] at hxw
      refine jr_aload_n (i := 0) hX rfl rfl dX5_puts_47 ?_
      refine jr_get (ci := 11) (k := 3) hX hxw rfl in_X5 (by decide) q1733 rfl dX5_puts_48 ?_
      refine jr_if_le hX (tgt := 72) (by decide) dX5_puts_51 (fun c_51 => ?_) (fun c_51 => ?_)
      · have hp0 : ¬ 0 < s_p S := fun z => absurd c_51 (nI_nle (n := s_p S) z (by omega))
        exact jr_vret hX hlk hr ⟨rfl, ad1, T3, by unfold s_out; rw [if_pos hask, if_neg hp0]; exact hRw, hF3.trans (jFm.pt (k := 31) (i := 0) (j := 0) (by rw [← hA1 31 0 0 (by omega)]; exact mo_t31 hR3) (by decide)), fun k9 i9 j9 hk1 hk2 => hA1 k9 i9 j9 hk2⟩ dX5_puts_72
      · have hp0 : 0 < s_p S := Nat.pos_of_ne_zero fun z => c_51 (by rw [show s_p S = 0 from z]; decide)
        have hak : (s_asks S amt && decide (0 < s_p S)) = true := by rw [hask]; simp; exact hp0
        refine jr_aload_n (i := 0) hX rfl rfl dX5_puts_54 ?_
        refine jr_get (ci := 11) (k := 8) hX hxw rfl in_X5 (by decide) q1738 rfl dX5_puts_55 ?_
        refine jr_iconst (v := 0) hX rfl dX5_puts_58 ?_
        refine jr_aload_n (i := 0) hX rfl rfl dX5_puts_59 ?_
        refine jr_bipush (v := 111) hX (by decide) dX5_puts_60 ?_
        refine jr_iconst (v := 1) hX rfl dX5_puts_62 ?_
        refine jr_iconst (v := 0) hX rfl dX5_puts_63 ?_
        refine jr_bipush (v := 50) hX (by decide) dX5_puts_64 ?_
        have h8 := mm_asks l D s0 b0 A _ (sw_w (sw_u S (s_u S ++ [(amt, x.1)]) (s_gr S)) false) th ad1 T3 hRw hW hcl 111 true false 50 (by omega) (by omega)
        rw [hA1 31 0 0 (by omega)] at h8
        refine jr_callV (As := [.int (nI 111), .int (jbz true), .int (jbz false), .int (nI 50)]) (bc1 := (mc - 6)) (bs1 := (ms - 2 - 2 * g - 156)) hX (h8) (cwV 4 hX.ts (lw_V q2041 q2043 qs59 q78 q2044) rfl rfl rfl (by decide +kernel) ⟨Nat.le_of_ble_eq_true rfl, Nat.le_of_ble_eq_true rfl⟩) hxw rfl rfl (Nat.le_of_ble_eq_true rfl) (by show mc - 6 + 2 ≤ mc - 4; have := hmc hak; omega) (by show ms - 2 - 2 * g - 156 + 156 ≤ ms - 2 - 2 * g; have := hms hak; omega) rfl dX5_puts_66 (fun v_66 G_66 hp_66 => ?_)
        obtain ⟨ad2, T4, rfl, hR4, hF4, hA4⟩ := hp_66
        obtain ⟨moQ, capQ, eaQ, hQL, -, hQc, hQt⟩ := mo_que hR4
        have hob : ∀ q, q < (s_c S).length + 1 → jOb s0 b0 D G_66 (ad2 48 q 0) := fun q hq => ob_chM hR4 (v := q) (by show q < (s_c S ++ [_]).length; rw [List.length_append]; exact hq)
        rw [show ad1 32 4 0 = ad2 32 4 0 from (hA4 32 4 0 (by omega)).symm]
        refine jr_ee hX (fun hE4 => ?_)
        refine jr_callV (As := [.int (nI 0), .ref (ad2 48 (s_c S).length 0)]) (bc1 := (mc - 7)) (bs1 := (ms - 2 - 2 * g - 306)) hX (met_add3 l D s0 b0 A _ (ad2 32 4 0) ((s_q S).map (fun v => ad2 48 v 0)) moQ capQ eaQ hQL (fun z hz => by obtain ⟨q9, hq9, rfl⟩ := List.mem_map.mp hz; exact hob q9 (by have := hW q9 hq9; omega)) 0 (Nat.zero_le _) (ad2 48 (s_c S).length 0) (hob _ (Nat.lt_succ_self _)) 1 150 (by omega) (fun hz => ⟨by omega, by rw [List.length_map] at hz; have h9 := hQL.2.2.2; unfold jgw; split <;> omega⟩)) (cwV 2 hX.ts (lw_V q2075 q1247 q2210 q68 q1249) rfl rfl rfl (by decide +kernel) ⟨Nat.le_of_ble_eq_true rfl, Nat.le_of_ble_eq_true rfl⟩) hQL.1 rfl rfl (Nat.le_of_ble_eq_true rfl) (by show mc - 7 + 1 ≤ mc - 6; have := hmc hak; omega) (by show ms - 2 - 2 * g - 306 + 150 ≤ ms - 2 - 2 * g - 156; have := hms hak; omega) rfl dX5_puts_69 (fun v_69 G_69 hp_69 => ?_)
        obtain ⟨rfl, hU4⟩ := hp_69
        refine jr_ee hX (fun hE5 => ?_)
        have hmap : ((s_q S).map (fun v => ad2 48 v 0)).take 0 ++ ad2 48 (s_c S).length 0 :: ((s_q S).map (fun v => ad2 48 v 0)).drop 0 = ((s_q S).take 0 ++ (s_c S).length :: (s_q S).drop 0).map (fun v => ad2 48 v 0) := by
          rw [List.map_append, List.map_cons, List.map_take, List.map_drop]
        rw [hmap] at hU4
        have hcap2 : (if ((s_q S).map (fun v => ad2 48 v 0)).length = capQ then jgw capQ (capQ + 1) else capQ) ≤ 200 := by
          rw [List.length_map]
          have h9 := hQL.2.2.2
          split
          · unfold jgw; split <;> omega
          · exact hQc
        obtain ⟨T5, hR5, hfm5⟩ := mo_qls (qs := (s_q S).take 0 ++ (s_c S).length :: (s_q S).drop 0) hR4 hE5 hQL hQt hU4 hcap2
        exact jr_vret hX hlk hr ⟨rfl, ad2, T5, by unfold s_out; rw [if_pos hask, if_pos hp0]; exact hR5, ((hF3.trans (jFm.pt (k := 31) (i := 0) (j := 0) (by rw [← hA1 31 0 0 (by omega)]; exact mo_t31 hR3) (by decide))).trans hF4).trans (mo_fm (by omega) hE4 hfm5), fun k9 i9 j9 hk1 hk2 => (hA4 k9 i9 j9 hk1).trans (hA1 k9 i9 j9 hk2)⟩ dX5_puts_72
