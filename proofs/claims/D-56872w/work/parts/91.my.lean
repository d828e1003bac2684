/-! the model's change -/
set_option maxHeartbeats 4000000 in
set_option maxRecDepth 100000 in
theorem mm_changeC (l : Launch) (D : va_G) (s0 : State) (b0 : Nat) (A : Nat → Prop) (G : jG) (S : sSt) (th : Nat) (ad : jN) (T : jT) (hR : jMo D s0 b0 th S ad T G) (hW : sW S) (md : Nat) (b o : Bool) (pat : Nat) (hmd : md = 119 ∨ md = 109 ∨ md = 111) (hp1 : 1 ≤ pat) (hp2 : pat ≤ 200) (hc30 : (s_c S).length < 30) (hn : s_n S < 900000) : jM l yX5_change (ws_ yX5_change cX5_change 7 (some .int)) (jR 16 ((7 + 159 * ((s_q S).length + 1 - (s_q (s_chg S md b o pat)).length))) ((322 + 636 * ((s_q S).length + 1 - (s_q (s_chg S md b o pat)).length)))) D s0 b0 A G [.ref (ad 31 0 0), .int (nI md), .int (jbz b), .int (jbz o), .int (nI pat)] (fun w G1 => w = some (.int (nI (s_c S).length)) ∧ ∃ (ad1 : jN) (T1 : jT), jMo D s0 b0 0 (s_chg S md b o pat) ad1 T1 G1 ∧ jFm 31 60 T G T1 G1 ∧ ∀ k i j, k < 38 → ad1 k i j = ad k i j) := by
  have hxx := mo_x hR
  have hR0 := mo_wth hR 0
  have hxx0 := mo_x hR0
  have hWc := hW.2.2.2.2.2.1
  have hqS := sW_ql hW
  have hWa : sW (s_ask S md b o pat (s_q S).length) := sW_ask hW (by omega) (by omega)
  have hin : (1 : Int32) ≤ nI pat ∧ nI pat ≤ 200 := ⟨nI_le (a := 1) hp1 (by omega), nI_le (b := 200) hp2 (by omega)⟩
  obtain ⟨moH, capH, eaH, hHL, -, hHc, hHt⟩ := mo_chs hR
  have hqa : (s_q (s_ask S md b o pat (s_q S).length)).length = (s_q S).length + 1 := by
    show ((s_q S).take (s_q S).length ++ (s_c S).length :: (s_q S).drop (s_q S).length).length = _
    rw [List.take_length, List.drop_length, List.length_append]; rfl
  have hqr : (s_q (s_look (s_ask S md b o pat (s_q S).length))).length = (s_q (s_chg S md b o pat)).length := rfl
  have hll := look_len (s_ask S md b o pat (s_q S).length)
  refine jM.of (by decide +kernel) (own := RX5) rfl (Nat.le_of_ble_eq_true rfl) ?_
  intro p e s m args below meth c hX hr hlk hnm
  rcases hmd with hmd9 | hmd9 | hmd9
  · rw [show nI md = nI 119 from by rw [hmd9]]
    refine jr_iload_n (i := 1) hX rfl rfl dX5_change_0 ?_
    refine jr_bipush (v := 119) hX (by decide) dX5_change_1 ?_
    refine jr_icmp_eq hX (tgt := 18) (by decide) dX5_change_3 (fun c_3 => ?_) (fun c_3 => absurd rfl c_3)
    refine jr_iload hX rfl dX5_change_18 ?_
    refine jr_iconst (v := 1) hX rfl dX5_change_20 ?_
    refine jr_sipush (v := 200) hX (by decide) dX5_change_21 ?_
    refine jr_callS (As := [.int (nI pat), .int 1, .int 200]) (bc1 := ((7 + 159 * ((s_q S).length + 1 - (s_q (s_chg S md b o pat)).length)))) (bs1 := ((322 + 636 * ((s_q S).length + 1 - (s_q (s_chg S md b o pat)).length)))) hX (mm_in l D s0 b0 A _ (nI pat) 1 200) (va_cwS 3 hX.ts (lw_S q1784 q1785 q78 q1786) rfl rfl rfl (by decide +kernel) ⟨Nat.le_of_ble_eq_true rfl, Nat.le_of_ble_eq_true rfl⟩) rfl (Nat.le_of_ble_eq_true rfl) (by first | omega | (dsimp only; omega) | (show _ ≤ _; simp only []; omega)) (by first | omega | (dsimp only; omega) | (show _ ≤ _; simp only []; omega)) rfl dX5_change_24 (fun v_24 G_24 hp_24 => ?_)
    obtain ⟨rfl, e9⟩ := hp_24
    rw [e9, decide_eq_true hin]
    refine jr_if_eq hX (tgt := 34) (by decide) dX5_change_27 (fun c_27 => absurd c_27 (by decide)) (fun c_27 => ?_)
    refine jr_iconst (v := 1) hX rfl dX5_change_30 ?_
    refine jr_goto hX (tgt := 35) (by decide) dX5_change_31 ?_
    refine jr_istore hX (by decide) rfl dX5_change_35 ?_
    refine jr_aload_n (i := 0) hX rfl rfl dX5_change_37 ?_
    refine jr_iload hX rfl dX5_change_38 ?_
    refine jr_if_ne hX (tgt := 47) (by decide) dX5_change_40 (fun c_40 => ?_) (fun c_40 => absurd c_40 (by decide))
    refine jr_aload_n (i := 0) hX rfl rfl dX5_change_47 ?_
    refine jr_get (ci := 11) (k := 7) hX hxx rfl in_X5 (by decide) q1737 rfl dX5_change_48 ?_
    refine jr_callV (As := []) (bc1 := ((7 + 159 * ((s_q S).length + 1 - (s_q (s_chg S md b o pat)).length)))) (bs1 := ((322 + 636 * ((s_q S).length + 1 - (s_q (s_chg S md b o pat)).length)))) hX (met_size l D s0 b0 A _ (ad 32 3 0) (s_rg (s_c S).length (fun v => ad 48 v 0)) moH capH eaH hHL) (cwV 0 hX.ts (lw_V q1834 q410 q2205 q68 q412) rfl rfl rfl (by decide +kernel) ⟨Nat.le_of_ble_eq_true rfl, Nat.le_of_ble_eq_true rfl⟩) hHL.1 rfl rfl (Nat.le_of_ble_eq_true rfl) (by first | omega | (dsimp only; omega) | (show _ ≤ _; simp only []; omega)) (by first | omega | (dsimp only; omega) | (show _ ≤ _; simp only []; omega)) rfl dX5_change_51 (fun v_51 G_51 hp_51 => ?_)
    obtain ⟨rfl, e9⟩ := hp_51
    rw [e9, rg_len]
    refine jr_bipush (v := 30) hX (by decide) dX5_change_54 ?_
    refine jr_icmp_lt hX (tgt := 63) (by decide) dX5_change_56 (fun c_56 => ?_) (fun c_56 => absurd (nI_lt (b := 30) hc30 (by omega)) c_56)
    refine jr_iconst (v := 0) hX rfl dX5_change_63 ?_
    refine jr_put (ci := 11) (k := 0) hX hxx rfl in_X5 (by decide) tyX5 tyX5_ok nmX5 q1730 rfl (by first | rfl | assumption) (by first | rfl | assumption) (Nat.le_of_ble_eq_true rfl) dX5_change_64 ?_
    refine jr_aload_n (i := 0) hX rfl rfl dX5_change_67 ?_
    refine jr_get (ci := 11) (k := 0) hX hxx0 rfl in_X5 (by decide) q1730 rfl dX5_change_68 ?_
    refine jr_if_le hX (tgt := 76) (by decide) dX5_change_71 (fun c_71 => ?_) (fun c_71 => absurd (by decide) c_71)
    refine jr_aload_n (i := 0) hX rfl rfl dX5_change_76 ?_
    refine jr_iload_n (i := 1) hX rfl rfl dX5_change_77 ?_
    refine jr_iload_n (i := 2) hX rfl rfl dX5_change_78 ?_
    refine jr_iload_n (i := 3) hX rfl rfl dX5_change_79 ?_
    refine jr_iload hX rfl dX5_change_80 ?_
    rw [show nI 119 = nI md from by rw [hmd9]]
    refine jr_callV (As := [.int (nI md), .int (jbz b), .int (jbz o), .int (nI pat)]) (bc1 := (5 + 159 * ((s_q S).length + 1 - (s_q (s_chg S md b o pat)).length))) (bs1 := (166 + 636 * ((s_q S).length + 1 - (s_q (s_chg S md b o pat)).length))) hX (mm_asks l D s0 b0 A _ S 0 ad T hR0 hWc.2.1 (by omega) md b o pat (by omega) (by omega)) (cwV 4 hX.ts (lw_V q2041 q2043 qs59 q78 q2044) rfl rfl rfl (by decide +kernel) ⟨Nat.le_of_ble_eq_true rfl, Nat.le_of_ble_eq_true rfl⟩) hxx0 rfl rfl (Nat.le_of_ble_eq_true rfl) (by first | omega | (dsimp only; omega) | (show _ ≤ _; simp only []; omega)) (by first | omega | (dsimp only; omega) | (show _ ≤ _; simp only []; omega)) rfl dX5_change_82 (fun v_82 G_82 hp_82 => ?_)
    obtain ⟨ad2, T4, rfl, hR4, hF4, hA4⟩ := hp_82
    obtain ⟨moQ, capQ, eaQ, hQL, -, hQc, hQt⟩ := mo_que hR4
    have hob : ∀ q, q < (s_c S).length + 1 → jOb s0 b0 D G_82 (ad2 48 q 0) := fun q hq => ob_chM hR4 (v := q) (by show q < (s_c S ++ [_]).length; rw [List.length_append]; exact hq)
    rw [show ad 31 0 0 = ad2 31 0 0 from (hA4 31 0 0 (by omega)).symm]
    have hxx4 := mo_x hR4
    refine jr_ee hX (fun hE4 => ?_)
    refine jr_astore hX (by decide) rfl dX5_change_85 ?_
    refine jr_aload_n (i := 0) hX rfl rfl dX5_change_87 ?_
    refine jr_get (ci := 11) (k := 8) hX hxx4 rfl in_X5 (by decide) q1738 rfl dX5_change_88 ?_
    refine jr_aload hX rfl dX5_change_91 ?_
    refine jr_callV (As := [.ref (ad2 48 (s_c S).length 0)]) (bc1 := (4 + 159 * ((s_q S).length + 1 - (s_q (s_chg S md b o pat)).length))) (bs1 := (16 + 636 * ((s_q S).length + 1 - (s_q (s_chg S md b o pat)).length))) hX (met_add l D s0 b0 A _ (ad2 32 4 0) ((s_q S).map (fun v => ad2 48 v 0)) moQ capQ eaQ hQL (fun z hz => by obtain ⟨q9, hq9, rfl⟩ := List.mem_map.mp hz; exact hob q9 (by have := hWc.2.1 q9 hq9; omega)) (ad2 48 (s_c S).length 0) (hob _ (Nat.lt_succ_self _)) 1 150 (by omega) (fun hz => ⟨by omega, by rw [List.length_map] at hz; have h9 := hQL.2.2.2; unfold jgw; split <;> omega⟩)) (cwV 1 hX.ts (lw_V q1711 q186 q2202 q68 q188) rfl rfl rfl (by decide +kernel) ⟨Nat.le_of_ble_eq_true rfl, Nat.le_of_ble_eq_true rfl⟩) hQL.1 rfl rfl (Nat.le_of_ble_eq_true rfl) (by first | omega | (dsimp only; omega) | (show _ ≤ _; simp only []; omega)) (by first | omega | (dsimp only; omega) | (show _ ≤ _; simp only []; omega)) rfl dX5_change_93 (fun v_93 G_93 hp_93 => ?_)
    obtain ⟨rfl, hU4⟩ := hp_93
    refine jr_ee hX (fun hE5 => ?_)
    have hmap : (s_q S).map (fun v => ad2 48 v 0) ++ [ad2 48 (s_c S).length 0] = ((s_q S).take (s_q S).length ++ (s_c S).length :: (s_q S).drop (s_q S).length).map (fun v => ad2 48 v 0) := by
      rw [List.take_length, List.drop_length, List.map_append]; rfl
    rw [hmap] at hU4
    have hcap2 : (if ((s_q S).map (fun v => ad2 48 v 0)).length = capQ then jgw capQ (capQ + 1) else capQ) ≤ 200 := by
      rw [List.length_map]
      have h9 := hQL.2.2.2
      split
      · unfold jgw; split <;> omega
      · exact hQc
    obtain ⟨T5, hR5, hfm5⟩ := mo_qls (qs := (s_q S).take (s_q S).length ++ (s_c S).length :: (s_q S).drop (s_q S).length) hR4 hE5 hQL hQt hU4 hcap2
    have hF5 := hF4.trans (mo_fm (by omega) hE4 hfm5)
    refine jr_pop hX rfl dX5_change_96 ?_
    refine jr_aload_n (i := 0) hX rfl rfl dX5_change_97 ?_
    refine jr_callV (As := []) (bc1 := (0)) (bs1 := (0)) hX (mm_looks l D s0 b0 A _ (s_ask S md b o pat (s_q S).length) 0 ad2 T5 hR5 hWa) (cwV 0 hX.ts (lw_V q1915 q1917 qs42 q78 q1918) rfl rfl rfl (by decide +kernel) ⟨Nat.le_of_ble_eq_true rfl, Nat.le_of_ble_eq_true rfl⟩) (mo_x hR5) rfl rfl (Nat.le_of_ble_eq_true rfl) (by first | omega | (dsimp only; omega) | (show _ ≤ _; simp only []; omega)) (by first | omega | (dsimp only; omega) | (show _ ≤ _; simp only []; omega)) rfl dX5_change_98 (fun v_98 G_98 hp_98 => ?_)
    obtain ⟨rfl, ad3, T6, g1, g2, g3⟩ := hp_98
    obtain ⟨c9, hc9⟩ : ∃ c9, (s_c (s_look (s_ask S md b o pat (s_q S).length)))[(s_c S).length]? = some c9 := ⟨_, List.getElem?_eq_getElem (by rw [(look_kp (s_ask S md b o pat (s_q S).length)).2.2.2.2.1]; show _ < (s_c S ++ [_]).length; rw [List.length_append]; exact Nat.lt_succ_self _)⟩
    have hC9 := mo_ch g1 hc9
    rw [show ad2 48 (s_c S).length 0 = ad3 48 (s_c S).length 0 from (g3 48 _ 0 (by decide)).symm]
    refine jr_aload hX rfl dX5_change_101 ?_
    refine jr_getN (ci := 17) (k := 0) hX hC9 rfl in_X18 (by decide) q2051 rfl dX5_change_103 ?_
    exact jr_iret hX hlk hr ⟨rfl, ad3, T6, g1, ((jFm.pt (mo_t31 hR) (by decide)).trans hF5).trans g2, fun k i j hk => (g3 k i j (by omega)).trans (hA4 k i j (by omega))⟩ dX5_change_106
  · rw [show nI md = nI 109 from by rw [hmd9]]
    refine jr_iload_n (i := 1) hX rfl rfl dX5_change_0 ?_
    refine jr_bipush (v := 119) hX (by decide) dX5_change_1 ?_
    refine jr_icmp_eq hX (tgt := 18) (by decide) dX5_change_3 (fun c_3 => absurd c_3 (by decide)) (fun c_3 => ?_)
    refine jr_iload_n (i := 1) hX rfl rfl dX5_change_6 ?_
    refine jr_bipush (v := 109) hX (by decide) dX5_change_7 ?_
    refine jr_icmp_eq hX (tgt := 18) (by decide) dX5_change_9 (fun c_9 => ?_) (fun c_9 => absurd rfl c_9)
    refine jr_iload hX rfl dX5_change_18 ?_
    refine jr_iconst (v := 1) hX rfl dX5_change_20 ?_
    refine jr_sipush (v := 200) hX (by decide) dX5_change_21 ?_
    refine jr_callS (As := [.int (nI pat), .int 1, .int 200]) (bc1 := ((7 + 159 * ((s_q S).length + 1 - (s_q (s_chg S md b o pat)).length)))) (bs1 := ((322 + 636 * ((s_q S).length + 1 - (s_q (s_chg S md b o pat)).length)))) hX (mm_in l D s0 b0 A _ (nI pat) 1 200) (va_cwS 3 hX.ts (lw_S q1784 q1785 q78 q1786) rfl rfl rfl (by decide +kernel) ⟨Nat.le_of_ble_eq_true rfl, Nat.le_of_ble_eq_true rfl⟩) rfl (Nat.le_of_ble_eq_true rfl) (by first | omega | (dsimp only; omega) | (show _ ≤ _; simp only []; omega)) (by first | omega | (dsimp only; omega) | (show _ ≤ _; simp only []; omega)) rfl dX5_change_24 (fun v_24 G_24 hp_24 => ?_)
    obtain ⟨rfl, e9⟩ := hp_24
    rw [e9, decide_eq_true hin]
    refine jr_if_eq hX (tgt := 34) (by decide) dX5_change_27 (fun c_27 => absurd c_27 (by decide)) (fun c_27 => ?_)
    refine jr_iconst (v := 1) hX rfl dX5_change_30 ?_
    refine jr_goto hX (tgt := 35) (by decide) dX5_change_31 ?_
    refine jr_istore hX (by decide) rfl dX5_change_35 ?_
    refine jr_aload_n (i := 0) hX rfl rfl dX5_change_37 ?_
    refine jr_iload hX rfl dX5_change_38 ?_
    refine jr_if_ne hX (tgt := 47) (by decide) dX5_change_40 (fun c_40 => ?_) (fun c_40 => absurd c_40 (by decide))
    refine jr_aload_n (i := 0) hX rfl rfl dX5_change_47 ?_
    refine jr_get (ci := 11) (k := 7) hX hxx rfl in_X5 (by decide) q1737 rfl dX5_change_48 ?_
    refine jr_callV (As := []) (bc1 := ((7 + 159 * ((s_q S).length + 1 - (s_q (s_chg S md b o pat)).length)))) (bs1 := ((322 + 636 * ((s_q S).length + 1 - (s_q (s_chg S md b o pat)).length)))) hX (met_size l D s0 b0 A _ (ad 32 3 0) (s_rg (s_c S).length (fun v => ad 48 v 0)) moH capH eaH hHL) (cwV 0 hX.ts (lw_V q1834 q410 q2205 q68 q412) rfl rfl rfl (by decide +kernel) ⟨Nat.le_of_ble_eq_true rfl, Nat.le_of_ble_eq_true rfl⟩) hHL.1 rfl rfl (Nat.le_of_ble_eq_true rfl) (by first | omega | (dsimp only; omega) | (show _ ≤ _; simp only []; omega)) (by first | omega | (dsimp only; omega) | (show _ ≤ _; simp only []; omega)) rfl dX5_change_51 (fun v_51 G_51 hp_51 => ?_)
    obtain ⟨rfl, e9⟩ := hp_51
    rw [e9, rg_len]
    refine jr_bipush (v := 30) hX (by decide) dX5_change_54 ?_
    refine jr_icmp_lt hX (tgt := 63) (by decide) dX5_change_56 (fun c_56 => ?_) (fun c_56 => absurd (nI_lt (b := 30) hc30 (by omega)) c_56)
    refine jr_iconst (v := 0) hX rfl dX5_change_63 ?_
    refine jr_put (ci := 11) (k := 0) hX hxx rfl in_X5 (by decide) tyX5 tyX5_ok nmX5 q1730 rfl (by first | rfl | assumption) (by first | rfl | assumption) (Nat.le_of_ble_eq_true rfl) dX5_change_64 ?_
    refine jr_aload_n (i := 0) hX rfl rfl dX5_change_67 ?_
    refine jr_get (ci := 11) (k := 0) hX hxx0 rfl in_X5 (by decide) q1730 rfl dX5_change_68 ?_
    refine jr_if_le hX (tgt := 76) (by decide) dX5_change_71 (fun c_71 => ?_) (fun c_71 => absurd (by decide) c_71)
    refine jr_aload_n (i := 0) hX rfl rfl dX5_change_76 ?_
    refine jr_iload_n (i := 1) hX rfl rfl dX5_change_77 ?_
    refine jr_iload_n (i := 2) hX rfl rfl dX5_change_78 ?_
    refine jr_iload_n (i := 3) hX rfl rfl dX5_change_79 ?_
    refine jr_iload hX rfl dX5_change_80 ?_
    rw [show nI 109 = nI md from by rw [hmd9]]
    refine jr_callV (As := [.int (nI md), .int (jbz b), .int (jbz o), .int (nI pat)]) (bc1 := (5 + 159 * ((s_q S).length + 1 - (s_q (s_chg S md b o pat)).length))) (bs1 := (166 + 636 * ((s_q S).length + 1 - (s_q (s_chg S md b o pat)).length))) hX (mm_asks l D s0 b0 A _ S 0 ad T hR0 hWc.2.1 (by omega) md b o pat (by omega) (by omega)) (cwV 4 hX.ts (lw_V q2041 q2043 qs59 q78 q2044) rfl rfl rfl (by decide +kernel) ⟨Nat.le_of_ble_eq_true rfl, Nat.le_of_ble_eq_true rfl⟩) hxx0 rfl rfl (Nat.le_of_ble_eq_true rfl) (by first | omega | (dsimp only; omega) | (show _ ≤ _; simp only []; omega)) (by first | omega | (dsimp only; omega) | (show _ ≤ _; simp only []; omega)) rfl dX5_change_82 (fun v_82 G_82 hp_82 => ?_)
    obtain ⟨ad2, T4, rfl, hR4, hF4, hA4⟩ := hp_82
    obtain ⟨moQ, capQ, eaQ, hQL, -, hQc, hQt⟩ := mo_que hR4
    have hob : ∀ q, q < (s_c S).length + 1 → jOb s0 b0 D G_82 (ad2 48 q 0) := fun q hq => ob_chM hR4 (v := q) (by show q < (s_c S ++ [_]).length; rw [List.length_append]; exact hq)
    rw [show ad 31 0 0 = ad2 31 0 0 from (hA4 31 0 0 (by omega)).symm]
    have hxx4 := mo_x hR4
    refine jr_ee hX (fun hE4 => ?_)
    refine jr_astore hX (by decide) rfl dX5_change_85 ?_
    refine jr_aload_n (i := 0) hX rfl rfl dX5_change_87 ?_
    refine jr_get (ci := 11) (k := 8) hX hxx4 rfl in_X5 (by decide) q1738 rfl dX5_change_88 ?_
    refine jr_aload hX rfl dX5_change_91 ?_
    refine jr_callV (As := [.ref (ad2 48 (s_c S).length 0)]) (bc1 := (4 + 159 * ((s_q S).length + 1 - (s_q (s_chg S md b o pat)).length))) (bs1 := (16 + 636 * ((s_q S).length + 1 - (s_q (s_chg S md b o pat)).length))) hX (met_add l D s0 b0 A _ (ad2 32 4 0) ((s_q S).map (fun v => ad2 48 v 0)) moQ capQ eaQ hQL (fun z hz => by obtain ⟨q9, hq9, rfl⟩ := List.mem_map.mp hz; exact hob q9 (by have := hWc.2.1 q9 hq9; omega)) (ad2 48 (s_c S).length 0) (hob _ (Nat.lt_succ_self _)) 1 150 (by omega) (fun hz => ⟨by omega, by rw [List.length_map] at hz; have h9 := hQL.2.2.2; unfold jgw; split <;> omega⟩)) (cwV 1 hX.ts (lw_V q1711 q186 q2202 q68 q188) rfl rfl rfl (by decide +kernel) ⟨Nat.le_of_ble_eq_true rfl, Nat.le_of_ble_eq_true rfl⟩) hQL.1 rfl rfl (Nat.le_of_ble_eq_true rfl) (by first | omega | (dsimp only; omega) | (show _ ≤ _; simp only []; omega)) (by first | omega | (dsimp only; omega) | (show _ ≤ _; simp only []; omega)) rfl dX5_change_93 (fun v_93 G_93 hp_93 => ?_)
    obtain ⟨rfl, hU4⟩ := hp_93
    refine jr_ee hX (fun hE5 => ?_)
    have hmap : (s_q S).map (fun v => ad2 48 v 0) ++ [ad2 48 (s_c S).length 0] = ((s_q S).take (s_q S).length ++ (s_c S).length :: (s_q S).drop (s_q S).length).map (fun v => ad2 48 v 0) := by
      rw [List.take_length, List.drop_length, List.map_append]; rfl
    rw [hmap] at hU4
    have hcap2 : (if ((s_q S).map (fun v => ad2 48 v 0)).length = capQ then jgw capQ (capQ + 1) else capQ) ≤ 200 := by
      rw [List.length_map]
      have h9 := hQL.2.2.2
      split
      · unfold jgw; split <;> omega
      · exact hQc
    obtain ⟨T5, hR5, hfm5⟩ := mo_qls (qs := (s_q S).take (s_q S).length ++ (s_c S).length :: (s_q S).drop (s_q S).length) hR4 hE5 hQL hQt hU4 hcap2
    have hF5 := hF4.trans (mo_fm (by omega) hE4 hfm5)
    refine jr_pop hX rfl dX5_change_96 ?_
    refine jr_aload_n (i := 0) hX rfl rfl dX5_change_97 ?_
    refine jr_callV (As := []) (bc1 := (0)) (bs1 := (0)) hX (mm_looks l D s0 b0 A _ (s_ask S md b o pat (s_q S).length) 0 ad2 T5 hR5 hWa) (cwV 0 hX.ts (lw_V q1915 q1917 qs42 q78 q1918) rfl rfl rfl (by decide +kernel) ⟨Nat.le_of_ble_eq_true rfl, Nat.le_of_ble_eq_true rfl⟩) (mo_x hR5) rfl rfl (Nat.le_of_ble_eq_true rfl) (by first | omega | (dsimp only; omega) | (show _ ≤ _; simp only []; omega)) (by first | omega | (dsimp only; omega) | (show _ ≤ _; simp only []; omega)) rfl dX5_change_98 (fun v_98 G_98 hp_98 => ?_)
    obtain ⟨rfl, ad3, T6, g1, g2, g3⟩ := hp_98
    obtain ⟨c9, hc9⟩ : ∃ c9, (s_c (s_look (s_ask S md b o pat (s_q S).length)))[(s_c S).length]? = some c9 := ⟨_, List.getElem?_eq_getElem (by rw [(look_kp (s_ask S md b o pat (s_q S).length)).2.2.2.2.1]; show _ < (s_c S ++ [_]).length; rw [List.length_append]; exact Nat.lt_succ_self _)⟩
    have hC9 := mo_ch g1 hc9
    rw [show ad2 48 (s_c S).length 0 = ad3 48 (s_c S).length 0 from (g3 48 _ 0 (by decide)).symm]
    refine jr_aload hX rfl dX5_change_101 ?_
    refine jr_getN (ci := 17) (k := 0) hX hC9 rfl in_X18 (by decide) q2051 rfl dX5_change_103 ?_
    exact jr_iret hX hlk hr ⟨rfl, ad3, T6, g1, ((jFm.pt (mo_t31 hR) (by decide)).trans hF5).trans g2, fun k i j hk => (g3 k i j (by omega)).trans (hA4 k i j (by omega))⟩ dX5_change_106
  · rw [show nI md = nI 111 from by rw [hmd9]]
    refine jr_iload_n (i := 1) hX rfl rfl dX5_change_0 ?_
    refine jr_bipush (v := 119) hX (by decide) dX5_change_1 ?_
    refine jr_icmp_eq hX (tgt := 18) (by decide) dX5_change_3 (fun c_3 => absurd c_3 (by decide)) (fun c_3 => ?_)
    refine jr_iload_n (i := 1) hX rfl rfl dX5_change_6 ?_
    refine jr_bipush (v := 109) hX (by decide) dX5_change_7 ?_
    refine jr_icmp_eq hX (tgt := 18) (by decide) dX5_change_9 (fun c_9 => absurd c_9 (by decide)) (fun c_9 => ?_)
    refine jr_iload_n (i := 1) hX rfl rfl dX5_change_12 ?_
    refine jr_bipush (v := 111) hX (by decide) dX5_change_13 ?_
    refine jr_icmp_ne hX (tgt := 34) (by decide) dX5_change_15 (fun c_15 => absurd c_15 (fun z => z rfl)) (fun c_15 => ?_)
    refine jr_iload hX rfl dX5_change_18 ?_
    refine jr_iconst (v := 1) hX rfl dX5_change_20 ?_
    refine jr_sipush (v := 200) hX (by decide) dX5_change_21 ?_
    refine jr_callS (As := [.int (nI pat), .int 1, .int 200]) (bc1 := ((7 + 159 * ((s_q S).length + 1 - (s_q (s_chg S md b o pat)).length)))) (bs1 := ((322 + 636 * ((s_q S).length + 1 - (s_q (s_chg S md b o pat)).length)))) hX (mm_in l D s0 b0 A _ (nI pat) 1 200) (va_cwS 3 hX.ts (lw_S q1784 q1785 q78 q1786) rfl rfl rfl (by decide +kernel) ⟨Nat.le_of_ble_eq_true rfl, Nat.le_of_ble_eq_true rfl⟩) rfl (Nat.le_of_ble_eq_true rfl) (by first | omega | (dsimp only; omega) | (show _ ≤ _; simp only []; omega)) (by first | omega | (dsimp only; omega) | (show _ ≤ _; simp only []; omega)) rfl dX5_change_24 (fun v_24 G_24 hp_24 => ?_)
    obtain ⟨rfl, e9⟩ := hp_24
    rw [e9, decide_eq_true hin]
    refine jr_if_eq hX (tgt := 34) (by decide) dX5_change_27 (fun c_27 => absurd c_27 (by decide)) (fun c_27 => ?_)
    refine jr_iconst (v := 1) hX rfl dX5_change_30 ?_
    refine jr_goto hX (tgt := 35) (by decide) dX5_change_31 ?_
    refine jr_istore hX (by decide) rfl dX5_change_35 ?_
    refine jr_aload_n (i := 0) hX rfl rfl dX5_change_37 ?_
    refine jr_iload hX rfl dX5_change_38 ?_
    refine jr_if_ne hX (tgt := 47) (by decide) dX5_change_40 (fun c_40 => ?_) (fun c_40 => absurd c_40 (by decide))
    refine jr_aload_n (i := 0) hX rfl rfl dX5_change_47 ?_
    refine jr_get (ci := 11) (k := 7) hX hxx rfl in_X5 (by decide) q1737 rfl dX5_change_48 ?_
    refine jr_callV (As := []) (bc1 := ((7 + 159 * ((s_q S).length + 1 - (s_q (s_chg S md b o pat)).length)))) (bs1 := ((322 + 636 * ((s_q S).length + 1 - (s_q (s_chg S md b o pat)).length)))) hX (met_size l D s0 b0 A _ (ad 32 3 0) (s_rg (s_c S).length (fun v => ad 48 v 0)) moH capH eaH hHL) (cwV 0 hX.ts (lw_V q1834 q410 q2205 q68 q412) rfl rfl rfl (by decide +kernel) ⟨Nat.le_of_ble_eq_true rfl, Nat.le_of_ble_eq_true rfl⟩) hHL.1 rfl rfl (Nat.le_of_ble_eq_true rfl) (by first | omega | (dsimp only; omega) | (show _ ≤ _; simp only []; omega)) (by first | omega | (dsimp only; omega) | (show _ ≤ _; simp only []; omega)) rfl dX5_change_51 (fun v_51 G_51 hp_51 => ?_)
    obtain ⟨rfl, e9⟩ := hp_51
    rw [e9, rg_len]
    refine jr_bipush (v := 30) hX (by decide) dX5_change_54 ?_
    refine jr_icmp_lt hX (tgt := 63) (by decide) dX5_change_56 (fun c_56 => ?_) (fun c_56 => absurd (nI_lt (b := 30) hc30 (by omega)) c_56)
    refine jr_iconst (v := 0) hX rfl dX5_change_63 ?_
    refine jr_put (ci := 11) (k := 0) hX hxx rfl in_X5 (by decide) tyX5 tyX5_ok nmX5 q1730 rfl (by first | rfl | assumption) (by first | rfl | assumption) (Nat.le_of_ble_eq_true rfl) dX5_change_64 ?_
    refine jr_aload_n (i := 0) hX rfl rfl dX5_change_67 ?_
    refine jr_get (ci := 11) (k := 0) hX hxx0 rfl in_X5 (by decide) q1730 rfl dX5_change_68 ?_
    refine jr_if_le hX (tgt := 76) (by decide) dX5_change_71 (fun c_71 => ?_) (fun c_71 => absurd (by decide) c_71)
    refine jr_aload_n (i := 0) hX rfl rfl dX5_change_76 ?_
    refine jr_iload_n (i := 1) hX rfl rfl dX5_change_77 ?_
    refine jr_iload_n (i := 2) hX rfl rfl dX5_change_78 ?_
    refine jr_iload_n (i := 3) hX rfl rfl dX5_change_79 ?_
    refine jr_iload hX rfl dX5_change_80 ?_
    rw [show nI 111 = nI md from by rw [hmd9]]
    refine jr_callV (As := [.int (nI md), .int (jbz b), .int (jbz o), .int (nI pat)]) (bc1 := (5 + 159 * ((s_q S).length + 1 - (s_q (s_chg S md b o pat)).length))) (bs1 := (166 + 636 * ((s_q S).length + 1 - (s_q (s_chg S md b o pat)).length))) hX (mm_asks l D s0 b0 A _ S 0 ad T hR0 hWc.2.1 (by omega) md b o pat (by omega) (by omega)) (cwV 4 hX.ts (lw_V q2041 q2043 qs59 q78 q2044) rfl rfl rfl (by decide +kernel) ⟨Nat.le_of_ble_eq_true rfl, Nat.le_of_ble_eq_true rfl⟩) hxx0 rfl rfl (Nat.le_of_ble_eq_true rfl) (by first | omega | (dsimp only; omega) | (show _ ≤ _; simp only []; omega)) (by first | omega | (dsimp only; omega) | (show _ ≤ _; simp only []; omega)) rfl dX5_change_82 (fun v_82 G_82 hp_82 => ?_)
    obtain ⟨ad2, T4, rfl, hR4, hF4, hA4⟩ := hp_82
    obtain ⟨moQ, capQ, eaQ, hQL, -, hQc, hQt⟩ := mo_que hR4
    have hob : ∀ q, q < (s_c S).length + 1 → jOb s0 b0 D G_82 (ad2 48 q 0) := fun q hq => ob_chM hR4 (v := q) (by show q < (s_c S ++ [_]).length; rw [List.length_append]; exact hq)
    rw [show ad 31 0 0 = ad2 31 0 0 from (hA4 31 0 0 (by omega)).symm]
    have hxx4 := mo_x hR4
    refine jr_ee hX (fun hE4 => ?_)
    refine jr_astore hX (by decide) rfl dX5_change_85 ?_
    refine jr_aload_n (i := 0) hX rfl rfl dX5_change_87 ?_
    refine jr_get (ci := 11) (k := 8) hX hxx4 rfl in_X5 (by decide) q1738 rfl dX5_change_88 ?_
    refine jr_aload hX rfl dX5_change_91 ?_
    refine jr_callV (As := [.ref (ad2 48 (s_c S).length 0)]) (bc1 := (4 + 159 * ((s_q S).length + 1 - (s_q (s_chg S md b o pat)).length))) (bs1 := (16 + 636 * ((s_q S).length + 1 - (s_q (s_chg S md b o pat)).length))) hX (met_add l D s0 b0 A _ (ad2 32 4 0) ((s_q S).map (fun v => ad2 48 v 0)) moQ capQ eaQ hQL (fun z hz => by obtain ⟨q9, hq9, rfl⟩ := List.mem_map.mp hz; exact hob q9 (by have := hWc.2.1 q9 hq9; omega)) (ad2 48 (s_c S).length 0) (hob _ (Nat.lt_succ_self _)) 1 150 (by omega) (fun hz => ⟨by omega, by rw [List.length_map] at hz; have h9 := hQL.2.2.2; unfold jgw; split <;> omega⟩)) (cwV 1 hX.ts (lw_V q1711 q186 q2202 q68 q188) rfl rfl rfl (by decide +kernel) ⟨Nat.le_of_ble_eq_true rfl, Nat.le_of_ble_eq_true rfl⟩) hQL.1 rfl rfl (Nat.le_of_ble_eq_true rfl) (by first | omega | (dsimp only; omega) | (show _ ≤ _; simp only []; omega)) (by first | omega | (dsimp only; omega) | (show _ ≤ _; simp only []; omega)) rfl dX5_change_93 (fun v_93 G_93 hp_93 => ?_)
    obtain ⟨rfl, hU4⟩ := hp_93
    refine jr_ee hX (fun hE5 => ?_)
    have hmap : (s_q S).map (fun v => ad2 48 v 0) ++ [ad2 48 (s_c S).length 0] = ((s_q S).take (s_q S).length ++ (s_c S).length :: (s_q S).drop (s_q S).length).map (fun v => ad2 48 v 0) := by
      rw [List.take_length, List.drop_length, List.map_append]; rfl
    rw [hmap] at hU4
    have hcap2 : (if ((s_q S).map (fun v => ad2 48 v 0)).length = capQ then jgw capQ (capQ + 1) else capQ) ≤ 200 := by
      rw [List.length_map]
      have h9 := hQL.2.2.2
      split
      · unfold jgw; split <;> omega
      · exact hQc
    obtain ⟨T5, hR5, hfm5⟩ := mo_qls (qs := (s_q S).take (s_q S).length ++ (s_c S).length :: (s_q S).drop (s_q S).length) hR4 hE5 hQL hQt hU4 hcap2
    have hF5 := hF4.trans (mo_fm (by omega) hE4 hfm5)
    refine jr_pop hX rfl dX5_change_96 ?_
    refine jr_aload_n (i := 0) hX rfl rfl dX5_change_97 ?_
    refine jr_callV (As := []) (bc1 := (0)) (bs1 := (0)) hX (mm_looks l D s0 b0 A _ (s_ask S md b o pat (s_q S).length) 0 ad2 T5 hR5 hWa) (cwV 0 hX.ts (lw_V q1915 q1917 qs42 q78 q1918) rfl rfl rfl (by decide +kernel) ⟨Nat.le_of_ble_eq_true rfl, Nat.le_of_ble_eq_true rfl⟩) (mo_x hR5) rfl rfl (Nat.le_of_ble_eq_true rfl) (by first | omega | (dsimp only; omega) | (show _ ≤ _; simp only []; omega)) (by first | omega | (dsimp only; omega) | (show _ ≤ _; simp only []; omega)) rfl dX5_change_98 (fun v_98 G_98 hp_98 => ?_)
    obtain ⟨rfl, ad3, T6, g1, g2, g3⟩ := hp_98
    obtain ⟨c9, hc9⟩ : ∃ c9, (s_c (s_look (s_ask S md b o pat (s_q S).length)))[(s_c S).length]? = some c9 := ⟨_, List.getElem?_eq_getElem (by rw [(look_kp (s_ask S md b o pat (s_q S).length)).2.2.2.2.1]; show _ < (s_c S ++ [_]).length; rw [List.length_append]; exact Nat.lt_succ_self _)⟩
    have hC9 := mo_ch g1 hc9
    rw [show ad2 48 (s_c S).length 0 = ad3 48 (s_c S).length 0 from (g3 48 _ 0 (by decide)).symm]
    refine jr_aload hX rfl dX5_change_101 ?_
    refine jr_getN (ci := 17) (k := 0) hX hC9 rfl in_X18 (by decide) q2051 rfl dX5_change_103 ?_
    exact jr_iret hX hlk hr ⟨rfl, ad3, T6, g1, ((jFm.pt (mo_t31 hR) (by decide)).trans hF5).trans g2, fun k i j hk => (g3 k i j (by omega)).trans (hA4 k i j (by omega))⟩ dX5_change_106

set_option maxHeartbeats 4000000 in
set_option maxRecDepth 100000 in
theorem mm_changeE1 (l : Launch) (D : va_G) (s0 : State) (b0 : Nat) (A : Nat → Prop) (G : jG) (S : sSt) (th : Nat) (ad : jN) (T : jT) (hR : jMo D s0 b0 th S ad T G) (m9 x1 x2 y : Int32) (h1 : m9 ≠ 119) (h2 : m9 ≠ 109) (h3 : m9 ≠ 111) : jM l yX5_change (ws_ yX5_change cX5_change 7 (some .int)) (jR 4 0 0) D s0 b0 A G [.ref (ad 31 0 0), .int m9, .int x1, .int x2, .int y] (fun w G1 => w = some (.int 0) ∧ jMo D s0 b0 1 S ad T G1 ∧ jFm 31 60 T G T G1) := by
  have hxx := mo_x hR
  have hR0 := mo_wth hR 1
  have hx0 := mo_x hR0
  obtain ⟨moH, capH, eaH, hHL, -, hHc, hHt⟩ := mo_chs hR
  refine jM.of (by decide +kernel) (own := RX5) rfl (Nat.le_of_ble_eq_true rfl) ?_
  intro p e s m args below meth c hX hr hlk hnm
  refine jr_iload_n (i := 1) hX rfl rfl dX5_change_0 ?_
  refine jr_bipush (v := 119) hX (by decide) dX5_change_1 ?_
  refine jr_icmp_eq hX (tgt := 18) (by decide) dX5_change_3 (fun c_3 => absurd c_3 h1) (fun c_3 => ?_)
  refine jr_iload_n (i := 1) hX rfl rfl dX5_change_6 ?_
  refine jr_bipush (v := 109) hX (by decide) dX5_change_7 ?_
  refine jr_icmp_eq hX (tgt := 18) (by decide) dX5_change_9 (fun c_9 => absurd c_9 h2) (fun c_9 => ?_)
  refine jr_iload_n (i := 1) hX rfl rfl dX5_change_12 ?_
  refine jr_bipush (v := 111) hX (by decide) dX5_change_13 ?_
  refine jr_icmp_ne hX (tgt := 34) (by decide) dX5_change_15 (fun c_15 => ?_) (fun c_15 => absurd c_15 h3)
  refine jr_iconst (v := 0) hX rfl dX5_change_34 ?_
  refine jr_istore hX (by decide) rfl dX5_change_35 ?_
  refine jr_aload_n (i := 0) hX rfl rfl dX5_change_37 ?_
  refine jr_iload hX rfl dX5_change_38 ?_
  refine jr_if_ne hX (tgt := 47) (by decide) dX5_change_40 (fun c_40 => absurd c_40 (fun z => z rfl)) (fun c_40 => ?_)
  refine jr_iconst (v := 1) hX rfl dX5_change_43 ?_
  refine jr_goto hX (tgt := 64) (by decide) dX5_change_44 ?_
  refine jr_put (ci := 11) (k := 0) hX hxx rfl in_X5 (by decide) tyX5 tyX5_ok nmX5 q1730 rfl (by first | rfl | assumption) (by first | rfl | assumption) (Nat.le_of_ble_eq_true rfl) dX5_change_64 ?_
  refine jr_aload_n (i := 0) hX rfl rfl dX5_change_67 ?_
  refine jr_get (ci := 11) (k := 0) hX hx0 rfl in_X5 (by decide) q1730 rfl dX5_change_68 ?_
  refine jr_if_le hX (tgt := 76) (by decide) dX5_change_71 (fun c_71 => absurd c_71 (by decide)) (fun c_71 => ?_)
  refine jr_iconst (v := 0) hX rfl dX5_change_74 ?_
  exact jr_iret hX hlk hr ⟨rfl, hR0, jFm.pt (mo_t31 hR) (by decide)⟩ dX5_change_75

set_option maxHeartbeats 4000000 in
set_option maxRecDepth 100000 in
theorem mm_changeE2 (l : Launch) (D : va_G) (s0 : State) (b0 : Nat) (A : Nat → Prop) (G : jG) (S : sSt) (th : Nat) (ad : jN) (T : jT) (hR : jMo D s0 b0 th S ad T G) (md : Nat) (hmd : md = 119 ∨ md = 109 ∨ md = 111) (x1 x2 y : Int32) (hin : ¬ ((1 : Int32) ≤ y ∧ y ≤ 200)) : jM l yX5_change (ws_ yX5_change cX5_change 7 (some .int)) (jR 4 0 0) D s0 b0 A G [.ref (ad 31 0 0), .int (nI md), .int x1, .int x2, .int y] (fun w G1 => w = some (.int 0) ∧ jMo D s0 b0 1 S ad T G1 ∧ jFm 31 60 T G T G1) := by
  have hxx := mo_x hR
  have hR0 := mo_wth hR 1
  have hx0 := mo_x hR0
  obtain ⟨moH, capH, eaH, hHL, -, hHc, hHt⟩ := mo_chs hR
  refine jM.of (by decide +kernel) (own := RX5) rfl (Nat.le_of_ble_eq_true rfl) ?_
  intro p e s m args below meth c hX hr hlk hnm
  rcases hmd with hmd9 | hmd9 | hmd9
  · rw [show nI md = nI 119 from by rw [hmd9]]
    refine jr_iload_n (i := 1) hX rfl rfl dX5_change_0 ?_
    refine jr_bipush (v := 119) hX (by decide) dX5_change_1 ?_
    refine jr_icmp_eq hX (tgt := 18) (by decide) dX5_change_3 (fun c_3 => ?_) (fun c_3 => absurd rfl c_3)
    refine jr_iload hX rfl dX5_change_18 ?_
    refine jr_iconst (v := 1) hX rfl dX5_change_20 ?_
    refine jr_sipush (v := 200) hX (by decide) dX5_change_21 ?_
    refine jr_callS (As := [.int y, .int 1, .int 200]) (bc1 := (0)) (bs1 := (0)) hX (mm_in l D s0 b0 A _ y 1 200) (va_cwS 3 hX.ts (lw_S q1784 q1785 q78 q1786) rfl rfl rfl (by decide +kernel) ⟨Nat.le_of_ble_eq_true rfl, Nat.le_of_ble_eq_true rfl⟩) rfl (Nat.le_of_ble_eq_true rfl) (by first | omega | (dsimp only; omega) | (show _ ≤ _; simp only []; omega)) (by first | omega | (dsimp only; omega) | (show _ ≤ _; simp only []; omega)) rfl dX5_change_24 (fun v_24 G_24 hp_24 => ?_)
    obtain ⟨rfl, e9⟩ := hp_24
    rw [e9, decide_eq_false hin]
    refine jr_if_eq hX (tgt := 34) (by decide) dX5_change_27 (fun c_27 => ?_) (fun c_27 => absurd rfl c_27)
    refine jr_iconst (v := 0) hX rfl dX5_change_34 ?_
    refine jr_istore hX (by decide) rfl dX5_change_35 ?_
    refine jr_aload_n (i := 0) hX rfl rfl dX5_change_37 ?_
    refine jr_iload hX rfl dX5_change_38 ?_
    refine jr_if_ne hX (tgt := 47) (by decide) dX5_change_40 (fun c_40 => absurd c_40 (fun z => z rfl)) (fun c_40 => ?_)
    refine jr_iconst (v := 1) hX rfl dX5_change_43 ?_
    refine jr_goto hX (tgt := 64) (by decide) dX5_change_44 ?_
    refine jr_put (ci := 11) (k := 0) hX hxx rfl in_X5 (by decide) tyX5 tyX5_ok nmX5 q1730 rfl (by first | rfl | assumption) (by first | rfl | assumption) (Nat.le_of_ble_eq_true rfl) dX5_change_64 ?_
    refine jr_aload_n (i := 0) hX rfl rfl dX5_change_67 ?_
    refine jr_get (ci := 11) (k := 0) hX hx0 rfl in_X5 (by decide) q1730 rfl dX5_change_68 ?_
    refine jr_if_le hX (tgt := 76) (by decide) dX5_change_71 (fun c_71 => absurd c_71 (by decide)) (fun c_71 => ?_)
    refine jr_iconst (v := 0) hX rfl dX5_change_74 ?_
    exact jr_iret hX hlk hr ⟨rfl, hR0, jFm.pt (mo_t31 hR) (by decide)⟩ dX5_change_75
  · rw [show nI md = nI 109 from by rw [hmd9]]
    refine jr_iload_n (i := 1) hX rfl rfl dX5_change_0 ?_
    refine jr_bipush (v := 119) hX (by decide) dX5_change_1 ?_
    refine jr_icmp_eq hX (tgt := 18) (by decide) dX5_change_3 (fun c_3 => absurd c_3 (by decide)) (fun c_3 => ?_)
    refine jr_iload_n (i := 1) hX rfl rfl dX5_change_6 ?_
    refine jr_bipush (v := 109) hX (by decide) dX5_change_7 ?_
    refine jr_icmp_eq hX (tgt := 18) (by decide) dX5_change_9 (fun c_9 => ?_) (fun c_9 => absurd rfl c_9)
    refine jr_iload hX rfl dX5_change_18 ?_
    refine jr_iconst (v := 1) hX rfl dX5_change_20 ?_
    refine jr_sipush (v := 200) hX (by decide) dX5_change_21 ?_
    refine jr_callS (As := [.int y, .int 1, .int 200]) (bc1 := (0)) (bs1 := (0)) hX (mm_in l D s0 b0 A _ y 1 200) (va_cwS 3 hX.ts (lw_S q1784 q1785 q78 q1786) rfl rfl rfl (by decide +kernel) ⟨Nat.le_of_ble_eq_true rfl, Nat.le_of_ble_eq_true rfl⟩) rfl (Nat.le_of_ble_eq_true rfl) (by first | omega | (dsimp only; omega) | (show _ ≤ _; simp only []; omega)) (by first | omega | (dsimp only; omega) | (show _ ≤ _; simp only []; omega)) rfl dX5_change_24 (fun v_24 G_24 hp_24 => ?_)
    obtain ⟨rfl, e9⟩ := hp_24
    rw [e9, decide_eq_false hin]
    refine jr_if_eq hX (tgt := 34) (by decide) dX5_change_27 (fun c_27 => ?_) (fun c_27 => absurd rfl c_27)
    refine jr_iconst (v := 0) hX rfl dX5_change_34 ?_
    refine jr_istore hX (by decide) rfl dX5_change_35 ?_
    refine jr_aload_n (i := 0) hX rfl rfl dX5_change_37 ?_
    refine jr_iload hX rfl dX5_change_38 ?_
    refine jr_if_ne hX (tgt := 47) (by decide) dX5_change_40 (fun c_40 => absurd c_40 (fun z => z rfl)) (fun c_40 => ?_)
    refine jr_iconst (v := 1) hX rfl dX5_change_43 ?_
    refine jr_goto hX (tgt := 64) (by decide) dX5_change_44 ?_
    refine jr_put (ci := 11) (k := 0) hX hxx rfl in_X5 (by decide) tyX5 tyX5_ok nmX5 q1730 rfl (by first | rfl | assumption) (by first | rfl | assumption) (Nat.le_of_ble_eq_true rfl) dX5_change_64 ?_
    refine jr_aload_n (i := 0) hX rfl rfl dX5_change_67 ?_
    refine jr_get (ci := 11) (k := 0) hX hx0 rfl in_X5 (by decide) q1730 rfl dX5_change_68 ?_
    refine jr_if_le hX (tgt := 76) (by decide) dX5_change_71 (fun c_71 => absurd c_71 (by decide)) (fun c_71 => ?_)
    refine jr_iconst (v := 0) hX rfl dX5_change_74 ?_
    exact jr_iret hX hlk hr ⟨rfl, hR0, jFm.pt (mo_t31 hR) (by decide)⟩ dX5_change_75
  · rw [show nI md = nI 111 from by rw [hmd9]]
    refine jr_iload_n (i := 1) hX rfl rfl dX5_change_0 ?_
    refine jr_bipush (v := 119) hX (by decide) dX5_change_1 ?_
    refine jr_icmp_eq hX (tgt := 18) (by decide) dX5_change_3 (fun c_3 => absurd c_3 (by decide)) (fun c_3 => ?_)
    refine jr_iload_n (i := 1) hX rfl rfl dX5_change_6 ?_
    refine jr_bipush (v := 109) hX (by decide) dX5_change_7 ?_
    refine jr_icmp_eq hX (tgt := 18) (by decide) dX5_change_9 (fun c_9 => absurd c_9 (by decide)) (fun c_9 => ?_)
    refine jr_iload_n (i := 1) hX rfl rfl dX5_change_12 ?_
    refine jr_bipush (v := 111) hX (by decide) dX5_change_13 ?_
    refine jr_icmp_ne hX (tgt := 34) (by decide) dX5_change_15 (fun c_15 => absurd c_15 (fun z => z rfl)) (fun c_15 => ?_)
    refine jr_iload hX rfl dX5_change_18 ?_
    refine jr_iconst (v := 1) hX rfl dX5_change_20 ?_
    refine jr_sipush (v := 200) hX (by decide) dX5_change_21 ?_
    refine jr_callS (As := [.int y, .int 1, .int 200]) (bc1 := (0)) (bs1 := (0)) hX (mm_in l D s0 b0 A _ y 1 200) (va_cwS 3 hX.ts (lw_S q1784 q1785 q78 q1786) rfl rfl rfl (by decide +kernel) ⟨Nat.le_of_ble_eq_true rfl, Nat.le_of_ble_eq_true rfl⟩) rfl (Nat.le_of_ble_eq_true rfl) (by first | omega | (dsimp only; omega) | (show _ ≤ _; simp only []; omega)) (by first | omega | (dsimp only; omega) | (show _ ≤ _; simp only []; omega)) rfl dX5_change_24 (fun v_24 G_24 hp_24 => ?_)
    obtain ⟨rfl, e9⟩ := hp_24
    rw [e9, decide_eq_false hin]
    refine jr_if_eq hX (tgt := 34) (by decide) dX5_change_27 (fun c_27 => ?_) (fun c_27 => absurd rfl c_27)
    refine jr_iconst (v := 0) hX rfl dX5_change_34 ?_
    refine jr_istore hX (by decide) rfl dX5_change_35 ?_
    refine jr_aload_n (i := 0) hX rfl rfl dX5_change_37 ?_
    refine jr_iload hX rfl dX5_change_38 ?_
    refine jr_if_ne hX (tgt := 47) (by decide) dX5_change_40 (fun c_40 => absurd c_40 (fun z => z rfl)) (fun c_40 => ?_)
    refine jr_iconst (v := 1) hX rfl dX5_change_43 ?_
    refine jr_goto hX (tgt := 64) (by decide) dX5_change_44 ?_
    refine jr_put (ci := 11) (k := 0) hX hxx rfl in_X5 (by decide) tyX5 tyX5_ok nmX5 q1730 rfl (by first | rfl | assumption) (by first | rfl | assumption) (Nat.le_of_ble_eq_true rfl) dX5_change_64 ?_
    refine jr_aload_n (i := 0) hX rfl rfl dX5_change_67 ?_
    refine jr_get (ci := 11) (k := 0) hX hx0 rfl in_X5 (by decide) q1730 rfl dX5_change_68 ?_
    refine jr_if_le hX (tgt := 76) (by decide) dX5_change_71 (fun c_71 => absurd c_71 (by decide)) (fun c_71 => ?_)
    refine jr_iconst (v := 0) hX rfl dX5_change_74 ?_
    exact jr_iret hX hlk hr ⟨rfl, hR0, jFm.pt (mo_t31 hR) (by decide)⟩ dX5_change_75

set_option maxHeartbeats 4000000 in
set_option maxRecDepth 100000 in
theorem mm_changeE3 (l : Launch) (D : va_G) (s0 : State) (b0 : Nat) (A : Nat → Prop) (G : jG) (S : sSt) (th : Nat) (ad : jN) (T : jT) (hR : jMo D s0 b0 th S ad T G) (md : Nat) (hmd : md = 119 ∨ md = 109 ∨ md = 111) (x1 x2 y : Int32) (hin : (1 : Int32) ≤ y ∧ y ≤ 200) (h30 : 30 ≤ (s_c S).length) (hcl : (s_c S).length < 10000) : jM l yX5_change (ws_ yX5_change cX5_change 7 (some .int)) (jR 4 0 0) D s0 b0 A G [.ref (ad 31 0 0), .int (nI md), .int x1, .int x2, .int y] (fun w G1 => w = some (.int 0) ∧ jMo D s0 b0 2 S ad T G1 ∧ jFm 31 60 T G T G1) := by
  have hxx := mo_x hR
  have hR0 := mo_wth hR 2
  have hx0 := mo_x hR0
  obtain ⟨moH, capH, eaH, hHL, -, hHc, hHt⟩ := mo_chs hR
  refine jM.of (by decide +kernel) (own := RX5) rfl (Nat.le_of_ble_eq_true rfl) ?_
  intro p e s m args below meth c hX hr hlk hnm
  rcases hmd with hmd9 | hmd9 | hmd9
  · rw [show nI md = nI 119 from by rw [hmd9]]
    refine jr_iload_n (i := 1) hX rfl rfl dX5_change_0 ?_
    refine jr_bipush (v := 119) hX (by decide) dX5_change_1 ?_
    refine jr_icmp_eq hX (tgt := 18) (by decide) dX5_change_3 (fun c_3 => ?_) (fun c_3 => absurd rfl c_3)
    refine jr_iload hX rfl dX5_change_18 ?_
    refine jr_iconst (v := 1) hX rfl dX5_change_20 ?_
    refine jr_sipush (v := 200) hX (by decide) dX5_change_21 ?_
    refine jr_callS (As := [.int y, .int 1, .int 200]) (bc1 := (0)) (bs1 := (0)) hX (mm_in l D s0 b0 A _ y 1 200) (va_cwS 3 hX.ts (lw_S q1784 q1785 q78 q1786) rfl rfl rfl (by decide +kernel) ⟨Nat.le_of_ble_eq_true rfl, Nat.le_of_ble_eq_true rfl⟩) rfl (Nat.le_of_ble_eq_true rfl) (by first | omega | (dsimp only; omega) | (show _ ≤ _; simp only []; omega)) (by first | omega | (dsimp only; omega) | (show _ ≤ _; simp only []; omega)) rfl dX5_change_24 (fun v_24 G_24 hp_24 => ?_)
    obtain ⟨rfl, e9⟩ := hp_24
    rw [e9, decide_eq_true hin]
    refine jr_if_eq hX (tgt := 34) (by decide) dX5_change_27 (fun c_27 => absurd c_27 (by decide)) (fun c_27 => ?_)
    refine jr_iconst (v := 1) hX rfl dX5_change_30 ?_
    refine jr_goto hX (tgt := 35) (by decide) dX5_change_31 ?_
    refine jr_istore hX (by decide) rfl dX5_change_35 ?_
    refine jr_aload_n (i := 0) hX rfl rfl dX5_change_37 ?_
    refine jr_iload hX rfl dX5_change_38 ?_
    refine jr_if_ne hX (tgt := 47) (by decide) dX5_change_40 (fun c_40 => ?_) (fun c_40 => absurd c_40 (by decide))
    refine jr_aload_n (i := 0) hX rfl rfl dX5_change_47 ?_
    refine jr_get (ci := 11) (k := 7) hX hxx rfl in_X5 (by decide) q1737 rfl dX5_change_48 ?_
    refine jr_callV (As := []) (bc1 := (0)) (bs1 := (0)) hX (met_size l D s0 b0 A _ (ad 32 3 0) (s_rg (s_c S).length (fun v => ad 48 v 0)) moH capH eaH hHL) (cwV 0 hX.ts (lw_V q1834 q410 q2205 q68 q412) rfl rfl rfl (by decide +kernel) ⟨Nat.le_of_ble_eq_true rfl, Nat.le_of_ble_eq_true rfl⟩) hHL.1 rfl rfl (Nat.le_of_ble_eq_true rfl) (by first | omega | (dsimp only; omega) | (show _ ≤ _; simp only []; omega)) (by first | omega | (dsimp only; omega) | (show _ ≤ _; simp only []; omega)) rfl dX5_change_51 (fun v_51 G_51 hp_51 => ?_)
    obtain ⟨rfl, e9⟩ := hp_51
    rw [e9, rg_len]
    refine jr_bipush (v := 30) hX (by decide) dX5_change_54 ?_
    refine jr_icmp_lt hX (tgt := 63) (by decide) dX5_change_56 (fun c_56 => absurd c_56 (nI_nlt (b := 30) h30 (by omega))) (fun c_56 => ?_)
    refine jr_iconst (v := 2) hX rfl dX5_change_59 ?_
    refine jr_goto hX (tgt := 64) (by decide) dX5_change_60 ?_
    refine jr_put (ci := 11) (k := 0) hX hxx rfl in_X5 (by decide) tyX5 tyX5_ok nmX5 q1730 rfl (by first | rfl | assumption) (by first | rfl | assumption) (Nat.le_of_ble_eq_true rfl) dX5_change_64 ?_
    refine jr_aload_n (i := 0) hX rfl rfl dX5_change_67 ?_
    refine jr_get (ci := 11) (k := 0) hX hx0 rfl in_X5 (by decide) q1730 rfl dX5_change_68 ?_
    refine jr_if_le hX (tgt := 76) (by decide) dX5_change_71 (fun c_71 => absurd c_71 (by decide)) (fun c_71 => ?_)
    refine jr_iconst (v := 0) hX rfl dX5_change_74 ?_
    exact jr_iret hX hlk hr ⟨rfl, hR0, jFm.pt (mo_t31 hR) (by decide)⟩ dX5_change_75
  · rw [show nI md = nI 109 from by rw [hmd9]]
    refine jr_iload_n (i := 1) hX rfl rfl dX5_change_0 ?_
    refine jr_bipush (v := 119) hX (by decide) dX5_change_1 ?_
    refine jr_icmp_eq hX (tgt := 18) (by decide) dX5_change_3 (fun c_3 => absurd c_3 (by decide)) (fun c_3 => ?_)
    refine jr_iload_n (i := 1) hX rfl rfl dX5_change_6 ?_
    refine jr_bipush (v := 109) hX (by decide) dX5_change_7 ?_
    refine jr_icmp_eq hX (tgt := 18) (by decide) dX5_change_9 (fun c_9 => ?_) (fun c_9 => absurd rfl c_9)
    refine jr_iload hX rfl dX5_change_18 ?_
    refine jr_iconst (v := 1) hX rfl dX5_change_20 ?_
    refine jr_sipush (v := 200) hX (by decide) dX5_change_21 ?_
    refine jr_callS (As := [.int y, .int 1, .int 200]) (bc1 := (0)) (bs1 := (0)) hX (mm_in l D s0 b0 A _ y 1 200) (va_cwS 3 hX.ts (lw_S q1784 q1785 q78 q1786) rfl rfl rfl (by decide +kernel) ⟨Nat.le_of_ble_eq_true rfl, Nat.le_of_ble_eq_true rfl⟩) rfl (Nat.le_of_ble_eq_true rfl) (by first | omega | (dsimp only; omega) | (show _ ≤ _; simp only []; omega)) (by first | omega | (dsimp only; omega) | (show _ ≤ _; simp only []; omega)) rfl dX5_change_24 (fun v_24 G_24 hp_24 => ?_)
    obtain ⟨rfl, e9⟩ := hp_24
    rw [e9, decide_eq_true hin]
    refine jr_if_eq hX (tgt := 34) (by decide) dX5_change_27 (fun c_27 => absurd c_27 (by decide)) (fun c_27 => ?_)
    refine jr_iconst (v := 1) hX rfl dX5_change_30 ?_
    refine jr_goto hX (tgt := 35) (by decide) dX5_change_31 ?_
    refine jr_istore hX (by decide) rfl dX5_change_35 ?_
    refine jr_aload_n (i := 0) hX rfl rfl dX5_change_37 ?_
    refine jr_iload hX rfl dX5_change_38 ?_
    refine jr_if_ne hX (tgt := 47) (by decide) dX5_change_40 (fun c_40 => ?_) (fun c_40 => absurd c_40 (by decide))
    refine jr_aload_n (i := 0) hX rfl rfl dX5_change_47 ?_
    refine jr_get (ci := 11) (k := 7) hX hxx rfl in_X5 (by decide) q1737 rfl dX5_change_48 ?_
    refine jr_callV (As := []) (bc1 := (0)) (bs1 := (0)) hX (met_size l D s0 b0 A _ (ad 32 3 0) (s_rg (s_c S).length (fun v => ad 48 v 0)) moH capH eaH hHL) (cwV 0 hX.ts (lw_V q1834 q410 q2205 q68 q412) rfl rfl rfl (by decide +kernel) ⟨Nat.le_of_ble_eq_true rfl, Nat.le_of_ble_eq_true rfl⟩) hHL.1 rfl rfl (Nat.le_of_ble_eq_true rfl) (by first | omega | (dsimp only; omega) | (show _ ≤ _; simp only []; omega)) (by first | omega | (dsimp only; omega) | (show _ ≤ _; simp only []; omega)) rfl dX5_change_51 (fun v_51 G_51 hp_51 => ?_)
    obtain ⟨rfl, e9⟩ := hp_51
    rw [e9, rg_len]
    refine jr_bipush (v := 30) hX (by decide) dX5_change_54 ?_
    refine jr_icmp_lt hX (tgt := 63) (by decide) dX5_change_56 (fun c_56 => absurd c_56 (nI_nlt (b := 30) h30 (by omega))) (fun c_56 => ?_)
    refine jr_iconst (v := 2) hX rfl dX5_change_59 ?_
    refine jr_goto hX (tgt := 64) (by decide) dX5_change_60 ?_
    refine jr_put (ci := 11) (k := 0) hX hxx rfl in_X5 (by decide) tyX5 tyX5_ok nmX5 q1730 rfl (by first | rfl | assumption) (by first | rfl | assumption) (Nat.le_of_ble_eq_true rfl) dX5_change_64 ?_
    refine jr_aload_n (i := 0) hX rfl rfl dX5_change_67 ?_
    refine jr_get (ci := 11) (k := 0) hX hx0 rfl in_X5 (by decide) q1730 rfl dX5_change_68 ?_
    refine jr_if_le hX (tgt := 76) (by decide) dX5_change_71 (fun c_71 => absurd c_71 (by decide)) (fun c_71 => ?_)
    refine jr_iconst (v := 0) hX rfl dX5_change_74 ?_
    exact jr_iret hX hlk hr ⟨rfl, hR0, jFm.pt (mo_t31 hR) (by decide)⟩ dX5_change_75
  · rw [show nI md = nI 111 from by rw [hmd9]]
    refine jr_iload_n (i := 1) hX rfl rfl dX5_change_0 ?_
    refine jr_bipush (v := 119) hX (by decide) dX5_change_1 ?_
    refine jr_icmp_eq hX (tgt := 18) (by decide) dX5_change_3 (fun c_3 => absurd c_3 (by decide)) (fun c_3 => ?_)
    refine jr_iload_n (i := 1) hX rfl rfl dX5_change_6 ?_
    refine jr_bipush (v := 109) hX (by decide) dX5_change_7 ?_
    refine jr_icmp_eq hX (tgt := 18) (by decide) dX5_change_9 (fun c_9 => absurd c_9 (by decide)) (fun c_9 => ?_)
    refine jr_iload_n (i := 1) hX rfl rfl dX5_change_12 ?_
    refine jr_bipush (v := 111) hX (by decide) dX5_change_13 ?_
    refine jr_icmp_ne hX (tgt := 34) (by decide) dX5_change_15 (fun c_15 => absurd c_15 (fun z => z rfl)) (fun c_15 => ?_)
    refine jr_iload hX rfl dX5_change_18 ?_
    refine jr_iconst (v := 1) hX rfl dX5_change_20 ?_
    refine jr_sipush (v := 200) hX (by decide) dX5_change_21 ?_
    refine jr_callS (As := [.int y, .int 1, .int 200]) (bc1 := (0)) (bs1 := (0)) hX (mm_in l D s0 b0 A _ y 1 200) (va_cwS 3 hX.ts (lw_S q1784 q1785 q78 q1786) rfl rfl rfl (by decide +kernel) ⟨Nat.le_of_ble_eq_true rfl, Nat.le_of_ble_eq_true rfl⟩) rfl (Nat.le_of_ble_eq_true rfl) (by first | omega | (dsimp only; omega) | (show _ ≤ _; simp only []; omega)) (by first | omega | (dsimp only; omega) | (show _ ≤ _; simp only []; omega)) rfl dX5_change_24 (fun v_24 G_24 hp_24 => ?_)
    obtain ⟨rfl, e9⟩ := hp_24
    rw [e9, decide_eq_true hin]
    refine jr_if_eq hX (tgt := 34) (by decide) dX5_change_27 (fun c_27 => absurd c_27 (by decide)) (fun c_27 => ?_)
    refine jr_iconst (v := 1) hX rfl dX5_change_30 ?_
    refine jr_goto hX (tgt := 35) (by decide) dX5_change_31 ?_
    refine jr_istore hX (by decide) rfl dX5_change_35 ?_
    refine jr_aload_n (i := 0) hX rfl rfl dX5_change_37 ?_
    refine jr_iload hX rfl dX5_change_38 ?_
    refine jr_if_ne hX (tgt := 47) (by decide) dX5_change_40 (fun c_40 => ?_) (fun c_40 => absurd c_40 (by decide))
    refine jr_aload_n (i := 0) hX rfl rfl dX5_change_47 ?_
    refine jr_get (ci := 11) (k := 7) hX hxx rfl in_X5 (by decide) q1737 rfl dX5_change_48 ?_
    refine jr_callV (As := []) (bc1 := (0)) (bs1 := (0)) hX (met_size l D s0 b0 A _ (ad 32 3 0) (s_rg (s_c S).length (fun v => ad 48 v 0)) moH capH eaH hHL) (cwV 0 hX.ts (lw_V q1834 q410 q2205 q68 q412) rfl rfl rfl (by decide +kernel) ⟨Nat.le_of_ble_eq_true rfl, Nat.le_of_ble_eq_true rfl⟩) hHL.1 rfl rfl (Nat.le_of_ble_eq_true rfl) (by first | omega | (dsimp only; omega) | (show _ ≤ _; simp only []; omega)) (by first | omega | (dsimp only; omega) | (show _ ≤ _; simp only []; omega)) rfl dX5_change_51 (fun v_51 G_51 hp_51 => ?_)
    obtain ⟨rfl, e9⟩ := hp_51
    rw [e9, rg_len]
    refine jr_bipush (v := 30) hX (by decide) dX5_change_54 ?_
    refine jr_icmp_lt hX (tgt := 63) (by decide) dX5_change_56 (fun c_56 => absurd c_56 (nI_nlt (b := 30) h30 (by omega))) (fun c_56 => ?_)
    refine jr_iconst (v := 2) hX rfl dX5_change_59 ?_
    refine jr_goto hX (tgt := 64) (by decide) dX5_change_60 ?_
    refine jr_put (ci := 11) (k := 0) hX hxx rfl in_X5 (by decide) tyX5 tyX5_ok nmX5 q1730 rfl (by first | rfl | assumption) (by first | rfl | assumption) (Nat.le_of_ble_eq_true rfl) dX5_change_64 ?_
    refine jr_aload_n (i := 0) hX rfl rfl dX5_change_67 ?_
    refine jr_get (ci := 11) (k := 0) hX hx0 rfl in_X5 (by decide) q1730 rfl dX5_change_68 ?_
    refine jr_if_le hX (tgt := 76) (by decide) dX5_change_71 (fun c_71 => absurd c_71 (by decide)) (fun c_71 => ?_)
    refine jr_iconst (v := 0) hX rfl dX5_change_74 ?_
    exact jr_iret hX hlk hr ⟨rfl, hR0, jFm.pt (mo_t31 hR) (by decide)⟩ dX5_change_75
