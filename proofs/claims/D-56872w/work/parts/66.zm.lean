/-! release, change, against -/
def s_rel (S : sSt) (i : Nat) : sSt := s_look (s_st S i 114)
theorem rel_W {S : sSt} {i : Nat} (h : sW S) (hi : i < 3) (hs : (s_s S i).1 = 119) : sW (s_st S i 114) := by
  have h3 := h.2.2.1 i hi
  exact sW_st h (by decide) h3.2.1 (fun n t ht => h3.2.2 n t ht) ⟨fun _ => (h.2.2.2.2.2.2.1 i hi).mp (by rw [hs]; rfl), fun _ => rfl⟩
def s_chg (S : sSt) (md : Nat) (b o : Bool) (pat : Nat) : sSt := s_look (s_ask S md b o pat (s_q S).length)

set_option maxHeartbeats 4000000 in
set_option maxRecDepth 100000 in
theorem met_releaseC (l : Launch) (D : va_G) (s0 : State) (b0 : Nat) (A : Nat → Prop) (G : jG) (S : sSt) (ad : jN) (T : jT) (hR : jCo D s0 b0 S ad T G) (hW : sW S) (i : Nat) (hi3 : i < 3) (hs9 : (s_s S i).1 = 119) : jM l yX1_release (ws_ yX1_release cX1_release 3 (some .int)) (jR 16 ((29 + 207 * ((s_q S).length - (s_q (s_rel S i)).length))) ((114 + 826 * ((s_q S).length - (s_q (s_rel S i)).length)))) D s0 b0 A G [.ref (ad 1 0 0), .int (nI i)] (fun w G1 => w = some (.int (nI (s_s S i).2.length)) ∧ ∃ (ad1 : jN) (T1 : jT), jCo D s0 b0 (s_rel S i) ad1 T1 G1 ∧ jFm 1 30 T G T1 G1 ∧ ∀ k i j, k < 8 → ad1 k i j = ad k i j) := by
  have hxx := co_x hR
  have hst := co_str hR hi3
  have hR1 : jCo D s0 b0 (s_st S i 114) ad T _ := co_wst hR hi3 114
  have hF1 := jFm.pt (T := T) (G := G) (lo := 1) (hi := 30) (c := jo 3 [.ref (ad 6 i 0), .int (nI 114)]) (hR.t (k := 5) (i := i) (j := 0) (s := .inl (jo 3 [.ref (ad 6 i 0), .int (nI (s_s S i).1)])) (by show (if i < 3 ∧ 0 = 0 then _ else none) = _; rw [if_pos ⟨hi3, rfl⟩])) (by decide)
  refine jM.of (by decide +kernel) (own := RX1) rfl (Nat.le_of_ble_eq_true rfl) ?_
  intro p e s m args below meth c hX hr hlk hnm
  refine jr_aload_n (i := 0) hX rfl rfl dX1_release_0 ?_
  refine jr_iload_n (i := 1) hX rfl rfl dX1_release_1 ?_
  refine jr_callV (As := [.int (nI i)]) (bc1 := ((29 + 207 * ((s_q S).length - (s_q (s_rel S i)).length)))) (bs1 := ((114 + 826 * ((s_q S).length - (s_q (s_rel S i)).length)))) hX (met_strandAt l D s0 b0 A _ S ad T hR i hi3) (cwV 1 hX.ts (lw_V q943 q945 qs8 q65 q946) rfl rfl rfl (by decide +kernel) ⟨Nat.le_of_ble_eq_true rfl, Nat.le_of_ble_eq_true rfl⟩) hxx rfl rfl (Nat.le_of_ble_eq_true rfl) (by first | omega | (dsimp only; omega) | (show _ ≤ _; simp only []; omega)) (by first | omega | (dsimp only; omega) | (show _ ≤ _; simp only []; omega)) rfl dX1_release_2 (fun v_2 G_2 hp_2 => ?_)
  obtain ⟨rfl, e9⟩ := hp_2
  rw [e9]
  refine jr_astore_n (i := 2) hX rfl (by decide) rfl dX1_release_5 ?_
  refine jr_aload_n (i := 2) hX rfl rfl dX1_release_6 ?_
  refine jr_getN (ci := 3) (k := 1) hX hst rfl in_X2 (by decide) q161 rfl dX1_release_7 ?_
  refine jr_bipush (v := 119) hX (by decide) dX1_release_10 ?_
  refine jr_icmp_ne hX (tgt := 19) (by decide) dX1_release_12 (fun c_12 => absurd c_12 (fun h => h (by rw [hs9]; rfl))) (fun c_12 => ?_)
  refine jr_iconst (v := 1) hX rfl dX1_release_15 ?_
  refine jr_goto hX (tgt := 20) (by decide) dX1_release_16 ?_
  refine jr_callS (As := [.int 1]) (bc1 := ((29 + 207 * ((s_q S).length - (s_q (s_rel S i)).length)))) (bs1 := ((114 + 826 * ((s_q S).length - (s_q (s_rel S i)).length)))) hX (met_requireState l D s0 b0 A _ ) (va_cwS 1 hX.ts (lw_S q584 q585 q65 q586) rfl rfl rfl (by decide +kernel) ⟨Nat.le_of_ble_eq_true rfl, Nat.le_of_ble_eq_true rfl⟩) rfl (Nat.le_of_ble_eq_true rfl) (by first | omega | (dsimp only; omega) | (show _ ≤ _; simp only []; omega)) (by first | omega | (dsimp only; omega) | (show _ ≤ _; simp only []; omega)) rfl dX1_release_20 (fun v_20 G_20 hp_20 => ?_)
  obtain ⟨rfl, e9⟩ := hp_20
  rw [e9]
  refine jr_aload_n (i := 2) hX rfl rfl dX1_release_23 ?_
  refine jr_bipush (v := 114) hX (by decide) dX1_release_24 ?_
  refine jr_putN (ci := 3) (k := 1) hX hst rfl in_X2 (by decide) tyX2 tyX2_ok nmX2 q161 rfl (by first | rfl | assumption) (by first | rfl | assumption) (Nat.le_of_ble_eq_true rfl) dX1_release_26 ?_
  refine jr_aload_n (i := 0) hX rfl rfl dX1_release_29 ?_
  have he1 : (s_q (s_look (s_st S i 114))).length = (s_q (s_rel S i)).length := rfl
  have he2 : (s_q (s_st S i 114)).length = (s_q S).length := rfl
  refine jr_callV (As := []) (bc1 := (0)) (bs1 := (0)) hX (met_look l D s0 b0 A _ (s_st S i 114) ad T hR1 (rel_W hW hi3 hs9)) (cwV 0 hX.ts (lw_V q986 q988 qs9 q65 q989) rfl rfl rfl (by decide +kernel) ⟨Nat.le_of_ble_eq_true rfl, Nat.le_of_ble_eq_true rfl⟩) (co_x hR1) rfl rfl (Nat.le_of_ble_eq_true rfl) (by first | omega | (dsimp only; omega) | (show _ ≤ _; simp only []; omega)) (by first | omega | (dsimp only; omega) | (show _ ≤ _; simp only []; omega)) rfl dX1_release_30 (fun v_30 G_30 hp_30 => ?_)
  obtain ⟨rfl, ad4, T4, g1, g2, g3⟩ := hp_30
  rw [show ad 5 i 0 = ad4 5 i 0 from (g3 5 i 0 (by decide)).symm]
  obtain ⟨moF, capF, eaF, hFL, -, -, -⟩ := co_frl g1 hi3
  have hl9 : (s_s (s_look (s_st S i 114)) i).2.length = (s_s S i).2.length := by
    rw [((look_kp (s_st S i 114)).2.1 i).2]
    show (sup (s_s S) i _ i).2.length = _
    rw [sup_s]
  refine jr_aload_n (i := 2) hX rfl rfl dX1_release_33 ?_
  refine jr_getN (ci := 3) (k := 0) hX (co_str g1 hi3) rfl in_X2 (by decide) q159 rfl dX1_release_34 ?_
  refine jr_callF (As := []) (bc1 := (0)) (bs1 := (0)) hX (met_size l D s0 b0 A _ (ad4 6 i 0) (s_rg (s_s (s_look (s_st S i 114)) i).2.length (fun q => ad4 8 i q)) moF capF eaF hFL) (va_cwF 0 hX.ts (lw_F q405 q408 q410 q68 q412) rfl rfl rfl (hX.S.fw ⟨by decide +kernel, by decide +kernel⟩ q407 q406 q411 q409 q183) (by decide +kernel) ⟨Nat.le_of_ble_eq_true rfl, Nat.le_of_ble_eq_true rfl⟩) hFL.1 rfl rfl (Nat.le_of_ble_eq_true rfl) (by first | omega | (dsimp only; omega) | (show _ ≤ _; simp only []; omega)) (by first | omega | (dsimp only; omega) | (show _ ≤ _; simp only []; omega)) rfl dX1_release_37 (fun v_37 G_37 hp_37 => ?_)
  obtain ⟨rfl, e9⟩ := hp_37
  rw [e9, rg_len, hl9]
  exact jr_iret hX hlk hr ⟨rfl, ad4, T4, g1, hF1.trans g2, fun k i j hk => g3 k i j (by omega)⟩ dX1_release_42

set_option maxHeartbeats 4000000 in
set_option maxRecDepth 100000 in
theorem met_changeC (l : Launch) (D : va_G) (s0 : State) (b0 : Nat) (A : Nat → Prop) (G : jG) (S : sSt) (ad : jN) (T : jT) (hR : jCo D s0 b0 S ad T G) (hW : sW S) (md : Nat) (b o : Bool) (pat : Nat) (hmd : md = 119 ∨ md = 109 ∨ md = 111) (hp1 : 1 ≤ pat) (hp2 : pat ≤ 200) (hc30 : (s_c S).length < 30) (hn : s_n S < 900000) : jM l yX1_change (ws_ yX1_change cX1_change 6 (some .int)) (jR 16 ((32 + 207 * ((s_q S).length + 1 - (s_q (s_chg S md b o pat)).length))) ((419 + 826 * ((s_q S).length + 1 - (s_q (s_chg S md b o pat)).length)))) D s0 b0 A G [.ref (ad 1 0 0), .int (nI md), .int (jbz b), .int (jbz o), .int (nI pat)] (fun w G1 => w = some (.int (nI (s_c S).length)) ∧ ∃ (ad1 : jN) (T1 : jT), jCo D s0 b0 (s_chg S md b o pat) ad1 T1 G1 ∧ jFm 1 30 T G T1 G1 ∧ ∀ k i j, k < 8 → ad1 k i j = ad k i j) := by
  have hxx := co_x hR
  have hqS := sW_ql hW
  obtain ⟨moH, capH, eaH, hHL, -, -, -⟩ := co_chs hR
  obtain ⟨moQ, capQ, eaQ, hQL, -, -, -⟩ := co_que hR
  have hm3 : ∀ z : Nat, z < 1000 → (md = z ↔ nI md = nI z) := fun z hz => (nI_eq (by omega) (by omega)).symm
  refine jM.of (by decide +kernel) (own := RX1) rfl (Nat.le_of_ble_eq_true rfl) ?_
  intro p e s m args below meth c hX hr hlk hnm
  refine jr_iload_n (i := 1) hX rfl rfl dX1_change_0 ?_
  refine jr_bipush (v := 119) hX (by decide) dX1_change_1 ?_
  refine jr_icmp_eq hX (tgt := 18) (by decide) dX1_change_3 (fun c_3 => ?_) (fun c_3 => ?_)
  · have cont : Jg p l e (jR 16 (32 + 207 * ((s_q S).length + 1 - (s_q (s_chg S md b o pat)).length)) (419 + 826 * ((s_q S).length + 1 - (s_q (s_chg S md b o pat)).length))) s m args below meth c (MQ below (jQ D A (fun w G1 => w = some (.int (nI (s_c S).length)) ∧ ∃ (ad1 : jN) (T1 : jT), jCo D s0 b0 (s_chg S md b o pat) ad1 T1 G1 ∧ jFm 1 30 T G T1 G1 ∧ ∀ k i j, k < 8 → ad1 k i j = ad k i j)) args s (32 + 207 * ((s_q S).length + 1 - (s_q (s_chg S md b o pat)).length)) (419 + 826 * ((s_q S).length + 1 - (s_q (s_chg S md b o pat)).length)) A) D A 6 G (32 + 207 * ((s_q S).length + 1 - (s_q (s_chg S md b o pat)).length)) (419 + 826 * ((s_q S).length + 1 - (s_q (s_chg S md b o pat)).length)) 18 [(1, .int (nI md)), (2, .int (jbz b)), (3, .int (jbz o)), (4, .int (nI pat)), (0, .ref (ad 1 0 0))] [] := by
      refine jr_iload hX rfl dX1_change_18 ?_
      refine jr_iconst (v := 1) hX rfl dX1_change_20 ?_
      refine jr_sipush (v := 200) hX (by decide) dX1_change_21 ?_
      refine jr_callS (As := [.int (nI pat), .int 1, .int 200]) (bc1 := (32 + 207 * ((s_q S).length + 1 - (s_q (s_chg S md b o pat)).length))) (bs1 := (419 + 826 * ((s_q S).length + 1 - (s_q (s_chg S md b o pat)).length))) hX (met_isIn l D s0 b0 A _ (nI pat) 1 200) (va_cwS 3 hX.ts (lw_S q453 q454 q65 q455) rfl rfl rfl (by decide +kernel) ⟨Nat.le_of_ble_eq_true rfl, Nat.le_of_ble_eq_true rfl⟩) rfl (Nat.le_of_ble_eq_true rfl) (by first | omega | (dsimp only; omega) | (show _ ≤ _; simp only []; omega)) (by first | omega | (dsimp only; omega) | (show _ ≤ _; simp only []; omega)) rfl dX1_change_24 (fun v_24 G_24 hp_24 => ?_)
      obtain ⟨rfl, e9⟩ := hp_24
      rw [e9, jdt (p := (1 : Int32) ≤ nI pat ∧ nI pat ≤ 200) ⟨nI_le (a := 1) (by omega) (by omega), nI_le (b := 200) (by omega) (by omega)⟩]
      refine jr_if_eq hX (tgt := 34) (by decide) dX1_change_27 (fun c_27 => absurd c_27 (by decide)) (fun c_27 => ?_)
      refine jr_iconst (v := 1) hX rfl dX1_change_30 ?_
      refine jr_goto hX (tgt := 35) (by decide) dX1_change_31 ?_
      refine jr_callS (As := [.int 1]) (bc1 := (32 + 207 * ((s_q S).length + 1 - (s_q (s_chg S md b o pat)).length))) (bs1 := (419 + 826 * ((s_q S).length + 1 - (s_q (s_chg S md b o pat)).length))) hX (met_requireValid l D s0 b0 A _ ) (va_cwS 1 hX.ts (lw_S q456 q457 q65 q458) rfl rfl rfl (by decide +kernel) ⟨Nat.le_of_ble_eq_true rfl, Nat.le_of_ble_eq_true rfl⟩) rfl (Nat.le_of_ble_eq_true rfl) (by first | omega | (dsimp only; omega) | (show _ ≤ _; simp only []; omega)) (by first | omega | (dsimp only; omega) | (show _ ≤ _; simp only []; omega)) rfl dX1_change_35 (fun v_35 G_35 hp_35 => ?_)
      obtain ⟨rfl, e9⟩ := hp_35
      rw [e9]
      refine jr_aload_n (i := 0) hX rfl rfl dX1_change_38 ?_
      refine jr_get (ci := 2) (k := 3) hX hxx rfl in_X1 (by decide) q366 rfl dX1_change_39 ?_
      refine jr_callF (As := []) (bc1 := (32 + 207 * ((s_q S).length + 1 - (s_q (s_chg S md b o pat)).length))) (bs1 := (419 + 826 * ((s_q S).length + 1 - (s_q (s_chg S md b o pat)).length))) hX (met_size l D s0 b0 A _ (ad 2 2 0) (s_rg (s_c S).length (fun v => ad 18 v 0)) moH capH eaH hHL) (va_cwF 0 hX.ts (lw_F q405 q408 q410 q68 q412) rfl rfl rfl (hX.S.fw ⟨by decide +kernel, by decide +kernel⟩ q407 q406 q411 q409 q183) (by decide +kernel) ⟨Nat.le_of_ble_eq_true rfl, Nat.le_of_ble_eq_true rfl⟩) hHL.1 rfl rfl (Nat.le_of_ble_eq_true rfl) (by first | omega | (dsimp only; omega) | (show _ ≤ _; simp only []; omega)) (by first | omega | (dsimp only; omega) | (show _ ≤ _; simp only []; omega)) rfl dX1_change_42 (fun v_42 G_42 hp_42 => ?_)
      obtain ⟨rfl, e9⟩ := hp_42
      rw [e9, rg_len]
      refine jr_bipush (v := 30) hX (by decide) dX1_change_47 ?_
      refine jr_icmp_ge hX (tgt := 56) (by decide) dX1_change_49 (fun c_49 => absurd c_49 (nI_ge (b := 30) hc30 (by omega))) (fun c_49 => ?_)
      refine jr_iconst (v := 1) hX rfl dX1_change_52 ?_
      refine jr_goto hX (tgt := 57) (by decide) dX1_change_53 ?_
      refine jr_callS (As := [.int 1]) (bc1 := (32 + 207 * ((s_q S).length + 1 - (s_q (s_chg S md b o pat)).length))) (bs1 := (419 + 826 * ((s_q S).length + 1 - (s_q (s_chg S md b o pat)).length))) hX (met_requireState l D s0 b0 A _ ) (va_cwS 1 hX.ts (lw_S q584 q585 q65 q586) rfl rfl rfl (by decide +kernel) ⟨Nat.le_of_ble_eq_true rfl, Nat.le_of_ble_eq_true rfl⟩) rfl (Nat.le_of_ble_eq_true rfl) (by first | omega | (dsimp only; omega) | (show _ ≤ _; simp only []; omega)) (by first | omega | (dsimp only; omega) | (show _ ≤ _; simp only []; omega)) rfl dX1_change_57 (fun v_57 G_57 hp_57 => ?_)
      obtain ⟨rfl, e9⟩ := hp_57
      rw [e9]
      refine jr_aload_n (i := 0) hX rfl rfl dX1_change_60 ?_
      refine jr_iload_n (i := 1) hX rfl rfl dX1_change_61 ?_
      refine jr_iload_n (i := 2) hX rfl rfl dX1_change_62 ?_
      refine jr_iload_n (i := 3) hX rfl rfl dX1_change_63 ?_
      refine jr_iload hX rfl dX1_change_64 ?_
      refine jr_aload_n (i := 0) hX rfl rfl dX1_change_66 ?_
      refine jr_get (ci := 2) (k := 4) hX hxx rfl in_X1 (by decide) q367 rfl dX1_change_67 ?_
      refine jr_callF (As := []) (bc1 := (32 + 207 * ((s_q S).length + 1 - (s_q (s_chg S md b o pat)).length))) (bs1 := (419 + 826 * ((s_q S).length + 1 - (s_q (s_chg S md b o pat)).length))) hX (met_size l D s0 b0 A _ (ad 2 3 0) ((s_q S).map (fun v => ad 18 v 0)) moQ capQ eaQ hQL) (va_cwF 0 hX.ts (lw_F q405 q408 q410 q68 q412) rfl rfl rfl (hX.S.fw ⟨by decide +kernel, by decide +kernel⟩ q407 q406 q411 q409 q183) (by decide +kernel) ⟨Nat.le_of_ble_eq_true rfl, Nat.le_of_ble_eq_true rfl⟩) hQL.1 rfl rfl (Nat.le_of_ble_eq_true rfl) (by first | omega | (dsimp only; omega) | (show _ ≤ _; simp only []; omega)) (by first | omega | (dsimp only; omega) | (show _ ≤ _; simp only []; omega)) rfl dX1_change_70 (fun v_70 G_70 hp_70 => ?_)
      obtain ⟨rfl, e9⟩ := hp_70
      rw [e9, List.length_map]
      refine jr_callV (As := [.int (nI md), .int (jbz b), .int (jbz o), .int (nI pat), .int (nI (s_q S).length)]) (bc1 := ((32 + 207 * ((s_q S).length + 1 - (s_q (s_chg S md b o pat)).length)) - 3)) (bs1 := ((419 + 826 * ((s_q S).length + 1 - (s_q (s_chg S md b o pat)).length)) - 305)) hX (met_ask l D s0 b0 A _ S ad T hR hW.2.2.2.2.2.1.2.1 (by omega) (by omega) md b o pat (s_q S).length (by omega) (by omega) (Nat.le_refl _)) (cwV 5 hX.ts (lw_V q1211 q1213 qs31 q65 q1214) rfl rfl rfl (by decide +kernel) ⟨Nat.le_of_ble_eq_true rfl, Nat.le_of_ble_eq_true rfl⟩) hxx rfl rfl (Nat.le_of_ble_eq_true rfl) (by first | omega | (dsimp only; omega) | (show _ ≤ _; simp only []; omega)) (by first | omega | (dsimp only; omega) | (show _ ≤ _; simp only []; omega)) rfl dX1_change_75 (fun v_75 G_75 hp_75 => ?_)
      obtain ⟨ad1, T1, rfl, g1, g2, g3⟩ := hp_75
      have hWA : sW (s_ask S md b o pat (s_q S).length) := sW_ask hW (by omega) (by omega)
      have hxx1 := co_x g1
      rw [show ad 1 0 0 = ad1 1 0 0 from (g3 1 0 0 (by omega)).symm]
      refine jr_astore hX (by decide) rfl dX1_change_78 ?_
      refine jr_aload_n (i := 0) hX rfl rfl dX1_change_80 ?_
      have he1 : (s_q (s_look (s_ask S md b o pat (s_q S).length))).length = (s_q (s_chg S md b o pat)).length := rfl
      have he2 : (s_q (s_ask S md b o pat (s_q S).length)).length = (s_q S).length + 1 := by show ((s_q S).take _ ++ _ :: (s_q S).drop _).length = _; rw [List.length_append, List.length_cons, List.length_take, List.length_drop]; omega
      refine jr_callV (As := []) (bc1 := (0)) (bs1 := (0)) hX (met_look l D s0 b0 A _ (s_ask S md b o pat (s_q S).length) ad1 T1 g1 hWA) (cwV 0 hX.ts (lw_V q986 q988 qs9 q65 q989) rfl rfl rfl (by decide +kernel) ⟨Nat.le_of_ble_eq_true rfl, Nat.le_of_ble_eq_true rfl⟩) hxx1 rfl rfl (Nat.le_of_ble_eq_true rfl) (by first | omega | (dsimp only; omega) | (show _ ≤ _; simp only []; omega)) (by first | omega | (dsimp only; omega) | (show _ ≤ _; simp only []; omega)) rfl dX1_change_81 (fun v_81 G_81 hp_81 => ?_)
      obtain ⟨rfl, ad4, T4, k1, k2, k3⟩ := hp_81
      rw [show ad1 1 0 0 = ad4 1 0 0 from (k3 1 0 0 (by decide)).symm, show ad1 18 (s_c S).length 0 = ad4 18 (s_c S).length 0 from (k3 18 _ 0 (by decide)).symm]
      obtain ⟨moK, capK, eaK, hKL, -, -, -⟩ := co_chs k1
      have hlc : (s_c (s_look (s_ask S md b o pat (s_q S).length))).length = (s_c S).length + 1 := by rw [(look_kp _).2.2.2.2.1]; show (s_c S ++ [_]).length = _; rw [List.length_append]; rfl
      obtain ⟨cz, hcz⟩ : ∃ cz, (s_c (s_look (s_ask S md b o pat (s_q S).length)))[(s_c S).length]? = some cz := ⟨_, List.getElem?_eq_getElem (by omega)⟩
      refine jr_aload_n (i := 0) hX rfl rfl dX1_change_84 ?_
      refine jr_get (ci := 2) (k := 3) hX (co_x k1) rfl in_X1 (by decide) q366 rfl dX1_change_85 ?_
      refine jr_aload hX rfl dX1_change_88 ?_
      have h18 : ∀ j, j < (s_c S).length → ad4 18 j 0 ≠ ad4 18 (s_c S).length 0 := fun j hj z => by
        obtain ⟨cj, hcj⟩ : ∃ cj, (s_c (s_look (s_ask S md b o pat (s_q S).length)))[j]? = some cj := ⟨_, List.getElem?_eq_getElem (by omega)⟩
        have z1 := co_t18 k1 hcj
        have z2 := co_t18 k1 hcz
        rw [z, z2] at z1
        simp only [Prod.mk.injEq] at z1
        omega
      refine jr_callF (As := [.ref (ad4 18 (s_c S).length 0)]) (bc1 := (0)) (bs1 := (0)) hX (met_indexOf l D s0 b0 A _ (ad4 2 2 0) (s_rg (s_c (s_look (s_ask S md b o pat (s_q S).length))).length (fun v => ad4 18 v 0)) moK capK eaK hKL (ad4 18 (s_c S).length 0) 8 _ RX16 TX16 5 (co_ch k1 hcz) rfl q782 (s_c S).length (rg_at (by omega)) (fun j hj z => by rw [rg_at (by omega)] at z; exact h18 j hj (Option.some.inj z))) (va_cwF 1 hX.ts (lw_F q1536 q1539 q1541 q68 q1543) rfl rfl rfl (hX.S.fw ⟨by decide +kernel, by decide +kernel⟩ q1538 q1537 q1542 q1540 q183) (by decide +kernel) ⟨Nat.le_of_ble_eq_true rfl, Nat.le_of_ble_eq_true rfl⟩) hKL.1 rfl rfl (Nat.le_of_ble_eq_true rfl) (by first | omega | (dsimp only; omega) | (show _ ≤ _; simp only []; omega)) (by first | omega | (dsimp only; omega) | (show _ ≤ _; simp only []; omega)) rfl dX1_change_90 (fun v_90 G_90 hp_90 => ?_)
      obtain ⟨rfl, e9⟩ := hp_90
      rw [e9]
      exact jr_iret hX hlk hr ⟨rfl, ad4, T4, k1, g2.trans k2, fun k i j hk => (k3 k i j (by omega)).trans (g3 k i j (by omega))⟩ dX1_change_95
    refine jr_lvm [(1, .int (nI md)), (2, .int (jbz b)), (3, .int (jbz o)), (4, .int (nI pat)), (0, .ref (ad 1 0 0))] rfl ?_
    exact cont
  · refine jr_iload_n (i := 1) hX rfl rfl dX1_change_6 ?_
    refine jr_bipush (v := 109) hX (by decide) dX1_change_7 ?_
    refine jr_icmp_eq hX (tgt := 18) (by decide) dX1_change_9 (fun c_9 => ?_) (fun c_9 => ?_)
    · have cont : Jg p l e (jR 16 (32 + 207 * ((s_q S).length + 1 - (s_q (s_chg S md b o pat)).length)) (419 + 826 * ((s_q S).length + 1 - (s_q (s_chg S md b o pat)).length))) s m args below meth c (MQ below (jQ D A (fun w G1 => w = some (.int (nI (s_c S).length)) ∧ ∃ (ad1 : jN) (T1 : jT), jCo D s0 b0 (s_chg S md b o pat) ad1 T1 G1 ∧ jFm 1 30 T G T1 G1 ∧ ∀ k i j, k < 8 → ad1 k i j = ad k i j)) args s (32 + 207 * ((s_q S).length + 1 - (s_q (s_chg S md b o pat)).length)) (419 + 826 * ((s_q S).length + 1 - (s_q (s_chg S md b o pat)).length)) A) D A 6 G (32 + 207 * ((s_q S).length + 1 - (s_q (s_chg S md b o pat)).length)) (419 + 826 * ((s_q S).length + 1 - (s_q (s_chg S md b o pat)).length)) 18 [(1, .int (nI md)), (2, .int (jbz b)), (3, .int (jbz o)), (4, .int (nI pat)), (0, .ref (ad 1 0 0))] [] := by
        refine jr_iload hX rfl dX1_change_18 ?_
        refine jr_iconst (v := 1) hX rfl dX1_change_20 ?_
        refine jr_sipush (v := 200) hX (by decide) dX1_change_21 ?_
        refine jr_callS (As := [.int (nI pat), .int 1, .int 200]) (bc1 := (32 + 207 * ((s_q S).length + 1 - (s_q (s_chg S md b o pat)).length))) (bs1 := (419 + 826 * ((s_q S).length + 1 - (s_q (s_chg S md b o pat)).length))) hX (met_isIn l D s0 b0 A _ (nI pat) 1 200) (va_cwS 3 hX.ts (lw_S q453 q454 q65 q455) rfl rfl rfl (by decide +kernel) ⟨Nat.le_of_ble_eq_true rfl, Nat.le_of_ble_eq_true rfl⟩) rfl (Nat.le_of_ble_eq_true rfl) (by first | omega | (dsimp only; omega) | (show _ ≤ _; simp only []; omega)) (by first | omega | (dsimp only; omega) | (show _ ≤ _; simp only []; omega)) rfl dX1_change_24 (fun v_24 G_24 hp_24 => ?_)
        obtain ⟨rfl, e9⟩ := hp_24
        rw [e9, jdt (p := (1 : Int32) ≤ nI pat ∧ nI pat ≤ 200) ⟨nI_le (a := 1) (by omega) (by omega), nI_le (b := 200) (by omega) (by omega)⟩]
        refine jr_if_eq hX (tgt := 34) (by decide) dX1_change_27 (fun c_27 => absurd c_27 (by decide)) (fun c_27 => ?_)
        refine jr_iconst (v := 1) hX rfl dX1_change_30 ?_
        refine jr_goto hX (tgt := 35) (by decide) dX1_change_31 ?_
        refine jr_callS (As := [.int 1]) (bc1 := (32 + 207 * ((s_q S).length + 1 - (s_q (s_chg S md b o pat)).length))) (bs1 := (419 + 826 * ((s_q S).length + 1 - (s_q (s_chg S md b o pat)).length))) hX (met_requireValid l D s0 b0 A _ ) (va_cwS 1 hX.ts (lw_S q456 q457 q65 q458) rfl rfl rfl (by decide +kernel) ⟨Nat.le_of_ble_eq_true rfl, Nat.le_of_ble_eq_true rfl⟩) rfl (Nat.le_of_ble_eq_true rfl) (by first | omega | (dsimp only; omega) | (show _ ≤ _; simp only []; omega)) (by first | omega | (dsimp only; omega) | (show _ ≤ _; simp only []; omega)) rfl dX1_change_35 (fun v_35 G_35 hp_35 => ?_)
        obtain ⟨rfl, e9⟩ := hp_35
        rw [e9]
        refine jr_aload_n (i := 0) hX rfl rfl dX1_change_38 ?_
        refine jr_get (ci := 2) (k := 3) hX hxx rfl in_X1 (by decide) q366 rfl dX1_change_39 ?_
        refine jr_callF (As := []) (bc1 := (32 + 207 * ((s_q S).length + 1 - (s_q (s_chg S md b o pat)).length))) (bs1 := (419 + 826 * ((s_q S).length + 1 - (s_q (s_chg S md b o pat)).length))) hX (met_size l D s0 b0 A _ (ad 2 2 0) (s_rg (s_c S).length (fun v => ad 18 v 0)) moH capH eaH hHL) (va_cwF 0 hX.ts (lw_F q405 q408 q410 q68 q412) rfl rfl rfl (hX.S.fw ⟨by decide +kernel, by decide +kernel⟩ q407 q406 q411 q409 q183) (by decide +kernel) ⟨Nat.le_of_ble_eq_true rfl, Nat.le_of_ble_eq_true rfl⟩) hHL.1 rfl rfl (Nat.le_of_ble_eq_true rfl) (by first | omega | (dsimp only; omega) | (show _ ≤ _; simp only []; omega)) (by first | omega | (dsimp only; omega) | (show _ ≤ _; simp only []; omega)) rfl dX1_change_42 (fun v_42 G_42 hp_42 => ?_)
        obtain ⟨rfl, e9⟩ := hp_42
        rw [e9, rg_len]
        refine jr_bipush (v := 30) hX (by decide) dX1_change_47 ?_
        refine jr_icmp_ge hX (tgt := 56) (by decide) dX1_change_49 (fun c_49 => absurd c_49 (nI_ge (b := 30) hc30 (by omega))) (fun c_49 => ?_)
        refine jr_iconst (v := 1) hX rfl dX1_change_52 ?_
        refine jr_goto hX (tgt := 57) (by decide) dX1_change_53 ?_
        refine jr_callS (As := [.int 1]) (bc1 := (32 + 207 * ((s_q S).length + 1 - (s_q (s_chg S md b o pat)).length))) (bs1 := (419 + 826 * ((s_q S).length + 1 - (s_q (s_chg S md b o pat)).length))) hX (met_requireState l D s0 b0 A _ ) (va_cwS 1 hX.ts (lw_S q584 q585 q65 q586) rfl rfl rfl (by decide +kernel) ⟨Nat.le_of_ble_eq_true rfl, Nat.le_of_ble_eq_true rfl⟩) rfl (Nat.le_of_ble_eq_true rfl) (by first | omega | (dsimp only; omega) | (show _ ≤ _; simp only []; omega)) (by first | omega | (dsimp only; omega) | (show _ ≤ _; simp only []; omega)) rfl dX1_change_57 (fun v_57 G_57 hp_57 => ?_)
        obtain ⟨rfl, e9⟩ := hp_57
        rw [e9]
        refine jr_aload_n (i := 0) hX rfl rfl dX1_change_60 ?_
        refine jr_iload_n (i := 1) hX rfl rfl dX1_change_61 ?_
        refine jr_iload_n (i := 2) hX rfl rfl dX1_change_62 ?_
        refine jr_iload_n (i := 3) hX rfl rfl dX1_change_63 ?_
        refine jr_iload hX rfl dX1_change_64 ?_
        refine jr_aload_n (i := 0) hX rfl rfl dX1_change_66 ?_
        refine jr_get (ci := 2) (k := 4) hX hxx rfl in_X1 (by decide) q367 rfl dX1_change_67 ?_
        refine jr_callF (As := []) (bc1 := (32 + 207 * ((s_q S).length + 1 - (s_q (s_chg S md b o pat)).length))) (bs1 := (419 + 826 * ((s_q S).length + 1 - (s_q (s_chg S md b o pat)).length))) hX (met_size l D s0 b0 A _ (ad 2 3 0) ((s_q S).map (fun v => ad 18 v 0)) moQ capQ eaQ hQL) (va_cwF 0 hX.ts (lw_F q405 q408 q410 q68 q412) rfl rfl rfl (hX.S.fw ⟨by decide +kernel, by decide +kernel⟩ q407 q406 q411 q409 q183) (by decide +kernel) ⟨Nat.le_of_ble_eq_true rfl, Nat.le_of_ble_eq_true rfl⟩) hQL.1 rfl rfl (Nat.le_of_ble_eq_true rfl) (by first | omega | (dsimp only; omega) | (show _ ≤ _; simp only []; omega)) (by first | omega | (dsimp only; omega) | (show _ ≤ _; simp only []; omega)) rfl dX1_change_70 (fun v_70 G_70 hp_70 => ?_)
        obtain ⟨rfl, e9⟩ := hp_70
        rw [e9, List.length_map]
        refine jr_callV (As := [.int (nI md), .int (jbz b), .int (jbz o), .int (nI pat), .int (nI (s_q S).length)]) (bc1 := ((32 + 207 * ((s_q S).length + 1 - (s_q (s_chg S md b o pat)).length)) - 3)) (bs1 := ((419 + 826 * ((s_q S).length + 1 - (s_q (s_chg S md b o pat)).length)) - 305)) hX (met_ask l D s0 b0 A _ S ad T hR hW.2.2.2.2.2.1.2.1 (by omega) (by omega) md b o pat (s_q S).length (by omega) (by omega) (Nat.le_refl _)) (cwV 5 hX.ts (lw_V q1211 q1213 qs31 q65 q1214) rfl rfl rfl (by decide +kernel) ⟨Nat.le_of_ble_eq_true rfl, Nat.le_of_ble_eq_true rfl⟩) hxx rfl rfl (Nat.le_of_ble_eq_true rfl) (by first | omega | (dsimp only; omega) | (show _ ≤ _; simp only []; omega)) (by first | omega | (dsimp only; omega) | (show _ ≤ _; simp only []; omega)) rfl dX1_change_75 (fun v_75 G_75 hp_75 => ?_)
        obtain ⟨ad1, T1, rfl, g1, g2, g3⟩ := hp_75
        have hWA : sW (s_ask S md b o pat (s_q S).length) := sW_ask hW (by omega) (by omega)
        have hxx1 := co_x g1
        rw [show ad 1 0 0 = ad1 1 0 0 from (g3 1 0 0 (by omega)).symm]
        refine jr_astore hX (by decide) rfl dX1_change_78 ?_
        refine jr_aload_n (i := 0) hX rfl rfl dX1_change_80 ?_
        have he1 : (s_q (s_look (s_ask S md b o pat (s_q S).length))).length = (s_q (s_chg S md b o pat)).length := rfl
        have he2 : (s_q (s_ask S md b o pat (s_q S).length)).length = (s_q S).length + 1 := by show ((s_q S).take _ ++ _ :: (s_q S).drop _).length = _; rw [List.length_append, List.length_cons, List.length_take, List.length_drop]; omega
        refine jr_callV (As := []) (bc1 := (0)) (bs1 := (0)) hX (met_look l D s0 b0 A _ (s_ask S md b o pat (s_q S).length) ad1 T1 g1 hWA) (cwV 0 hX.ts (lw_V q986 q988 qs9 q65 q989) rfl rfl rfl (by decide +kernel) ⟨Nat.le_of_ble_eq_true rfl, Nat.le_of_ble_eq_true rfl⟩) hxx1 rfl rfl (Nat.le_of_ble_eq_true rfl) (by first | omega | (dsimp only; omega) | (show _ ≤ _; simp only []; omega)) (by first | omega | (dsimp only; omega) | (show _ ≤ _; simp only []; omega)) rfl dX1_change_81 (fun v_81 G_81 hp_81 => ?_)
        obtain ⟨rfl, ad4, T4, k1, k2, k3⟩ := hp_81
        rw [show ad1 1 0 0 = ad4 1 0 0 from (k3 1 0 0 (by decide)).symm, show ad1 18 (s_c S).length 0 = ad4 18 (s_c S).length 0 from (k3 18 _ 0 (by decide)).symm]
        obtain ⟨moK, capK, eaK, hKL, -, -, -⟩ := co_chs k1
        have hlc : (s_c (s_look (s_ask S md b o pat (s_q S).length))).length = (s_c S).length + 1 := by rw [(look_kp _).2.2.2.2.1]; show (s_c S ++ [_]).length = _; rw [List.length_append]; rfl
        obtain ⟨cz, hcz⟩ : ∃ cz, (s_c (s_look (s_ask S md b o pat (s_q S).length)))[(s_c S).length]? = some cz := ⟨_, List.getElem?_eq_getElem (by omega)⟩
        refine jr_aload_n (i := 0) hX rfl rfl dX1_change_84 ?_
        refine jr_get (ci := 2) (k := 3) hX (co_x k1) rfl in_X1 (by decide) q366 rfl dX1_change_85 ?_
        refine jr_aload hX rfl dX1_change_88 ?_
        have h18 : ∀ j, j < (s_c S).length → ad4 18 j 0 ≠ ad4 18 (s_c S).length 0 := fun j hj z => by
          obtain ⟨cj, hcj⟩ : ∃ cj, (s_c (s_look (s_ask S md b o pat (s_q S).length)))[j]? = some cj := ⟨_, List.getElem?_eq_getElem (by omega)⟩
          have z1 := co_t18 k1 hcj
          have z2 := co_t18 k1 hcz
          rw [z, z2] at z1
          simp only [Prod.mk.injEq] at z1
          omega
        refine jr_callF (As := [.ref (ad4 18 (s_c S).length 0)]) (bc1 := (0)) (bs1 := (0)) hX (met_indexOf l D s0 b0 A _ (ad4 2 2 0) (s_rg (s_c (s_look (s_ask S md b o pat (s_q S).length))).length (fun v => ad4 18 v 0)) moK capK eaK hKL (ad4 18 (s_c S).length 0) 8 _ RX16 TX16 5 (co_ch k1 hcz) rfl q782 (s_c S).length (rg_at (by omega)) (fun j hj z => by rw [rg_at (by omega)] at z; exact h18 j hj (Option.some.inj z))) (va_cwF 1 hX.ts (lw_F q1536 q1539 q1541 q68 q1543) rfl rfl rfl (hX.S.fw ⟨by decide +kernel, by decide +kernel⟩ q1538 q1537 q1542 q1540 q183) (by decide +kernel) ⟨Nat.le_of_ble_eq_true rfl, Nat.le_of_ble_eq_true rfl⟩) hKL.1 rfl rfl (Nat.le_of_ble_eq_true rfl) (by first | omega | (dsimp only; omega) | (show _ ≤ _; simp only []; omega)) (by first | omega | (dsimp only; omega) | (show _ ≤ _; simp only []; omega)) rfl dX1_change_90 (fun v_90 G_90 hp_90 => ?_)
        obtain ⟨rfl, e9⟩ := hp_90
        rw [e9]
        exact jr_iret hX hlk hr ⟨rfl, ad4, T4, k1, g2.trans k2, fun k i j hk => (k3 k i j (by omega)).trans (g3 k i j (by omega))⟩ dX1_change_95
      refine jr_lvm [(1, .int (nI md)), (2, .int (jbz b)), (3, .int (jbz o)), (4, .int (nI pat)), (0, .ref (ad 1 0 0))] rfl ?_
      exact cont
    · refine jr_iload_n (i := 1) hX rfl rfl dX1_change_12 ?_
      refine jr_bipush (v := 111) hX (by decide) dX1_change_13 ?_
      refine jr_icmp_ne hX (tgt := 34) (by decide) dX1_change_15 (fun c_15 => ?_) (fun c_15 => ?_)
      · exact absurd ((hm3 111 (by omega)).mp (by
          rcases hmd with z | z | z
          · exact absurd ((hm3 119 (by omega)).mp z) c_3
          · exact absurd ((hm3 109 (by omega)).mp z) c_9
          · exact z)) c_15
      · have cont : Jg p l e (jR 16 (32 + 207 * ((s_q S).length + 1 - (s_q (s_chg S md b o pat)).length)) (419 + 826 * ((s_q S).length + 1 - (s_q (s_chg S md b o pat)).length))) s m args below meth c (MQ below (jQ D A (fun w G1 => w = some (.int (nI (s_c S).length)) ∧ ∃ (ad1 : jN) (T1 : jT), jCo D s0 b0 (s_chg S md b o pat) ad1 T1 G1 ∧ jFm 1 30 T G T1 G1 ∧ ∀ k i j, k < 8 → ad1 k i j = ad k i j)) args s (32 + 207 * ((s_q S).length + 1 - (s_q (s_chg S md b o pat)).length)) (419 + 826 * ((s_q S).length + 1 - (s_q (s_chg S md b o pat)).length)) A) D A 6 G (32 + 207 * ((s_q S).length + 1 - (s_q (s_chg S md b o pat)).length)) (419 + 826 * ((s_q S).length + 1 - (s_q (s_chg S md b o pat)).length)) 18 [(1, .int (nI md)), (2, .int (jbz b)), (3, .int (jbz o)), (4, .int (nI pat)), (0, .ref (ad 1 0 0))] [] := by
          refine jr_iload hX rfl dX1_change_18 ?_
          refine jr_iconst (v := 1) hX rfl dX1_change_20 ?_
          refine jr_sipush (v := 200) hX (by decide) dX1_change_21 ?_
          refine jr_callS (As := [.int (nI pat), .int 1, .int 200]) (bc1 := (32 + 207 * ((s_q S).length + 1 - (s_q (s_chg S md b o pat)).length))) (bs1 := (419 + 826 * ((s_q S).length + 1 - (s_q (s_chg S md b o pat)).length))) hX (met_isIn l D s0 b0 A _ (nI pat) 1 200) (va_cwS 3 hX.ts (lw_S q453 q454 q65 q455) rfl rfl rfl (by decide +kernel) ⟨Nat.le_of_ble_eq_true rfl, Nat.le_of_ble_eq_true rfl⟩) rfl (Nat.le_of_ble_eq_true rfl) (by first | omega | (dsimp only; omega) | (show _ ≤ _; simp only []; omega)) (by first | omega | (dsimp only; omega) | (show _ ≤ _; simp only []; omega)) rfl dX1_change_24 (fun v_24 G_24 hp_24 => ?_)
          obtain ⟨rfl, e9⟩ := hp_24
          rw [e9, jdt (p := (1 : Int32) ≤ nI pat ∧ nI pat ≤ 200) ⟨nI_le (a := 1) (by omega) (by omega), nI_le (b := 200) (by omega) (by omega)⟩]
          refine jr_if_eq hX (tgt := 34) (by decide) dX1_change_27 (fun c_27 => absurd c_27 (by decide)) (fun c_27 => ?_)
          refine jr_iconst (v := 1) hX rfl dX1_change_30 ?_
          refine jr_goto hX (tgt := 35) (by decide) dX1_change_31 ?_
          refine jr_callS (As := [.int 1]) (bc1 := (32 + 207 * ((s_q S).length + 1 - (s_q (s_chg S md b o pat)).length))) (bs1 := (419 + 826 * ((s_q S).length + 1 - (s_q (s_chg S md b o pat)).length))) hX (met_requireValid l D s0 b0 A _ ) (va_cwS 1 hX.ts (lw_S q456 q457 q65 q458) rfl rfl rfl (by decide +kernel) ⟨Nat.le_of_ble_eq_true rfl, Nat.le_of_ble_eq_true rfl⟩) rfl (Nat.le_of_ble_eq_true rfl) (by first | omega | (dsimp only; omega) | (show _ ≤ _; simp only []; omega)) (by first | omega | (dsimp only; omega) | (show _ ≤ _; simp only []; omega)) rfl dX1_change_35 (fun v_35 G_35 hp_35 => ?_)
          obtain ⟨rfl, e9⟩ := hp_35
          rw [e9]
          refine jr_aload_n (i := 0) hX rfl rfl dX1_change_38 ?_
          refine jr_get (ci := 2) (k := 3) hX hxx rfl in_X1 (by decide) q366 rfl dX1_change_39 ?_
          refine jr_callF (As := []) (bc1 := (32 + 207 * ((s_q S).length + 1 - (s_q (s_chg S md b o pat)).length))) (bs1 := (419 + 826 * ((s_q S).length + 1 - (s_q (s_chg S md b o pat)).length))) hX (met_size l D s0 b0 A _ (ad 2 2 0) (s_rg (s_c S).length (fun v => ad 18 v 0)) moH capH eaH hHL) (va_cwF 0 hX.ts (lw_F q405 q408 q410 q68 q412) rfl rfl rfl (hX.S.fw ⟨by decide +kernel, by decide +kernel⟩ q407 q406 q411 q409 q183) (by decide +kernel) ⟨Nat.le_of_ble_eq_true rfl, Nat.le_of_ble_eq_true rfl⟩) hHL.1 rfl rfl (Nat.le_of_ble_eq_true rfl) (by first | omega | (dsimp only; omega) | (show _ ≤ _; simp only []; omega)) (by first | omega | (dsimp only; omega) | (show _ ≤ _; simp only []; omega)) rfl dX1_change_42 (fun v_42 G_42 hp_42 => ?_)
          obtain ⟨rfl, e9⟩ := hp_42
          rw [e9, rg_len]
          refine jr_bipush (v := 30) hX (by decide) dX1_change_47 ?_
          refine jr_icmp_ge hX (tgt := 56) (by decide) dX1_change_49 (fun c_49 => absurd c_49 (nI_ge (b := 30) hc30 (by omega))) (fun c_49 => ?_)
          refine jr_iconst (v := 1) hX rfl dX1_change_52 ?_
          refine jr_goto hX (tgt := 57) (by decide) dX1_change_53 ?_
          refine jr_callS (As := [.int 1]) (bc1 := (32 + 207 * ((s_q S).length + 1 - (s_q (s_chg S md b o pat)).length))) (bs1 := (419 + 826 * ((s_q S).length + 1 - (s_q (s_chg S md b o pat)).length))) hX (met_requireState l D s0 b0 A _ ) (va_cwS 1 hX.ts (lw_S q584 q585 q65 q586) rfl rfl rfl (by decide +kernel) ⟨Nat.le_of_ble_eq_true rfl, Nat.le_of_ble_eq_true rfl⟩) rfl (Nat.le_of_ble_eq_true rfl) (by first | omega | (dsimp only; omega) | (show _ ≤ _; simp only []; omega)) (by first | omega | (dsimp only; omega) | (show _ ≤ _; simp only []; omega)) rfl dX1_change_57 (fun v_57 G_57 hp_57 => ?_)
          obtain ⟨rfl, e9⟩ := hp_57
          rw [e9]
          refine jr_aload_n (i := 0) hX rfl rfl dX1_change_60 ?_
          refine jr_iload_n (i := 1) hX rfl rfl dX1_change_61 ?_
          refine jr_iload_n (i := 2) hX rfl rfl dX1_change_62 ?_
          refine jr_iload_n (i := 3) hX rfl rfl dX1_change_63 ?_
          refine jr_iload hX rfl dX1_change_64 ?_
          refine jr_aload_n (i := 0) hX rfl rfl dX1_change_66 ?_
          refine jr_get (ci := 2) (k := 4) hX hxx rfl in_X1 (by decide) q367 rfl dX1_change_67 ?_
          refine jr_callF (As := []) (bc1 := (32 + 207 * ((s_q S).length + 1 - (s_q (s_chg S md b o pat)).length))) (bs1 := (419 + 826 * ((s_q S).length + 1 - (s_q (s_chg S md b o pat)).length))) hX (met_size l D s0 b0 A _ (ad 2 3 0) ((s_q S).map (fun v => ad 18 v 0)) moQ capQ eaQ hQL) (va_cwF 0 hX.ts (lw_F q405 q408 q410 q68 q412) rfl rfl rfl (hX.S.fw ⟨by decide +kernel, by decide +kernel⟩ q407 q406 q411 q409 q183) (by decide +kernel) ⟨Nat.le_of_ble_eq_true rfl, Nat.le_of_ble_eq_true rfl⟩) hQL.1 rfl rfl (Nat.le_of_ble_eq_true rfl) (by first | omega | (dsimp only; omega) | (show _ ≤ _; simp only []; omega)) (by first | omega | (dsimp only; omega) | (show _ ≤ _; simp only []; omega)) rfl dX1_change_70 (fun v_70 G_70 hp_70 => ?_)
          obtain ⟨rfl, e9⟩ := hp_70
          rw [e9, List.length_map]
          refine jr_callV (As := [.int (nI md), .int (jbz b), .int (jbz o), .int (nI pat), .int (nI (s_q S).length)]) (bc1 := ((32 + 207 * ((s_q S).length + 1 - (s_q (s_chg S md b o pat)).length)) - 3)) (bs1 := ((419 + 826 * ((s_q S).length + 1 - (s_q (s_chg S md b o pat)).length)) - 305)) hX (met_ask l D s0 b0 A _ S ad T hR hW.2.2.2.2.2.1.2.1 (by omega) (by omega) md b o pat (s_q S).length (by omega) (by omega) (Nat.le_refl _)) (cwV 5 hX.ts (lw_V q1211 q1213 qs31 q65 q1214) rfl rfl rfl (by decide +kernel) ⟨Nat.le_of_ble_eq_true rfl, Nat.le_of_ble_eq_true rfl⟩) hxx rfl rfl (Nat.le_of_ble_eq_true rfl) (by first | omega | (dsimp only; omega) | (show _ ≤ _; simp only []; omega)) (by first | omega | (dsimp only; omega) | (show _ ≤ _; simp only []; omega)) rfl dX1_change_75 (fun v_75 G_75 hp_75 => ?_)
          obtain ⟨ad1, T1, rfl, g1, g2, g3⟩ := hp_75
          have hWA : sW (s_ask S md b o pat (s_q S).length) := sW_ask hW (by omega) (by omega)
          have hxx1 := co_x g1
          rw [show ad 1 0 0 = ad1 1 0 0 from (g3 1 0 0 (by omega)).symm]
          refine jr_astore hX (by decide) rfl dX1_change_78 ?_
          refine jr_aload_n (i := 0) hX rfl rfl dX1_change_80 ?_
          have he1 : (s_q (s_look (s_ask S md b o pat (s_q S).length))).length = (s_q (s_chg S md b o pat)).length := rfl
          have he2 : (s_q (s_ask S md b o pat (s_q S).length)).length = (s_q S).length + 1 := by show ((s_q S).take _ ++ _ :: (s_q S).drop _).length = _; rw [List.length_append, List.length_cons, List.length_take, List.length_drop]; omega
          refine jr_callV (As := []) (bc1 := (0)) (bs1 := (0)) hX (met_look l D s0 b0 A _ (s_ask S md b o pat (s_q S).length) ad1 T1 g1 hWA) (cwV 0 hX.ts (lw_V q986 q988 qs9 q65 q989) rfl rfl rfl (by decide +kernel) ⟨Nat.le_of_ble_eq_true rfl, Nat.le_of_ble_eq_true rfl⟩) hxx1 rfl rfl (Nat.le_of_ble_eq_true rfl) (by first | omega | (dsimp only; omega) | (show _ ≤ _; simp only []; omega)) (by first | omega | (dsimp only; omega) | (show _ ≤ _; simp only []; omega)) rfl dX1_change_81 (fun v_81 G_81 hp_81 => ?_)
          obtain ⟨rfl, ad4, T4, k1, k2, k3⟩ := hp_81
          rw [show ad1 1 0 0 = ad4 1 0 0 from (k3 1 0 0 (by decide)).symm, show ad1 18 (s_c S).length 0 = ad4 18 (s_c S).length 0 from (k3 18 _ 0 (by decide)).symm]
          obtain ⟨moK, capK, eaK, hKL, -, -, -⟩ := co_chs k1
          have hlc : (s_c (s_look (s_ask S md b o pat (s_q S).length))).length = (s_c S).length + 1 := by rw [(look_kp _).2.2.2.2.1]; show (s_c S ++ [_]).length = _; rw [List.length_append]; rfl
          obtain ⟨cz, hcz⟩ : ∃ cz, (s_c (s_look (s_ask S md b o pat (s_q S).length)))[(s_c S).length]? = some cz := ⟨_, List.getElem?_eq_getElem (by omega)⟩
          refine jr_aload_n (i := 0) hX rfl rfl dX1_change_84 ?_
          refine jr_get (ci := 2) (k := 3) hX (co_x k1) rfl in_X1 (by decide) q366 rfl dX1_change_85 ?_
          refine jr_aload hX rfl dX1_change_88 ?_
          have h18 : ∀ j, j < (s_c S).length → ad4 18 j 0 ≠ ad4 18 (s_c S).length 0 := fun j hj z => by
            obtain ⟨cj, hcj⟩ : ∃ cj, (s_c (s_look (s_ask S md b o pat (s_q S).length)))[j]? = some cj := ⟨_, List.getElem?_eq_getElem (by omega)⟩
            have z1 := co_t18 k1 hcj
            have z2 := co_t18 k1 hcz
            rw [z, z2] at z1
            simp only [Prod.mk.injEq] at z1
            omega
          refine jr_callF (As := [.ref (ad4 18 (s_c S).length 0)]) (bc1 := (0)) (bs1 := (0)) hX (met_indexOf l D s0 b0 A _ (ad4 2 2 0) (s_rg (s_c (s_look (s_ask S md b o pat (s_q S).length))).length (fun v => ad4 18 v 0)) moK capK eaK hKL (ad4 18 (s_c S).length 0) 8 _ RX16 TX16 5 (co_ch k1 hcz) rfl q782 (s_c S).length (rg_at (by omega)) (fun j hj z => by rw [rg_at (by omega)] at z; exact h18 j hj (Option.some.inj z))) (va_cwF 1 hX.ts (lw_F q1536 q1539 q1541 q68 q1543) rfl rfl rfl (hX.S.fw ⟨by decide +kernel, by decide +kernel⟩ q1538 q1537 q1542 q1540 q183) (by decide +kernel) ⟨Nat.le_of_ble_eq_true rfl, Nat.le_of_ble_eq_true rfl⟩) hKL.1 rfl rfl (Nat.le_of_ble_eq_true rfl) (by first | omega | (dsimp only; omega) | (show _ ≤ _; simp only []; omega)) (by first | omega | (dsimp only; omega) | (show _ ≤ _; simp only []; omega)) rfl dX1_change_90 (fun v_90 G_90 hp_90 => ?_)
          obtain ⟨rfl, e9⟩ := hp_90
          rw [e9]
          exact jr_iret hX hlk hr ⟨rfl, ad4, T4, k1, g2.trans k2, fun k i j hk => (k3 k i j (by omega)).trans (g3 k i j (by omega))⟩ dX1_change_95
        refine jr_lvm [(1, .int (nI md)), (2, .int (jbz b)), (3, .int (jbz o)), (4, .int (nI pat)), (0, .ref (ad 1 0 0))] rfl ?_
        exact cont

set_option maxHeartbeats 4000000 in
set_option maxRecDepth 100000 in
theorem met_againstC (l : Launch) (D : va_G) (s0 : State) (b0 : Nat) (A : Nat → Prop) (G : jG) (S : sSt) (ad : jN) (T : jT) (hR : jCo D s0 b0 S ad T G) (hW : sW S) (ci : Nat) (rq : List Nat) (hq : s_q S = ci :: rq) (ch : sCh) (hch : (s_c S)[ci]? = some ch) : jM l yX1_against (ws_ yX1_against cX1_against 1 (some .int)) (jR 13 29 114) D s0 b0 A G [.ref (ad 1 0 0)] (fun w G1 => w = some (.int (nI (s_agn S ch))) ∧ jNw G G1) := by
  have hxx := co_x hR
  obtain ⟨moQ, capQ, eaQ, hQL, -, -, -⟩ := co_que hR
  refine jM.of (by decide +kernel) (own := RX1) rfl (Nat.le_of_ble_eq_true rfl) ?_
  intro p e s m args below meth c hX hr hlk hnm
  refine jr_aload_n (i := 0) hX rfl rfl dX1_against_0 ?_
  refine jr_get (ci := 2) (k := 4) hX hxx rfl in_X1 (by decide) q367 rfl dX1_against_1 ?_
  refine jr_callF (As := []) (bc1 := (29)) (bs1 := (114)) hX (met_isEmpty l D s0 b0 A _ (ad 2 3 0) ((s_q S).map (fun v => ad 18 v 0)) moQ capQ eaQ hQL) (va_cwF 0 hX.ts (lw_F q991 q994 q996 q68 q998) rfl rfl rfl (hX.S.fw ⟨by decide +kernel, by decide +kernel⟩ q993 q992 q997 q995 q183) (by decide +kernel) ⟨Nat.le_of_ble_eq_true rfl, Nat.le_of_ble_eq_true rfl⟩) hQL.1 rfl rfl (Nat.le_of_ble_eq_true rfl) (by first | omega | (dsimp only; omega) | (show _ ≤ _; simp only []; omega)) (by first | omega | (dsimp only; omega) | (show _ ≤ _; simp only []; omega)) rfl dX1_against_4 (fun v_4 G_4 hp_4 => ?_)
  obtain ⟨rfl, e9⟩ := hp_4
  rw [e9, decide_eq_false (by rw [hq]; simp)]
  refine jr_if_eq hX (tgt := 20) (by decide) dX1_against_9 (fun c_9 => ?_) (fun c_9 => absurd rfl c_9)
  refine jr_aload_n (i := 0) hX rfl rfl dX1_against_20 ?_
  refine jr_aload_n (i := 0) hX rfl rfl dX1_against_21 ?_
  refine jr_get (ci := 2) (k := 4) hX hxx rfl in_X1 (by decide) q367 rfl dX1_against_22 ?_
  refine jr_iconst (v := 0) hX rfl dX1_against_25 ?_
  refine jr_callF (As := [.int (nI 0)]) (bc1 := (29)) (bs1 := (114)) hX (met_get l D s0 b0 A _ (ad 2 3 0) ((s_q S).map (fun v => ad 18 v 0)) moQ capQ eaQ hQL 0 (ad 18 ci 0) (by rw [hq]; rfl)) (va_cwF 1 hX.ts (lw_F q299 q302 q304 q68 q306) rfl rfl rfl (hX.S.fw ⟨by decide +kernel, by decide +kernel⟩ q301 q300 q305 q303 q183) (by decide +kernel) ⟨Nat.le_of_ble_eq_true rfl, Nat.le_of_ble_eq_true rfl⟩) hQL.1 rfl rfl (Nat.le_of_ble_eq_true rfl) (by first | omega | (dsimp only; omega) | (show _ ≤ _; simp only []; omega)) (by first | omega | (dsimp only; omega) | (show _ ≤ _; simp only []; omega)) rfl dX1_against_26 (fun v_26 G_26 hp_26 => ?_)
  obtain ⟨rfl, e9⟩ := hp_26
  rw [e9]
  refine jr_castS hX (co_ch hR hch) rfl q999 dX1_against_31 ?_
  refine jr_callV (As := [.ref (ad 18 ci 0)]) (bc1 := (0)) (bs1 := (0)) hX (met_countAgainst l D s0 b0 A _ S ad T hR ci ch hch hW.1 hW.2.1 hW.2.2.2.2.1 hW.2.2.1 (hW.2.2.2.2.2.1.2.2 ci ch hch).1) (cwV 1 hX.ts (lw_V q1008 q1010 qs11 q65 q1011) rfl rfl rfl (by decide +kernel) ⟨Nat.le_of_ble_eq_true rfl, Nat.le_of_ble_eq_true rfl⟩) hxx rfl rfl (Nat.le_of_ble_eq_true rfl) (by first | omega | (dsimp only; omega) | (show _ ≤ _; simp only []; omega)) (by first | omega | (dsimp only; omega) | (show _ ≤ _; simp only []; omega)) rfl dX1_against_34 (fun v_34 G_34 hp_34 => ?_)
  obtain ⟨rfl, e9⟩ := hp_34
  exact jr_iret hX hlk hr ⟨rfl, e9⟩ dX1_against_37
