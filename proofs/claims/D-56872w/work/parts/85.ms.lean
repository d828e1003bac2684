/-! the model's start, change -/
set_option maxHeartbeats 4000000 in
set_option maxRecDepth 100000 in
theorem mm_startC (l : Launch) (D : va_G) (s0 : State) (b0 : Nat) (A : Nat → Prop) (G : jG) (S : sSt) (th : Nat) (ad : jN) (T : jT) (hR : jMo D s0 b0 th S ad T G) (hW : sW S) (i fn : Nat) (hi3 : i < 3) (hfn : fn < 5) (hal : s_al (s_s S i).1 = false) : jM l yX5_start (ws_ yX5_start cX5_start 5 (some .int)) (jR 16 ((7 + 159 * ((s_q S).length - (s_q (s_start S i fn)).length))) ((35 + 636 * ((s_q S).length - (s_q (s_start S i fn)).length)))) D s0 b0 A G [.ref (ad 31 0 0), .int (nI i), .int (nI fn)] (fun w G1 => w = some (.int (nI (s_p S))) ∧ ∃ (ad1 : jN) (T1 : jT), jMo D s0 b0 0 (s_start S i fn) ad1 T1 G1 ∧ jFm 31 60 T G T1 G1 ∧ ∀ k i j, k < 38 → ad1 k i j = ad k i j) := by
  have hxx := mo_x hR
  have hst9 := (hW.2.2.1 i hi3).1
  have hSEl : (s_s (s_end S i 114) i).2.length = 0 := by
    show ((sup (s_s S) i (114, [])) i).2.length = 0
    rw [sup_s]; rfl
  have h8 : (s_s (s_end S i 114) i).2.length ≠ 8 := by omega
  have hqz : (s_q (s_sta S i fn)).length = (s_q S).length := rfl
  have hqr : (s_q (s_look (s_sta S i fn))).length = (s_q (s_start S i fn)).length := rfl
  refine jM.of (by decide +kernel) (own := RX5) rfl (Nat.le_of_ble_eq_true rfl) ?_
  intro p e s m args below meth c hX hr hlk hnm
  refine jr_aload_n (i := 0) hX rfl rfl dX5_start_0 ?_
  refine jr_iload_n (i := 1) hX rfl rfl dX5_start_1 ?_
  refine jr_callV (As := [.int (nI i)]) (bc1 := ((7 + 159 * ((s_q S).length - (s_q (s_start S i fn)).length)))) (bs1 := ((35 + 636 * ((s_q S).length - (s_q (s_start S i fn)).length)))) hX (mm_noThread l D s0 b0 A _ S th ad T hR (nI i)) (cwV 1 hX.ts (lw_V q1872 q1874 qs40 q78 q1875) rfl rfl rfl (by decide +kernel) ⟨Nat.le_of_ble_eq_true rfl, Nat.le_of_ble_eq_true rfl⟩) hxx rfl rfl (Nat.le_of_ble_eq_true rfl) (by first | omega | (dsimp only; omega) | (show _ ≤ _; simp only []; omega)) (by first | omega | (dsimp only; omega) | (show _ ≤ _; simp only []; omega)) rfl dX5_start_2 (fun v_2 G_2 hp_2 => ?_)
  obtain ⟨rfl, hR1, hF1⟩ := hp_2
  have hin : (0 : Int32) ≤ nI i ∧ nI i ≤ 2 := ⟨nI_pos' (by omega), nI_le (b := 2) (by omega) (by omega)⟩
  rw [if_pos hin] at hR1
  rw [decide_eq_true hin]
  have hxx1 := mo_x hR1
  obtain ⟨moL, capL, eaL, hLL, -, -, -⟩ := mo_lns hR1
  refine jr_if_ne hX (tgt := 15) (by decide) dX5_start_5 (fun c_5 => absurd c_5 (fun h => h rfl)) (fun c_5 => ?_)
  refine jr_iload_n (i := 2) hX rfl rfl dX5_start_8 ?_
  refine jr_callS (As := [.int (nI fn)]) (bc1 := ((7 + 159 * ((s_q S).length - (s_q (s_start S i fn)).length)))) (bs1 := ((35 + 636 * ((s_q S).length - (s_q (s_start S i fn)).length)))) hX (mm_isFunction l D s0 b0 A _ (nI fn)) (va_cwS 1 hX.ts (lw_S q1781 q1782 q78 q1783) rfl rfl rfl (by decide +kernel) ⟨Nat.le_of_ble_eq_true rfl, Nat.le_of_ble_eq_true rfl⟩) rfl (Nat.le_of_ble_eq_true rfl) (by first | omega | (dsimp only; omega) | (show _ ≤ _; simp only []; omega)) (by first | omega | (dsimp only; omega) | (show _ ≤ _; simp only []; omega)) rfl dX5_start_9 (fun v_9 G_9 hp_9 => ?_)
  obtain ⟨rfl, e9⟩ := hp_9
  rw [e9, jdt (p := (0 : Int32) ≤ nI fn ∧ nI fn ≤ 4) ⟨nI_pos' (by omega), nI_le (b := 4) (by omega) (by omega)⟩]
  refine jr_if_ne hX (tgt := 21) (by decide) dX5_start_12 (fun c_12 => ?_) (fun c_12 => absurd c_12 (by decide))
  refine jr_aload_n (i := 0) hX rfl rfl dX5_start_21 ?_
  refine jr_get (ci := 11) (k := 4) hX hxx1 rfl in_X5 (by decide) q1734 rfl dX5_start_22 ?_
  refine jr_iload_n (i := 1) hX rfl rfl dX5_start_25 ?_
  refine jr_callV (As := [.int (nI i)]) (bc1 := ((7 + 159 * ((s_q S).length - (s_q (s_start S i fn)).length)))) (bs1 := ((35 + 636 * ((s_q S).length - (s_q (s_start S i fn)).length)))) hX (met_get l D s0 b0 A _ (ad 32 1 0) (s_rg 3 (fun v => ad 35 v 0)) moL capL eaL hLL i (ad 35 i 0) (rg_at hi3)) (cwV 1 hX.ts (lw_V q1712 q304 q2203 q68 q306) rfl rfl rfl (by decide +kernel) ⟨Nat.le_of_ble_eq_true rfl, Nat.le_of_ble_eq_true rfl⟩) hLL.1 rfl rfl (Nat.le_of_ble_eq_true rfl) (by first | omega | (dsimp only; omega) | (show _ ≤ _; simp only []; omega)) (by first | omega | (dsimp only; omega) | (show _ ≤ _; simp only []; omega)) rfl dX5_start_26 (fun v_26 G_26 hp_26 => ?_)
  obtain ⟨rfl, e9⟩ := hp_26
  rw [e9]
  refine jr_castS hX (mo_lan hR1 hi3) rfl q1713 dX5_start_29 ?_
  refine jr_astore_n (i := 3) hX rfl (by decide) rfl dX5_start_32 ?_
  refine jr_aload_n (i := 0) hX rfl rfl dX5_start_33 ?_
  refine jr_aload_n (i := 3) hX rfl rfl dX5_start_34 ?_
  refine jr_callV (As := []) (bc1 := ((7 + 159 * ((s_q S).length - (s_q (s_start S i fn)).length)))) (bs1 := ((35 + 636 * ((s_q S).length - (s_q (s_start S i fn)).length)))) hX (mm_isOpen l D s0 b0 A _ (ad 35 i 0) (ad 36 i 0) (s_s S i).1 (mo_lan hR1 hi3) hst9) (cwV 0 hX.ts (lw_V q1880 q1881 q1882 q80 q1883) rfl rfl rfl (by decide +kernel) ⟨Nat.le_of_ble_eq_true rfl, Nat.le_of_ble_eq_true rfl⟩) (mo_lan hR1 hi3) rfl rfl (Nat.le_of_ble_eq_true rfl) (by first | omega | (dsimp only; omega) | (show _ ≤ _; simp only []; omega)) (by first | omega | (dsimp only; omega) | (show _ ≤ _; simp only []; omega)) rfl dX5_start_35 (fun v_35 G_35 hp_35 => ?_)
  obtain ⟨rfl, e9⟩ := hp_35
  rw [e9, hal]
  refine jr_if_eq hX (tgt := 45) (by decide) dX5_start_38 (fun c_38 => ?_) (fun c_38 => absurd rfl c_38)
  refine jr_iconst (v := 0) hX rfl dX5_start_45 ?_
  refine jr_put (ci := 11) (k := 0) hX hxx1 rfl in_X5 (by decide) tyX5 tyX5_ok nmX5 q1730 rfl (by first | rfl | assumption) (by first | rfl | assumption) (Nat.le_of_ble_eq_true rfl) dX5_start_46 ?_
  have hR2 := mo_wth hR1 0
  have hxx2 := mo_x hR2
  have hF2 : jFm 31 60 T _ T _ := jFm.pt (T := T) (G := G_2) (lo := 31) (hi := 60) (c := jo 11 [.int (nI 0), .ref (ad 32 0 0), .ref (ad 37 (s_m S) 0), .int (nI (s_p S)), .ref (ad 32 1 0), .ref (ad 32 2 0), .ref (ad 34 0 0), .ref (ad 32 3 0), .ref (ad 32 4 0), .int (jbz (s_w S)), .int (s_l S), .ref (ad 32 5 0), .ref (ad 32 6 0), .long (lN (s_n S))]) (mo_t31 hR1) (by decide)
  refine jr_aload_n (i := 0) hX rfl rfl dX5_start_49 ?_
  refine jr_get (ci := 11) (k := 0) hX hxx2 rfl in_X5 (by decide) q1730 rfl dX5_start_50 ?_
  refine jr_if_le hX (tgt := 58) (by decide) dX5_start_53 (fun c_53 => ?_) (fun c_53 => absurd (by decide) c_53)
  refine jr_aload_n (i := 0) hX rfl rfl dX5_start_58 ?_
  refine jr_get (ci := 11) (k := 3) hX hxx2 rfl in_X5 (by decide) q1733 rfl dX5_start_59 ?_
  refine jr_istore hX (by decide) rfl dX5_start_62 ?_
  refine jr_aload_n (i := 3) hX rfl rfl dX5_start_64 ?_
  refine jr_bipush (v := 114) hX (by decide) dX5_start_65 ?_
  refine jr_callV (As := [.int 114]) (bc1 := ((7 + 159 * ((s_q S).length - (s_q (s_start S i fn)).length)))) (bs1 := ((35 + 636 * ((s_q S).length - (s_q (s_start S i fn)).length)))) hX (mm_ends l D s0 b0 A _ S 0 ad T hR2 i hi3 114 (by omega)) (cwV 1 hX.ts (lw_V q1884 q1885 q1886 q80 q1887) rfl rfl rfl (by decide +kernel) ⟨Nat.le_of_ble_eq_true rfl, Nat.le_of_ble_eq_true rfl⟩) (mo_lan hR2 hi3) rfl rfl (Nat.le_of_ble_eq_true rfl) (by first | omega | (dsimp only; omega) | (show _ ≤ _; simp only []; omega)) (by first | omega | (dsimp only; omega) | (show _ ≤ _; simp only []; omega)) rfl dX5_start_67 (fun v_67 G_67 hp_67 => ?_)
  obtain ⟨rfl, TE, hRE, hFE⟩ := hp_67
  obtain ⟨moF, capF, eaF, hFL, -, hFc, hFt⟩ := mo_frl hRE hi3
  have hxxE := mo_x hRE
  refine jr_aload_n (i := 3) hX rfl rfl dX5_start_70 ?_
  refine jr_getN (ci := 13) (k := 1) hX (mo_lan hRE hi3) rfl in_X7 (by decide) q1724 rfl dX5_start_71 ?_
  refine jr_ee hX (fun hE0 => ?_)
  refine jr_new (ci := 15) (fs := [.int 0, .int 0, .int 0, .null, .int 0]) (bc1 := ((7 + 159 * ((s_q S).length - (s_q (s_start S i fn)).length))) - 1) (bs1 := ((35 + 636 * ((s_q S).length - (s_q (s_start S i fn)).length))) - 5) hX in_X14 tyX14 tyX14_ok q1889 q1890 q100 rfl (by decide) (by omega) (by omega) dX5_start_74 (fun n_74 hn_74 hA_74 => ?_)
  refine jr_dup hX rfl dX5_start_77 ?_
  refine jr_aload_n (i := 0) hX rfl rfl dX5_start_78 ?_
  refine jr_get (ci := 11) (k := 3) hX (jup_f hxxE hn_74) rfl in_X5 (by decide) q1733 rfl dX5_start_79 ?_
  refine jr_iload_n (i := 2) hX rfl rfl dX5_start_82 ?_
  refine jr_iconst (v := 0) hX rfl dX5_start_83 ?_
  refine jr_iconst (v := 0) hX rfl dX5_start_84 ?_
  refine jr_callI (ret := none) (As := [.int (nI (s_p S)), .int (nI fn), .int 0, .int (nI 0)]) (bc1 := ((((7 + 159 * ((s_q S).length - (s_q (s_start S i fn)).length))) - 1) - 1)) (bs1 := ((((35 + 636 * ((s_q S).length - (s_q (s_start S i fn)).length))) - 5) - 4)) hX (mm_FrInit l D s0 b0 A _ n_74 (nI (s_p S)) (nI fn) 0 (nI 0) jup_s) (cwI 4 hX.ts (lw_meth q1893) rfl rfl rfl (hX.ts _ q100) (hX.ts _ q1891) (hX.ts _ q1892) rfl (by decide +kernel) ⟨Nat.le_of_ble_eq_true rfl, Nat.le_of_ble_eq_true rfl⟩) rfl (Nat.le_of_ble_eq_true rfl) (by first | omega | (dsimp only; omega) | (show _ ≤ _; simp only []; omega)) (by first | omega | (dsimp only; omega) | (show _ ≤ _; simp only []; omega)) rfl dX5_start_85 (fun v_85 G_85 hp_85 => ?_)
  obtain ⟨rfl, q, hq, hqA, hqn, hgn, hgq, hgo⟩ := hp_85
  have hq0 : G_67 q = none := by rw [jup_n hqn] at hq; exact hq
  have hnw : jNw G_67 G_85 := fun b x hb => by
    have z1 : b ≠ n_74 := fun z => by rw [z, hn_74] at hb; cases hb
    have z2 : b ≠ q := fun z => by rw [z, hq0] at hb; cases hb
    rw [hgo b z1 z2, jup_n z1]; exact hb
  have hR1 := mo_ad89 (n := n_74) (q := q) (jRep.nw hRE hnw) hi3 (hRE.un hn_74) (hRE.un hq0) hqn (by rw [hgn]; simp) (by rw [hgq]; simp) (hX.ee hA_74) (hX.ee hqA)
  have hFL1 := hnw.jLS hFL
  refine jr_callV (As := [.ref n_74]) (bc1 := (((((7 + 159 * ((s_q S).length - (s_q (s_start S i fn)).length))) - 1) - 1) - 1)) (bs1 := (((((35 + 636 * ((s_q S).length - (s_q (s_start S i fn)).length))) - 5) - 4) - 10)) hX (met_add l D s0 b0 A _ (ad 36 i 0) (s_rg (s_s (s_end S i 114) i).2.length (fun q => ad 38 i q)) moF capF eaF hFL1 (ob_frM (jRep.nw hRE hnw) hi3) n_74 (ob_o hgn (r := (RX14, TX14, 5)) rfl q2236) 1 10 (by omega) (fun hz => ⟨by omega, by rw [rg_len] at hz; have h9 := hFL.2.2.2; unfold jgw; split <;> omega⟩)) (cwV 1 hX.ts (lw_V q1711 q186 q2202 q68 q188) rfl rfl rfl (by decide +kernel) ⟨Nat.le_of_ble_eq_true rfl, Nat.le_of_ble_eq_true rfl⟩) hFL1.1 rfl rfl (Nat.le_of_ble_eq_true rfl) (by first | omega | (dsimp only; omega) | (show _ ≤ _; simp only []; omega)) (by first | omega | (dsimp only; omega) | (show _ ≤ _; simp only []; omega)) rfl dX5_start_88 (fun v_88 G_88 hp_88 => ?_)
  obtain ⟨rfl, hU⟩ := hp_88
  refine jr_ee hX (fun hE1 => ?_)
  have hlast : jas (jas ad 38 i (s_s (s_end S i 114) i).2.length n_74) 39 i (s_s (s_end S i 114) i).2.length q 38 i (s_s (s_end S i 114) i).2.length = n_74 := by rw [jas_n (fun z => by omega), jas_s]
  rw [show s_rg (s_s (s_end S i 114) i).2.length (fun q => ad 38 i q) ++ [n_74] = s_rg ((s_s (s_end S i 114) i).2 ++ [(s_p (s_end S i 114), fn, 0, upd (fun _ => 0) 0 0, 0)]).length (fun j => (jas (jas ad 38 i (s_s (s_end S i 114) i).2.length n_74) 39 i (s_s (s_end S i 114) i).2.length q) 38 i j) by
    rw [List.length_append, List.length_singleton, ← rg_ap (f := fun q => ad 38 i q) (fun q9 hq9 => by rw [jas_n (fun z => by omega), jas_n (fun z => by omega)]), hlast]] at hU
  have hE01 : G_85 (jEE s0 b0) = none := by
    rw [hgo _ (fun z => hX.ee hA_74 z.symm) (fun z => hX.ee hqA z.symm), jup_n (fun z => hX.ee hA_74 z.symm)]
    exact hE0
  have hcap1 : (if (s_rg (s_s (s_end S i 114) i).2.length (fun q => ad 38 i q)).length = capF then jgw capF (capF + 1) else capF) ≤ 200 := by
    rw [rg_len]
    have h9 := hFL.2.2.2
    split
    · unfold jgw; split <;> omega
    · exact hFc
  obtain ⟨T2, hR2x, hfm2⟩ := mo_frs (fs := (s_s (s_end S i 114) i).2 ++ [(s_p (s_end S i 114), fn, 0, upd (fun _ => 0) 0 0, 0)]) hR1 hi3 hE1 (mo := moF) (cap := capF) (ea := eaF) (by
      rw [show s_rg (s_s (s_end S i 114) i).2.length (fun q9 => (jas (jas ad 38 i (s_s (s_end S i 114) i).2.length n_74) 39 i (s_s (s_end S i 114) i).2.length q) 38 i q9) = s_rg (s_s (s_end S i 114) i).2.length (fun q => ad 38 i q) from List.map_congr_left fun q9 hq9 => by
        have := List.mem_range.mp hq9
        rw [jas_n (fun z => by omega), jas_n (fun z => by omega)]]
      exact hFL1) (fun hc9 => by
      have ht := hFt hc9
      rw [jTs_n, jTs_n]
      · exact ht
      · intro z; rw [z, hRE.un hn_74 |> fun h => (by rfl : TE n_74 = TE n_74)] at ht; have := hRE.un hn_74; rw [ht] at this; cases this
      · intro z; rw [z] at ht; have := hRE.un hq0; rw [ht] at this; cases this) hU hcap1 (fun j x hx => by
      by_cases hj : j < (s_s (s_end S i 114) i).2.length
      · rw [List.getElem?_append_left hj] at hx; exact Or.inl hx
      · have hjl := lt_ofl hx
        rw [List.length_append, List.length_singleton] at hjl
        have ej : j = (s_s (s_end S i 114) i).2.length := by omega
        subst ej
        rw [List.getElem?_append_right (Nat.le_refl _), Nat.sub_self] at hx
        have ex := Option.some.inj hx
        subst ex
        rw [hlast, jas_s]
        exact Or.inr ⟨by rw [jTs_n (Ne.symm hqn), jTs_s], hgn, jTs_s, hgq⟩)
  have hsta : sw_s (s_end S i 114) (sup (s_s (s_end S i 114)) i ((s_s (s_end S i 114) i).1, (s_s (s_end S i 114) i).2 ++ [(s_p (s_end S i 114), fn, 0, upd (fun _ => 0) 0 0, 0)])) = s_sta S i fn := by
    have h9 := sta_e (S := S) (i := i) (fn := fn)
    unfold s_cal at h9
    rw [if_neg h8] at h9
    exact h9
  rw [hsta] at hR2x
  have hFt2 : jFm 31 60 TE G_67 T2 G_88 := fun b hb hk => by
    have z1 : b ≠ n_74 := fun z => hb (by rw [z]; exact hn_74)
    have z2 : b ≠ q := fun z => hb (by rw [z]; exact hq0)
    have hb1 : G_85 b ≠ none := by rw [hgo b z1 z2, jup_n z1]; exact hb
    have h9 := mo_fm (by omega) hE01 hfm2 b hb1 (by rw [jTs_n z2, jTs_n z1]; exact hk)
    rw [jTs_n z2, jTs_n z1, hgo b z1 z2, jup_n z1] at h9
    exact h9
  have hA2 : ∀ k9 i9 j9, k9 < 38 → (jas (jas ad 38 i (s_s (s_end S i 114) i).2.length n_74) 39 i (s_s (s_end S i 114) i).2.length q) k9 i9 j9 = ad k9 i9 j9 := fun k9 i9 j9 hk => by rw [jas_n (fun z => by omega), jas_n (fun z => by omega)]
  rw [show ad 31 0 0 = (jas (jas ad 38 i (s_s (s_end S i 114) i).2.length n_74) 39 i (s_s (s_end S i 114) i).2.length q) 31 0 0 from (hA2 31 0 0 (by decide)).symm]
  have hxx3 := mo_x hR2x
  refine jr_pop hX rfl dX5_start_91 ?_
  refine jr_aload_n (i := 0) hX rfl rfl dX5_start_92 ?_
  refine jr_callV (As := []) (bc1 := (0)) (bs1 := (0)) hX (mm_looks l D s0 b0 A _ (s_sta S i fn) 0 _ T2 hR2x (sta_W hW hfn)) (cwV 0 hX.ts (lw_V q1915 q1917 qs42 q78 q1918) rfl rfl rfl (by decide +kernel) ⟨Nat.le_of_ble_eq_true rfl, Nat.le_of_ble_eq_true rfl⟩) hxx3 rfl rfl (Nat.le_of_ble_eq_true rfl) (by first | omega | (dsimp only; omega) | (show _ ≤ _; simp only []; omega)) (by first | omega | (dsimp only; omega) | (show _ ≤ _; simp only []; omega)) rfl dX5_start_93 (fun v_93 G_93 hp_93 => ?_)
  obtain ⟨rfl, ad3, T3, g1, g2, g3⟩ := hp_93
  refine jr_iload hX rfl dX5_start_96 ?_
  exact jr_iret hX hlk hr ⟨rfl, ad3, T3, g1, (((hF1.trans hF2).trans hFE).trans hFt2).trans g2, fun k i j hk => (g3 k i j (by omega)).trans (hA2 k i j hk)⟩ dX5_start_98
