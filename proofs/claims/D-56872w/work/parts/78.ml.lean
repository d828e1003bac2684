/-! the model: things made, looked into -/
set_option maxHeartbeats 4000000 in
set_option maxRecDepth 100000 in
theorem mm_ThInit (l : Launch) (D : va_G) (s0 : State) (b0 : Nat) (A : Nat → Prop) (G : jG) (n : Nat) (k v : Int32) (q : Nat) (hn : G n = some (jo 16 [.int 0, .int 0, .null])) : jM l yX17_init (ws_ yX17_init cX17_init 4 none) (jR 1 0 0) D s0 b0 A G [.ref n, .int k, .int v, .ref q] (fun w G1 => w = none ∧ G1 = jup G n (jo 16 [.int k, .int v, .ref q])) := by
  refine jM.of (by decide +kernel) (own := RX17) rfl (Nat.le_of_ble_eq_true rfl) ?_
  intro p e s m args below meth c hX hr hlk hnm
  refine jr_aload_n (i := 0) hX rfl rfl dX17_init_0 ?_
  refine jr_oinit hX q1991 q118 q119 (Nat.le_of_ble_eq_true rfl) (Nat.le_of_ble_eq_true rfl) dX17_init_1 ?_
  refine jr_aload_n (i := 0) hX rfl rfl dX17_init_4 ?_
  refine jr_iload_n (i := 1) hX rfl rfl dX17_init_5 ?_
  refine jr_putF (ci := 16) (k := 0) hX hn rfl in_X17 (by decide) tyX17 tyX17_ok nmX17 q1992 rfl hnm rfl (by first | rfl | assumption) (by first | rfl | assumption) (Nat.le_of_ble_eq_true rfl) dX17_init_6 ?_
  refine jr_aload_n (i := 0) hX rfl rfl dX17_init_9 ?_
  refine jr_iload_n (i := 2) hX rfl rfl dX17_init_10 ?_
  refine jr_put (ci := 16) (k := 1) hX jup_s rfl in_X17 (by decide) tyX17 tyX17_ok nmX17 q1994 rfl (by first | rfl | assumption) (by first | rfl | assumption) (Nat.le_of_ble_eq_true rfl) dX17_init_11 ?_
  rw [jup_jup]
  refine jr_aload_n (i := 0) hX rfl rfl dX17_init_14 ?_
  refine jr_aload_n (i := 3) hX rfl rfl dX17_init_15 ?_
  refine jr_put (ci := 16) (k := 2) hX jup_s rfl in_X17 (by decide) tyX17 tyX17_ok nmX17 q1996 rfl (by first | rfl | assumption) (by first | rfl | assumption) (Nat.le_of_ble_eq_true rfl) dX17_init_16 ?_
  rw [jup_jup]
  exact jr_vret hX hlk hr ⟨rfl, rfl⟩ dX17_init_19

theorem ob_thM {D : va_G} {s0 : State} {b0 th : Nat} {S : sSt} {ad : jN} {T : jT} {G : jG} (h : jMo D s0 b0 th S ad T G) : ∀ y ∈ s_rg (s_o S).length (fun v => ad 46 v 0), jOb s0 b0 D G y := fun y hy => by
  obtain ⟨q, hq, rfl⟩ := List.mem_map.mp hy
  exact ob_o (mo_th h (List.getElem?_eq_getElem (List.mem_range.mp hq))) (r := (RX17, TX17, 3)) rfl q2242

set_option maxHeartbeats 4000000 in
set_option maxRecDepth 100000 in
theorem mm_makesNew (l : Launch) (D : va_G) (s0 : State) (b0 : Nat) (A : Nat → Prop) (G : jG) (S : sSt) (th : Nat) (ad : jN) (T : jT) (hR : jMo D s0 b0 th S ad T G) (hv : sWv S) (hs : sWs S) (ho : sWo S) (i j : Nat) (x : sFr) (hi3 : i < 3) (hx : (s_s S i).2[j]? = some x) (qi : Nat) (hqi : qi < (s_i S).length) (aa kk : Nat) (haa : (s_ins S qi).2.1 = nI aa) (hbb : (s_ins S qi).2.2.1 = nI kk) (ha4 : aa < 4) (hkk : kk < 3) : jM l yX5_makesNew (ws_ yX5_makesNew cX5_makesNew 4 none) (jR 7 3 50) D s0 b0 A G [.ref (ad 31 0 0), .ref (ad 35 i 0), .ref (ad 38 i j), .ref (ad 50 qi 0)] (fun w G1 => w = none ∧ ∃ (ad1 : jN) (T1 : jT), jMo D s0 b0 th (s_mk S i j x kk aa) ad1 T1 G1 ∧ jFm 31 60 T G T1 G1 ∧ ∀ k i j, ¬ ((k = 46 ∨ k = 47) ∧ i = (s_o S).length ∧ j = 0) → ad1 k i j = ad k i j) := by
  have hxx := mo_x hR
  have hF := mo_fr hR hi3 hx
  have hLo := mo_loc hR hi3 hx
  have hmm : s_m S = (s_v S).length - 1 := rfl
  have hvl := hv.1
  have hvu := hv.2.1
  have hfx := (hs i hi3).2.2 j x hx
  have hst := mo_lan hR hi3
  obtain ⟨hol, hoe⟩ := ho
  have hnf := (hv.2.2 x.1 (by omega)).2.1 kk hkk
  have hI := mo_cd hR hqi
  rw [haa, hbb] at hI
  obtain ⟨moO, capO, eaO, hOL, -, hOc, hOt⟩ := mo_ths hR
  refine jM.of (by decide +kernel) (own := RX5) rfl (Nat.le_of_ble_eq_true rfl) ?_
  intro p e s m args below meth c hX hr hlk hnm
  refine jr_aload_n (i := 0) hX rfl rfl dX5_makesNew_0 ?_
  refine jr_get (ci := 11) (k := 5) hX hxx rfl in_X5 (by decide) q1735 rfl dX5_makesNew_1 ?_
  refine jr_callV (As := []) (bc1 := (3)) (bs1 := (50)) hX (met_size l D s0 b0 A _ (ad 32 2 0) (s_rg (s_o S).length (fun v => ad 46 v 0)) moO capO eaO hOL) (cwV 0 hX.ts (lw_V q1834 q410 q2205 q68 q412) rfl rfl rfl (by decide +kernel) ⟨Nat.le_of_ble_eq_true rfl, Nat.le_of_ble_eq_true rfl⟩) hOL.1 rfl rfl (Nat.le_of_ble_eq_true rfl) (by first | omega | (dsimp only; omega) | (show _ ≤ _; simp only []; omega)) (by first | omega | (dsimp only; omega) | (show _ ≤ _; simp only []; omega)) rfl dX5_makesNew_4 (fun v_4 G_4 hp_4 => ?_)
  obtain ⟨rfl, e9⟩ := hp_4
  rw [e9, rg_len]
  refine jr_bipush (v := 30) hX (by decide) dX5_makesNew_7 ?_
  refine jr_icmp_ne hX (tgt := 21) (by decide) dX5_makesNew_9 (fun c_9 => ?_) (fun c_9 => ?_)
  · have h30 : (s_o S).length ≠ 30 := fun z => c_9 (by rw [z]; rfl)
    refine jr_aload_n (i := 2) hX rfl rfl dX5_makesNew_21 ?_
    refine jr_getN (ci := 15) (k := 3) hX hF rfl in_X14 (by decide) q1901 rfl dX5_makesNew_22 ?_
    refine jr_aload_n (i := 3) hX rfl rfl dX5_makesNew_25 ?_
    refine jr_getN (ci := 14) (k := 1) hX hI rfl in_X11 (by decide) q1807 rfl dX5_makesNew_26 ?_
    refine jr_aload_n (i := 0) hX rfl rfl dX5_makesNew_29 ?_
    refine jr_get (ci := 11) (k := 5) hX hxx rfl in_X5 (by decide) q1735 rfl dX5_makesNew_30 ?_
    refine jr_callV (As := []) (bc1 := (3)) (bs1 := (50)) hX (met_size l D s0 b0 A _ (ad 32 2 0) (s_rg (s_o S).length (fun v => ad 46 v 0)) moO capO eaO hOL) (cwV 0 hX.ts (lw_V q1834 q410 q2205 q68 q412) rfl rfl rfl (by decide +kernel) ⟨Nat.le_of_ble_eq_true rfl, Nat.le_of_ble_eq_true rfl⟩) hOL.1 rfl rfl (Nat.le_of_ble_eq_true rfl) (by first | omega | (dsimp only; omega) | (show _ ≤ _; simp only []; omega)) (by first | omega | (dsimp only; omega) | (show _ ≤ _; simp only []; omega)) rfl dX5_makesNew_33 (fun v_33 G_33 hp_33 => ?_)
    obtain ⟨rfl, e9⟩ := hp_33
    rw [e9, rg_len]
    refine jr_iast hX hLo (vp_in_nI ha4 (by omega)) dX5_makesNew_36 ?_
    rw [nI_clamp (by omega)]
    have hR0 : jMo D s0 b0 th (s_lw S i j x (upd x.2.2.2.1 aa (nI (s_o S).length))) ad T _ := mo_wloc hR hi3 hx (upd x.2.2.2.1 aa (nI (s_o S).length))
    have hF00 : jFm 31 60 T G T _ := jFm.pt (T := T) (G := G) (lo := 31) (hi := 60) (c := ji D 4 (upd x.2.2.2.1 aa (nI (s_o S).length))) (mo_t39 hR hi3 hx) (by decide)
    generalize jup G (ad 39 i j) (ji D 4 (upd x.2.2.2.1 aa (nI (s_o S).length))) = Ga at hR0 hF00 ⊢
    have hx0 : (s_s (s_lw S i j x (upd x.2.2.2.1 aa (nI (s_o S).length))) i).2[j]? = some (x.1, x.2.1, x.2.2.1, (upd x.2.2.2.1 aa (nI (s_o S).length)), x.2.2.2.2) := by
      show ((sup (s_s S) i _) i).2[j]? = _
      rw [sup_s]
      exact List.getElem?_set_self (lt_ofl hx)
    have hxx0 := mo_x hR0
    have hFx0 := mo_fr hR0 hi3 hx0
    have hVV := mo_ver hR0 (v := x.1) (show x.1 < (s_v S).length by omega)
    have hNF := mo_nf hR0 (v := x.1) (show x.1 < (s_v S).length by omega)
    have hI0 : Ga (ad 50 qi 0) = some (jo 14 [.int (jCL.getD (s_ins S qi).1 0), .int (nI aa), .int (nI kk), .int (s_ins S qi).2.2.2]) := by rw [← haa, ← hbb]; exact mo_cd (S := (s_lw S i j x (upd x.2.2.2.1 aa (nI (s_o S).length)))) hR0 hqi
    obtain ⟨moV, capV, eaV, hVL, -, hVc, -⟩ := mo_vs hR0
    obtain ⟨moP, capP, eaP, hPL, -, hPc, hPt⟩ := mo_ths hR0
    refine jr_aload_n (i := 0) hX rfl rfl dX5_makesNew_37 ?_
    refine jr_get (ci := 11) (k := 5) hX hxx0 rfl in_X5 (by decide) q1735 rfl dX5_makesNew_38 ?_
    refine jr_ee hX (fun hE0 => ?_)
    refine jr_new (ci := 16) (fs := [.int 0, .int 0, .null]) (bc1 := 2) (bs1 := 47) hX in_X17 tyX17 tyX17_ok q1959 q1987 q108 rfl (by decide) (by omega) (by omega) dX5_makesNew_41 (fun n_41 hn_41 hA_41 => ?_)
    refine jr_dup hX rfl dX5_makesNew_44 ?_
    refine jr_aload_n (i := 3) hX rfl rfl dX5_makesNew_45 ?_
    refine jr_getN (ci := 14) (k := 2) hX (jup_f hI0 hn_41) rfl in_X11 (by decide) q1809 rfl dX5_makesNew_46 ?_
    refine jr_aload_n (i := 2) hX rfl rfl dX5_makesNew_49 ?_
    refine jr_getN (ci := 15) (k := 0) hX (jup_f hFx0 hn_41) rfl in_X14 (by decide) q1896 rfl dX5_makesNew_50 ?_
    refine jr_aload_n (i := 0) hX rfl rfl dX5_makesNew_53 ?_
    refine jr_get (ci := 11) (k := 1) hX (jup_f hxx0 hn_41) rfl in_X5 (by decide) q1731 rfl dX5_makesNew_54 ?_
    refine jr_aload_n (i := 2) hX rfl rfl dX5_makesNew_57 ?_
    refine jr_getN (ci := 15) (k := 0) hX (jup_f hFx0 hn_41) rfl in_X14 (by decide) q1896 rfl dX5_makesNew_58 ?_
    refine jr_callV (As := [.int (nI x.1)]) (bc1 := (2)) (bs1 := (47)) hX (met_get l D s0 b0 A _ (ad 32 0 0) (s_rg (s_m S) (fun v => ad 37 v 0)) moV capV eaV ((jNw.new hn_41).jLS hVL) x.1 (ad 37 x.1 0) (rg_at (by omega))) (cwV 1 hX.ts (lw_V q1712 q304 q2203 q68 q306) rfl rfl rfl (by decide +kernel) ⟨Nat.le_of_ble_eq_true rfl, Nat.le_of_ble_eq_true rfl⟩) (jup_f hVL.1 hn_41) rfl rfl (Nat.le_of_ble_eq_true rfl) (by first | omega | (dsimp only; omega) | (show _ ≤ _; simp only []; omega)) (by first | omega | (dsimp only; omega) | (show _ ≤ _; simp only []; omega)) rfl dX5_makesNew_61 (fun v_61 G_61 hp_61 => ?_)
    obtain ⟨rfl, e9⟩ := hp_61
    rw [e9]
    refine jr_castS hX (jup_f hVV hn_41) rfl q1666 dX5_makesNew_64 ?_
    refine jr_getN (ci := 12) (k := 1) hX (jup_f hVV hn_41) rfl in_X6 (by decide) q1685 rfl dX5_makesNew_67 ?_
    refine jr_aload_n (i := 3) hX rfl rfl dX5_makesNew_70 ?_
    refine jr_getN (ci := 14) (k := 2) hX (jup_f hI0 hn_41) rfl in_X11 (by decide) q1809 rfl dX5_makesNew_71 ?_
    refine jr_iald hX (jup_f hNF hn_41) (vp_in_nI hkk (by omega)) dX5_makesNew_74 ?_
    rw [nI_clamp (by omega), show s_ver (s_lw S i j x (upd x.2.2.2.1 aa (nI (s_o S).length))) x.1 = s_ver S x.1 from rfl]
    refine jr_newi (N := (s_ver S x.1).2.1 kk) (bc1 := 1) (bs1 := 43) hX q295 (nI_pos (by omega)) (nI_clamp (by omega)) (by omega) (by omega) (by omega) dX5_makesNew_75 (fun q9 hq9 hq9A => ?_)
    refine jr_callI (ret := none) (As := [.int (nI kk), .int (nI x.1), .ref q9]) (bc1 := (1)) (bs1 := (43)) hX (mm_ThInit l D s0 b0 A _ n_41 (nI kk) (nI x.1) q9 (jup_f jup_s hq9)) (cwI 3 hX.ts (lw_meth q1990) rfl rfl rfl (hX.ts _ q108) (hX.ts _ q1988) (hX.ts _ q1989) rfl (by decide +kernel) ⟨Nat.le_of_ble_eq_true rfl, Nat.le_of_ble_eq_true rfl⟩) rfl (Nat.le_of_ble_eq_true rfl) (by first | omega | (dsimp only; omega) | (show _ ≤ _; simp only []; omega)) (by first | omega | (dsimp only; omega) | (show _ ≤ _; simp only []; omega)) rfl dX5_makesNew_77 (fun v_77 G_77 hp_77 => ?_)
    obtain ⟨rfl, e9⟩ := hp_77
    have hqn : q9 ≠ n_41 := fun z => by rw [z, jup_s] at hq9; cases hq9
    have hq0 : Ga q9 = none := by rw [jup_n hqn] at hq9; exact hq9
    have hgn : G_77 n_41 = some (jo 16 [.int (nI kk), .int (nI x.1), .ref q9]) := by rw [e9, jup_s]
    have hgq : G_77 q9 = some (ji D ((s_ver S x.1).2.1 kk) (fun _ => 0)) := by rw [e9, jup_n hqn, jup_s]
    have hgo : ∀ b, b ≠ n_41 → b ≠ q9 → G_77 b = Ga b := fun b z1 z2 => by rw [e9, jup_n z1, jup_n z2, jup_n z1]
    have hnw : jNw Ga G_77 := fun b x hb => by
      have z1 : b ≠ n_41 := fun z => by rw [z, hn_41] at hb; cases hb
      have z2 : b ≠ q9 := fun z => by rw [z, hq0] at hb; cases hb
      rw [hgo b z1 z2]; exact hb
    have hR1 : jMo D s0 b0 th (s_lw S i j x (upd x.2.2.2.1 aa (nI (s_o S).length))) (jas (jas ad 46 (s_o S).length 0 n_41) 47 (s_o S).length 0 q9) _ G_77 := mo_ad67 (n := n_41) (q := q9) (jRep.nw hR0 hnw) (hR0.un hn_41) (hR0.un hq0) hqn (by rw [hgn]; simp) (by rw [hgq]; simp) (hX.ee hA_41) (hX.ee hq9A)
    have hOL1 := hnw.jLS hPL
    refine jr_callV (As := [.ref n_41]) (bc1 := (0)) (bs1 := (0)) hX (met_add l D s0 b0 A _ (ad 32 2 0) (s_rg (s_o S).length (fun v => ad 46 v 0)) moP capP eaP hOL1 (ob_thM (S := (s_lw S i j x (upd x.2.2.2.1 aa (nI (s_o S).length)))) (jRep.nw hR0 hnw)) n_41 (ob_o hgn (r := (RX17, TX17, 3)) rfl q2242) 1 43 (by omega) (fun hz => ⟨by omega, by rw [rg_len] at hz; have h9 := hPL.2.2.2; unfold jgw; split <;> omega⟩)) (cwV 1 hX.ts (lw_V q1711 q186 q2202 q68 q188) rfl rfl rfl (by decide +kernel) ⟨Nat.le_of_ble_eq_true rfl, Nat.le_of_ble_eq_true rfl⟩) hOL1.1 rfl rfl (Nat.le_of_ble_eq_true rfl) (by first | omega | (dsimp only; omega) | (show _ ≤ _; simp only []; omega)) (by first | omega | (dsimp only; omega) | (show _ ≤ _; simp only []; omega)) rfl dX5_makesNew_80 (fun v_80 G_80 hp_80 => ?_)
    obtain ⟨rfl, hU⟩ := hp_80
    refine jr_ee hX (fun hE1 => ?_)
    have hlast : (jas (jas ad 46 (s_o S).length 0 n_41) 47 (s_o S).length 0 q9) 46 (s_o S).length 0 = n_41 := by rw [jas_n (fun z => by omega), jas_s]
    have hsame : ∀ v, v < (s_o S).length → (jas (jas ad 46 (s_o S).length 0 n_41) 47 (s_o S).length 0 q9) 46 v 0 = ad 46 v 0 := fun v hv9 => by rw [jas_n (fun z => by omega), jas_n (fun z => by omega)]
    rw [show s_rg (s_o S).length (fun v => ad 46 v 0) ++ [n_41] = s_rg (s_o S ++ [(x.1, kk, fun _ => 0)]).length (fun v => (jas (jas ad 46 (s_o S).length 0 n_41) 47 (s_o S).length 0 q9) 46 v 0) by
      rw [List.length_append, List.length_singleton, ← rg_ap (f := fun v => ad 46 v 0) hsame, hlast]] at hU
    have hE01 : G_77 (jEE s0 b0) = none := by
      rw [hgo _ (fun z => hX.ee hA_41 z.symm) (fun z => hX.ee hq9A z.symm)]
      exact hE0
    have hcap1 : (if (s_rg (s_o S).length (fun v => ad 46 v 0)).length = capP then jgw capP (capP + 1) else capP) ≤ 200 := by
      rw [rg_len]
      have h9 := hPL.2.2.2
      split
      · unfold jgw; split <;> omega
      · exact hPc
    obtain ⟨T2, hR2, hfm2⟩ := mo_tps (S := (s_lw S i j x (upd x.2.2.2.1 aa (nI (s_o S).length)))) (fs := s_o S ++ [(x.1, kk, fun _ => 0)]) hR1 hE1 (mo := moP) (cap := capP) (ea := eaP) (by
        show jLS D s0 b0 _ _ (s_rg (s_o S).length (fun v => (jas (jas ad 46 (s_o S).length 0 n_41) 47 (s_o S).length 0 q9) 46 v 0)) _ _ _
        rw [show s_rg (s_o S).length (fun v => (jas (jas ad 46 (s_o S).length 0 n_41) 47 (s_o S).length 0 q9) 46 v 0) = s_rg (s_o S).length (fun v => ad 46 v 0) from List.map_congr_left fun v hv9 => hsame v (List.mem_range.mp hv9)]
        exact hOL1) (fun hc9 => by
        have ht := hPt hc9
        rw [jTs_n, jTs_n]
        · exact ht
        · intro z; rw [z] at ht; have := hR0.un hn_41; rw [ht] at this; cases this
        · intro z; rw [z] at ht; have := hR0.un hq0; rw [ht] at this; cases this) hU hcap1 (fun j9 x9 hx9 => by
        by_cases hj : j9 < (s_o S).length
        · rw [List.getElem?_append_left hj] at hx9; exact Or.inl hx9
        · have hjl := lt_ofl hx9
          rw [List.length_append, List.length_singleton] at hjl
          have ej : j9 = (s_o S).length := by omega
          subst ej
          rw [List.getElem?_append_right (Nat.le_refl _), Nat.sub_self] at hx9
          have ex := Option.some.inj hx9
          subst ex
          rw [hlast, jas_s]
          exact Or.inr ⟨by rw [jTs_n (Ne.symm hqn)]; exact jTs_s, hgn, jTs_s, hgq⟩)
    refine jr_pop hX rfl dX5_makesNew_83 ?_
    refine jr_vret hX hlk hr ⟨rfl, (jas (jas ad 46 (s_o S).length 0 n_41) 47 (s_o S).length 0 q9), T2, ?_, ?_, fun k9 i9 j9 hk => ?_⟩ dX5_makesNew_84
    · unfold s_mk
      rw [if_neg h30]
      exact hR2
    · refine hF00.trans (fun b hb hk => ?_)
      have z1 : b ≠ n_41 := fun z => hb (by rw [z]; exact hn_41)
      have z2 : b ≠ q9 := fun z => hb (by rw [z]; exact hq0)
      have hb1 : G_77 b ≠ none := by rw [hgo b z1 z2]; exact hb
      have h9 := mo_fm (by omega) hE01 hfm2 b hb1 (by rw [jTs_n z2]; show ¬ (31 ≤ (jTs T n_41 46 (s_o S).length 0 b).1 % 100 ∧ _); rw [jTs_n z1]; exact hk)
      rw [jTs_n z2] at h9
      change T2 b = jTs T n_41 46 (s_o S).length 0 b ∧ _ at h9
      rw [jTs_n z1, hgo b z1 z2] at h9
      exact h9
    · rw [jas_n (fun z => hk ⟨Or.inr z.1, z.2⟩), jas_n (fun z => hk ⟨Or.inl z.1, z.2⟩)]
  · have h30 : (s_o S).length = 30 := (nI_eq (by omega) (by omega)).mp c_9
    refine jr_aload_n (i := 1) hX rfl rfl dX5_makesNew_12 ?_
    refine jr_bipush (v := 102) hX (by decide) dX5_makesNew_13 ?_
    refine jr_callV (As := [.int 102]) (bc1 := (3)) (bs1 := (50)) hX (mm_ends l D s0 b0 A _ S th ad T hR i hi3 102 (by omega)) (cwV 1 hX.ts (lw_V q1884 q1885 q1886 q80 q1887) rfl rfl rfl (by decide +kernel) ⟨Nat.le_of_ble_eq_true rfl, Nat.le_of_ble_eq_true rfl⟩) hst rfl rfl (Nat.le_of_ble_eq_true rfl) (by first | omega | (dsimp only; omega) | (show _ ≤ _; simp only []; omega)) (by first | omega | (dsimp only; omega) | (show _ ≤ _; simp only []; omega)) rfl dX5_makesNew_15 (fun v_15 G_15 hp_15 => ?_)
    obtain ⟨rfl, T1, hR1, hfm⟩ := hp_15
    refine jr_goto hX (tgt := 84) (by decide) dX5_makesNew_18 ?_
    exact jr_vret hX hlk hr ⟨rfl, ad, T1, by unfold s_mk; rw [if_pos h30]; exact hR1, hfm, fun _ _ _ _ => rfl⟩ dX5_makesNew_84

theorem in_len {x : Int32} {n : Nat} (hn : n < 1000) (h : (0 : Int32) ≤ x ∧ x ≤ nI n - 1) : ∃ o, o < n ∧ x = nI o := by
  cases n with
  | zero => exact absurd (Int32.le_trans h.1 h.2) (by decide)
  | succ k =>
    rw [nI_pred k] at h
    obtain ⟨j, hj, rfl⟩ := nI_of (Int32.not_lt.mpr h.1)
    exact ⟨j, by have := (nI_leI hj (by omega)).mp h.2; omega, rfl⟩
theorem len_in {n o : Nat} (hn : n < 1000) (h : o < n) : (0 : Int32) ≤ nI o ∧ nI o ≤ nI n - 1 := by
  cases n with
  | zero => omega
  | succ k =>
    rw [nI_pred k]
    exact ⟨nI_pos' (by omega), nI_le (by omega) (by omega)⟩

theorem mo_t47 {D : va_G} {s0 : State} {b0 th : Nat} {S : sSt} {ad : jN} {T : jT} {G : jG} {i : Nat} {x : sTh} (h : jMo D s0 b0 th S ad T G) (hx : (s_o S)[i]? = some x) : T (ad 47 i 0) = (47, i, 0) := h.t (k := 47) (i := i) (j := 0) (s := .inl (ji D ((s_ver S x.1).2.1 x.2.1) x.2.2)) (by
  show (if 0 = 0 then Option.map _ ((s_o S)[i]?) else none) = _
  rw [if_pos rfl, hx]; rfl)

set_option maxHeartbeats 4000000 in
set_option maxRecDepth 100000 in
theorem mm_looksInto (l : Launch) (D : va_G) (s0 : State) (b0 : Nat) (A : Nat → Prop) (G : jG) (S : sSt) (th : Nat) (ad : jN) (T : jT) (hR : jMo D s0 b0 th S ad T G) (hv : sWv S) (hs : sWs S) (ho : sWo S) (i j : Nat) (x : sFr) (hi3 : i < 3) (hx : (s_s S i).2[j]? = some x) (qi : Nat) (hqi : qi < (s_i S).length) (hcode : (s_ins S qi).1 = 3 ∨ (s_ins S qi).1 = 4) (aa cy kk ff : Nat) (haa : (s_ins S qi).2.1 = nI aa) (hcy : (s_ins S qi).2.2.2 = nI cy) (ha4 : aa < 4) (hc4 : cy < 4) (hb1 : (s_ins S qi).2.2.1 / 10 = nI kk) (hb2 : (s_ins S qi).2.2.1 - (s_ins S qi).2.2.1 / 10 * 10 = nI ff) (hkk : kk < 3) (hff : ff < 10) : jM l yX5_looksInto (ws_ yX5_looksInto cX5_looksInto 8 none) (jR 6 5 20) D s0 b0 A G [.ref (ad 31 0 0), .ref (ad 35 i 0), .ref (ad 38 i j), .ref (ad 50 qi 0)] (fun w G1 => w = none ∧ ∃ (ad1 : jN) (T1 : jT), jMo D s0 b0 th (s_acR S i j x (s_ins S qi)) ad1 T1 G1 ∧ jFm 31 60 T G T1 G1 ∧ ∀ k i j, k ≠ 47 → ad1 k i j = ad k i j) := by
  have hxx := mo_x hR
  have hF := mo_fr hR hi3 hx
  have hLo := mo_loc hR hi3 hx
  have hmm : s_m S = (s_v S).length - 1 := rfl
  have hvl := hv.1
  have hvu := hv.2.1
  have hfx := (hs i hi3).2.2 j x hx
  have hst := mo_lan hR hi3
  obtain ⟨hol, hoe⟩ := ho
  have hnf := (hv.2.2 x.1 (by omega)).2.1 kk hkk
  have hVV := mo_ver hR (v := x.1) (by omega)
  have hNF := mo_nf hR (v := x.1) (by omega)
  have hI := mo_cd hR hqi
  rw [haa, hcy] at hI
  obtain ⟨moV, capV, eaV, hVL, -, hVc, -⟩ := mo_vs hR
  obtain ⟨moO, capO, eaO, hOL, -, hOc, hOt⟩ := mo_ths hR
  refine jM.of (by decide +kernel) (own := RX5) rfl (Nat.le_of_ble_eq_true rfl) ?_
  intro p e s m args below meth c hX hr hlk hnm
  refine jr_aload_n (i := 2) hX rfl rfl dX5_looksInto_0 ?_
  refine jr_getN (ci := 15) (k := 3) hX hF rfl in_X14 (by decide) q1901 rfl dX5_looksInto_1 ?_
  refine jr_aload_n (i := 3) hX rfl rfl dX5_looksInto_4 ?_
  refine jr_getN (ci := 14) (k := 3) hX hI rfl in_X11 (by decide) q1811 rfl dX5_looksInto_5 ?_
  refine jr_iald hX hLo (vp_in_nI hc4 (by omega)) dX5_looksInto_8 ?_
  rw [nI_clamp (by omega)]
  refine jr_istore hX (by decide) rfl dX5_looksInto_9 ?_
  refine jr_aload_n (i := 3) hX rfl rfl dX5_looksInto_11 ?_
  refine jr_getN (ci := 14) (k := 2) hX hI rfl in_X11 (by decide) q1809 rfl dX5_looksInto_12 ?_
  refine jr_bipush (v := 10) hX (by decide) dX5_looksInto_15 ?_
  refine jr_irem hX (by decide) dX5_looksInto_17 ?_
  rw [hb2]
  refine jr_istore hX (by decide) rfl dX5_looksInto_18 ?_
  refine jr_iload hX rfl dX5_looksInto_20 ?_
  refine jr_iconst (v := 0) hX rfl dX5_looksInto_22 ?_
  refine jr_aload_n (i := 0) hX rfl rfl dX5_looksInto_23 ?_
  refine jr_get (ci := 11) (k := 5) hX hxx rfl in_X5 (by decide) q1735 rfl dX5_looksInto_24 ?_
  refine jr_callV (As := []) (bc1 := (5)) (bs1 := (20)) hX (met_size l D s0 b0 A _ (ad 32 2 0) (s_rg (s_o S).length (fun v => ad 46 v 0)) moO capO eaO hOL) (cwV 0 hX.ts (lw_V q1834 q410 q2205 q68 q412) rfl rfl rfl (by decide +kernel) ⟨Nat.le_of_ble_eq_true rfl, Nat.le_of_ble_eq_true rfl⟩) hOL.1 rfl rfl (Nat.le_of_ble_eq_true rfl) (by first | omega | (dsimp only; omega) | (show _ ≤ _; simp only []; omega)) (by first | omega | (dsimp only; omega) | (show _ ≤ _; simp only []; omega)) rfl dX5_looksInto_27 (fun v_27 G_27 hp_27 => ?_)
  obtain ⟨rfl, e9⟩ := hp_27
  rw [e9, rg_len]
  refine jr_iconst (v := 1) hX rfl dX5_looksInto_30 ?_
  refine jr_isub hX dX5_looksInto_31 ?_
  refine jr_callS (As := [.int (x.2.2.2.1 cy), .int 0, .int (nI (s_o S).length - 1)]) (bc1 := (5)) (bs1 := (20)) hX (mm_in l D s0 b0 A _ (x.2.2.2.1 cy) 0 (nI (s_o S).length - 1)) (va_cwS 3 hX.ts (lw_S q1784 q1785 q78 q1786) rfl rfl rfl (by decide +kernel) ⟨Nat.le_of_ble_eq_true rfl, Nat.le_of_ble_eq_true rfl⟩) rfl (Nat.le_of_ble_eq_true rfl) (by first | omega | (dsimp only; omega) | (show _ ≤ _; simp only []; omega)) (by first | omega | (dsimp only; omega) | (show _ ≤ _; simp only []; omega)) rfl dX5_looksInto_32 (fun v_32 G_32 hp_32 => ?_)
  obtain ⟨rfl, e9⟩ := hp_32
  rw [e9]
  refine jr_if_eq hX (tgt := 97) (by decide) dX5_looksInto_35 (fun c_35 => ?_) (fun c_35 => ?_)
  · refine jr_iconst (v := 0) hX rfl dX5_looksInto_97 ?_
    refine jr_istore hX (by decide) rfl dX5_looksInto_98 ?_
    refine jr_iload hX rfl dX5_looksInto_100 ?_
    refine jr_if_ne hX (tgt := 112) (by decide) dX5_looksInto_102 (fun c_102 => absurd c_102 (fun z => z rfl)) (fun c_102 => ?_)
    refine jr_aload_n (i := 1) hX rfl rfl dX5_looksInto_105 ?_
    refine jr_bipush (v := 102) hX (by decide) dX5_looksInto_106 ?_
    refine jr_callV (As := [.int 102]) (bc1 := (5)) (bs1 := (20)) hX (mm_ends l D s0 b0 A _ S th ad T hR i hi3 102 (by omega)) (cwV 1 hX.ts (lw_V q1884 q1885 q1886 q80 q1887) rfl rfl rfl (by decide +kernel) ⟨Nat.le_of_ble_eq_true rfl, Nat.le_of_ble_eq_true rfl⟩) hst rfl rfl (Nat.le_of_ble_eq_true rfl) (by first | omega | (dsimp only; omega) | (show _ ≤ _; simp only []; omega)) (by first | omega | (dsimp only; omega) | (show _ ≤ _; simp only []; omega)) rfl dX5_looksInto_108 (fun v_108 G_108 hp_108 => ?_)
    obtain ⟨rfl, T1, hR1, hfm⟩ := hp_108
    have hno9 : s_acR S i j x (s_ins S qi) = s_end S i 102 := by
      unfold s_acR
      rw [hcy, nI_clamp (by omega)]
      by_cases h0 : (0 : Int32) ≤ x.2.2.2.1 cy
      · obtain ⟨o9, ho9, e9'⟩ := nI_of (Int32.not_lt.mpr h0)
        rw [if_pos h0, e9', nI_clamp (by omega)]
        have hno : (s_o S)[o9]? = none := List.getElem?_eq_none (Nat.not_lt.mp fun z => absurd (of_decide_eq_false (jbz_0 c_35)) (fun z2 => z2 (by rw [e9']; exact len_in (by omega) z)))
        rw [hno]
      · rw [if_neg h0]
    exact jr_vret hX hlk hr ⟨rfl, ad, T1, by rw [hno9]; exact hR1, hfm, fun _ _ _ _ => rfl⟩ dX5_looksInto_111
  · obtain ⟨o, ho9, heo⟩ := in_len (by omega) (of_decide_eq_true (jbz_1 c_35))
    rw [heo]
    obtain ⟨t, ht⟩ : ∃ t, (s_o S)[o]? = some t := ⟨_, List.getElem?_eq_getElem ho9⟩
    have hT := mo_th hR ht
    have htk := (hoe o t ht).2
    refine jr_aload_n (i := 0) hX rfl rfl dX5_looksInto_38 ?_
    refine jr_get (ci := 11) (k := 5) hX hxx rfl in_X5 (by decide) q1735 rfl dX5_looksInto_39 ?_
    refine jr_iload hX rfl dX5_looksInto_42 ?_
    refine jr_callV (As := [.int (nI o)]) (bc1 := (5)) (bs1 := (20)) hX (met_get l D s0 b0 A _ (ad 32 2 0) (s_rg (s_o S).length (fun v => ad 46 v 0)) moO capO eaO hOL o (ad 46 o 0) (rg_at ho9)) (cwV 1 hX.ts (lw_V q1712 q304 q2203 q68 q306) rfl rfl rfl (by decide +kernel) ⟨Nat.le_of_ble_eq_true rfl, Nat.le_of_ble_eq_true rfl⟩) hOL.1 rfl rfl (Nat.le_of_ble_eq_true rfl) (by first | omega | (dsimp only; omega) | (show _ ≤ _; simp only []; omega)) (by first | omega | (dsimp only; omega) | (show _ ≤ _; simp only []; omega)) rfl dX5_looksInto_44 (fun v_44 G_44 hp_44 => ?_)
    obtain ⟨rfl, e9⟩ := hp_44
    rw [e9]
    refine jr_castS hX hT rfl q1959 dX5_looksInto_47 ?_
    refine jr_getN (ci := 16) (k := 0) hX hT rfl in_X17 (by decide) q1993 rfl dX5_looksInto_50 ?_
    refine jr_aload_n (i := 3) hX rfl rfl dX5_looksInto_53 ?_
    refine jr_getN (ci := 14) (k := 2) hX hI rfl in_X11 (by decide) q1809 rfl dX5_looksInto_54 ?_
    refine jr_bipush (v := 10) hX (by decide) dX5_looksInto_57 ?_
    refine jr_idiv hX (by decide) dX5_looksInto_59 ?_
    rw [hb1]
    refine jr_icmp_ne hX (tgt := 97) (by decide) dX5_looksInto_60 (fun c_60 => ?_) (fun c_60 => ?_)
    · refine jr_iconst (v := 0) hX rfl dX5_looksInto_97 ?_
      refine jr_istore hX (by decide) rfl dX5_looksInto_98 ?_
      refine jr_iload hX rfl dX5_looksInto_100 ?_
      refine jr_if_ne hX (tgt := 112) (by decide) dX5_looksInto_102 (fun c_102 => absurd c_102 (fun z => z rfl)) (fun c_102 => ?_)
      refine jr_aload_n (i := 1) hX rfl rfl dX5_looksInto_105 ?_
      refine jr_bipush (v := 102) hX (by decide) dX5_looksInto_106 ?_
      refine jr_callV (As := [.int 102]) (bc1 := (5)) (bs1 := (20)) hX (mm_ends l D s0 b0 A _ S th ad T hR i hi3 102 (by omega)) (cwV 1 hX.ts (lw_V q1884 q1885 q1886 q80 q1887) rfl rfl rfl (by decide +kernel) ⟨Nat.le_of_ble_eq_true rfl, Nat.le_of_ble_eq_true rfl⟩) hst rfl rfl (Nat.le_of_ble_eq_true rfl) (by first | omega | (dsimp only; omega) | (show _ ≤ _; simp only []; omega)) (by first | omega | (dsimp only; omega) | (show _ ≤ _; simp only []; omega)) rfl dX5_looksInto_108 (fun v_108 G_108 hp_108 => ?_)
      obtain ⟨rfl, T1, hR1, hfm⟩ := hp_108
      have hno9 : s_acR S i j x (s_ins S qi) = s_end S i 102 := by
        unfold s_acR
        rw [hcy, nI_clamp (by omega), heo, nI_clamp (by omega), if_pos (nI_pos' (by omega)), ht, hb2, hb1, nI_clamp (by omega), nI_clamp (by omega)]
        show (if _ then _ else _) = _
        rw [if_neg (fun z => c_60 (by rw [z.1]))]
      exact jr_vret hX hlk hr ⟨rfl, ad, T1, by rw [hno9]; exact hR1, hfm, fun _ _ _ _ => rfl⟩ dX5_looksInto_111
    · have hk9 : t.2.1 = kk := (nI_eq (by omega) (by omega)).mp c_60
      refine jr_iload hX rfl dX5_looksInto_63 ?_
      refine jr_aload_n (i := 0) hX rfl rfl dX5_looksInto_65 ?_
      refine jr_get (ci := 11) (k := 1) hX hxx rfl in_X5 (by decide) q1731 rfl dX5_looksInto_66 ?_
      refine jr_aload_n (i := 2) hX rfl rfl dX5_looksInto_69 ?_
      refine jr_getN (ci := 15) (k := 0) hX hF rfl in_X14 (by decide) q1896 rfl dX5_looksInto_70 ?_
      refine jr_callV (As := [.int (nI x.1)]) (bc1 := (5)) (bs1 := (20)) hX (met_get l D s0 b0 A _ (ad 32 0 0) (s_rg (s_m S) (fun v => ad 37 v 0)) moV capV eaV hVL x.1 (ad 37 x.1 0) (rg_at (by omega))) (cwV 1 hX.ts (lw_V q1712 q304 q2203 q68 q306) rfl rfl rfl (by decide +kernel) ⟨Nat.le_of_ble_eq_true rfl, Nat.le_of_ble_eq_true rfl⟩) hVL.1 rfl rfl (Nat.le_of_ble_eq_true rfl) (by first | omega | (dsimp only; omega) | (show _ ≤ _; simp only []; omega)) (by first | omega | (dsimp only; omega) | (show _ ≤ _; simp only []; omega)) rfl dX5_looksInto_73 (fun v_73 G_73 hp_73 => ?_)
      obtain ⟨rfl, e9⟩ := hp_73
      rw [e9]
      refine jr_castS hX hVV rfl q1666 dX5_looksInto_76 ?_
      refine jr_getN (ci := 12) (k := 1) hX hVV rfl in_X6 (by decide) q1685 rfl dX5_looksInto_79 ?_
      refine jr_aload_n (i := 3) hX rfl rfl dX5_looksInto_82 ?_
      refine jr_getN (ci := 14) (k := 2) hX hI rfl in_X11 (by decide) q1809 rfl dX5_looksInto_83 ?_
      refine jr_bipush (v := 10) hX (by decide) dX5_looksInto_86 ?_
      refine jr_idiv hX (by decide) dX5_looksInto_88 ?_
      rw [hb1]
      refine jr_iald hX hNF (vp_in_nI hkk (by omega)) dX5_looksInto_89 ?_
      rw [nI_clamp (by omega)]
      refine jr_icmp_ge hX (tgt := 97) (by decide) dX5_looksInto_90 (fun c_90 => ?_) (fun c_90 => ?_)
      · refine jr_iconst (v := 0) hX rfl dX5_looksInto_97 ?_
        refine jr_istore hX (by decide) rfl dX5_looksInto_98 ?_
        refine jr_iload hX rfl dX5_looksInto_100 ?_
        refine jr_if_ne hX (tgt := 112) (by decide) dX5_looksInto_102 (fun c_102 => absurd c_102 (fun z => z rfl)) (fun c_102 => ?_)
        refine jr_aload_n (i := 1) hX rfl rfl dX5_looksInto_105 ?_
        refine jr_bipush (v := 102) hX (by decide) dX5_looksInto_106 ?_
        refine jr_callV (As := [.int 102]) (bc1 := (5)) (bs1 := (20)) hX (mm_ends l D s0 b0 A _ S th ad T hR i hi3 102 (by omega)) (cwV 1 hX.ts (lw_V q1884 q1885 q1886 q80 q1887) rfl rfl rfl (by decide +kernel) ⟨Nat.le_of_ble_eq_true rfl, Nat.le_of_ble_eq_true rfl⟩) hst rfl rfl (Nat.le_of_ble_eq_true rfl) (by first | omega | (dsimp only; omega) | (show _ ≤ _; simp only []; omega)) (by first | omega | (dsimp only; omega) | (show _ ≤ _; simp only []; omega)) rfl dX5_looksInto_108 (fun v_108 G_108 hp_108 => ?_)
        obtain ⟨rfl, T1, hR1, hfm⟩ := hp_108
        have hno9 : s_acR S i j x (s_ins S qi) = s_end S i 102 := by
          unfold s_acR
          rw [hcy, nI_clamp (by omega), heo, nI_clamp (by omega), if_pos (nI_pos' (by omega)), ht, hb2, hb1, nI_clamp (by omega), nI_clamp (by omega)]
          show (if _ then _ else _) = _
          rw [if_neg (fun z => absurd c_90 (nI_ge z.2 (by omega)))]
        exact jr_vret hX hlk hr ⟨rfl, ad, T1, by rw [hno9]; exact hR1, hfm, fun _ _ _ _ => rfl⟩ dX5_looksInto_111
      · have hf9 : ff < (s_ver S x.1).2.1 kk := Nat.not_le.mp fun z => c_90 (nI_le z (by omega))
        refine jr_iconst (v := 1) hX rfl dX5_looksInto_93 ?_
        refine jr_goto hX (tgt := 98) (by decide) dX5_looksInto_94 ?_
        refine jr_istore hX (by decide) rfl dX5_looksInto_98 ?_
        refine jr_iload hX rfl dX5_looksInto_100 ?_
        refine jr_if_ne hX (tgt := 112) (by decide) dX5_looksInto_102 (fun c_102 => ?_) (fun c_102 => absurd c_102 (by decide))
        refine jr_aload_n (i := 0) hX rfl rfl dX5_looksInto_112 ?_
        refine jr_get (ci := 11) (k := 5) hX hxx rfl in_X5 (by decide) q1735 rfl dX5_looksInto_113 ?_
        refine jr_iload hX rfl dX5_looksInto_116 ?_
        refine jr_callV (As := [.int (nI o)]) (bc1 := (5)) (bs1 := (20)) hX (met_get l D s0 b0 A _ (ad 32 2 0) (s_rg (s_o S).length (fun v => ad 46 v 0)) moO capO eaO hOL o (ad 46 o 0) (rg_at ho9)) (cwV 1 hX.ts (lw_V q1712 q304 q2203 q68 q306) rfl rfl rfl (by decide +kernel) ⟨Nat.le_of_ble_eq_true rfl, Nat.le_of_ble_eq_true rfl⟩) hOL.1 rfl rfl (Nat.le_of_ble_eq_true rfl) (by first | omega | (dsimp only; omega) | (show _ ≤ _; simp only []; omega)) (by first | omega | (dsimp only; omega) | (show _ ≤ _; simp only []; omega)) rfl dX5_looksInto_118 (fun v_118 G_118 hp_118 => ?_)
        obtain ⟨rfl, e9⟩ := hp_118
        rw [e9]
        refine jr_castS hX hT rfl q1959 dX5_looksInto_121 ?_
        refine jr_astore hX (by decide) rfl dX5_looksInto_124 ?_
        refine jr_aload_n (i := 0) hX rfl rfl dX5_looksInto_126 ?_
        refine jr_aload hX rfl dX5_looksInto_127 ?_
        refine jr_aload_n (i := 2) hX rfl rfl dX5_looksInto_129 ?_
        refine jr_getN (ci := 15) (k := 0) hX hF rfl in_X14 (by decide) q1896 rfl dX5_looksInto_130 ?_
        refine jr_callV (As := [.ref (ad 46 o 0), .int (nI x.1)]) (bc1 := (0)) (bs1 := (0)) hX (mm_carryTo l D s0 b0 A _ S th ad T hR hv o t ht (by omega) (hoe o t ht).1 x.1 (by omega)) (cwV 2 hX.ts (lw_V q1960 q1962 qs50 q78 q1963) rfl rfl rfl (by decide +kernel) ⟨Nat.le_of_ble_eq_true rfl, Nat.le_of_ble_eq_true rfl⟩) hxx rfl rfl (Nat.le_of_ble_eq_true rfl) (by first | omega | (dsimp only; omega) | (show _ ≤ _; simp only []; omega)) (by first | omega | (dsimp only; omega) | (show _ ≤ _; simp only []; omega)) rfl dX5_looksInto_133 (fun v_133 G_133 hp_133 => ?_)
        obtain ⟨rfl, ad1, T1, hR1, hF1, hAd⟩ := hp_133
        have ht1 : (s_o (s_cto S o x.1))[o]? = some (x.1, t.2.1, s_car S t.2.1 t.1 x.1 t.2.2) := by rw [s_cto_e ht]; exact List.getElem?_set_self (lt_ofl ht)
        have hx1 : (s_s (s_cto S o x.1) i).2[j]? = some x := by rw [s_cto_e ht]; exact hx
        have hT1 := mo_th hR1 ht1
        have hTF1 := mo_thf hR1 ht1
        have hFx1 := mo_fr hR1 hi3 hx1
        have hLx1 := mo_loc hR1 hi3 hx1
        have hI1 := mo_cd hR1 (q := qi) (by rw [s_cto_e ht]; exact hqi)
        rw [show s_ins (s_cto S o x.1) qi = s_ins S qi from by rw [s_cto_e ht], haa] at hI1
        have hvr : s_ver (s_cto S o x.1) x.1 = s_ver S x.1 := by rw [s_cto_e ht]
        rw [hvr] at hTF1
        rw [hAd 46 o 0 (by decide)] at hT1
        rw [hAd 38 i j (by decide)] at hFx1
        rw [hAd 39 i j (by decide)] at hLx1 hFx1
        rw [hAd 50 qi 0 (by decide)] at hI1
        have hFW := hF1.wide (lo2 := 31) (hi2 := 60) (by decide) (by decide)
        have hacr : s_acR S i j x (s_ins S qi) = s_rch S i j x (decide ((s_ins S qi).1 = 3)) aa ff o := by
          unfold s_acR
          rw [hcy, nI_clamp (by omega), heo, nI_clamp (by omega), if_pos (nI_pos' (by omega)), ht, hb2, hb1, nI_clamp (by omega), nI_clamp (by omega), haa, nI_clamp (by omega)]
          show (if _ then _ else _) = _
          rw [if_pos ⟨hk9, hf9⟩]
        refine jr_aload_n (i := 3) hX rfl rfl dX5_looksInto_136 ?_
        refine jr_getN (ci := 14) (k := 0) hX hI1 rfl in_X11 (by decide) q1805 rfl dX5_looksInto_137 ?_
        refine jr_bipush (v := 103) hX (by decide) dX5_looksInto_140 ?_
        refine jr_icmp_ne hX (tgt := 165) (by decide) dX5_looksInto_142 (fun c_142 => ?_) (fun c_142 => ?_)
        · have h3 : ¬ (s_ins S qi).1 = 3 := fun z => c_142 (by rw [z]; rfl)
          refine jr_aload hX rfl dX5_looksInto_165 ?_
          refine jr_getN (ci := 16) (k := 2) hX hT1 rfl in_X17 (by decide) q1997 rfl dX5_looksInto_167 ?_
          refine jr_iload hX rfl dX5_looksInto_170 ?_
          refine jr_aload_n (i := 2) hX rfl rfl dX5_looksInto_172 ?_
          refine jr_getN (ci := 15) (k := 3) hX hFx1 rfl in_X14 (by decide) q1901 rfl dX5_looksInto_173 ?_
          refine jr_aload_n (i := 3) hX rfl rfl dX5_looksInto_176 ?_
          refine jr_getN (ci := 14) (k := 1) hX hI1 rfl in_X11 (by decide) q1807 rfl dX5_looksInto_177 ?_
          refine jr_iald hX hLx1 (vp_in_nI ha4 (by omega)) dX5_looksInto_180 ?_
          rw [nI_clamp (by omega)]
          refine jr_iast hX hTF1 (vp_in_nI (by rw [hk9]; exact hf9) (by rw [hk9]; omega)) dX5_looksInto_181 ?_
          rw [nI_clamp (by omega)]
          refine jr_vret hX hlk hr ⟨rfl, ad1, T1, ?_, hFW.trans (jFm.pt (k := 47) (i := o) (j := 0) (mo_t47 hR1 ht1) (by decide)), hAd⟩ dX5_looksInto_182
          · rw [hacr]
            unfold s_rch
            rw [ht1]
            show jMo D s0 b0 th (if _ then _ else _) _ _ _
            rw [if_neg (fun z => h3 (of_decide_eq_true z))]
            have h9 := mo_wtf hR1 ht1 (upd (s_car S t.2.1 t.1 x.1 t.2.2) ff (x.2.2.2.1 aa))
            rw [hvr] at h9
            exact h9
        · have h3 : (s_ins S qi).1 = 3 := by
            rcases hcode with z | z
            · exact z
            · rw [z] at c_142; exact absurd c_142 (by decide)
          refine jr_aload_n (i := 2) hX rfl rfl dX5_looksInto_145 ?_
          refine jr_getN (ci := 15) (k := 3) hX hFx1 rfl in_X14 (by decide) q1901 rfl dX5_looksInto_146 ?_
          refine jr_aload_n (i := 3) hX rfl rfl dX5_looksInto_149 ?_
          refine jr_getN (ci := 14) (k := 1) hX hI1 rfl in_X11 (by decide) q1807 rfl dX5_looksInto_150 ?_
          refine jr_aload hX rfl dX5_looksInto_153 ?_
          refine jr_getN (ci := 16) (k := 2) hX hT1 rfl in_X17 (by decide) q1997 rfl dX5_looksInto_155 ?_
          refine jr_iload hX rfl dX5_looksInto_158 ?_
          refine jr_iald hX hTF1 (vp_in_nI (by rw [hk9]; exact hf9) (by rw [hk9]; omega)) dX5_looksInto_160 ?_
          rw [nI_clamp (by omega)]
          refine jr_iast hX hLx1 (vp_in_nI ha4 (by omega)) dX5_looksInto_161 ?_
          rw [nI_clamp (by omega)]
          refine jr_goto hX (tgt := 182) (by decide) dX5_looksInto_162 ?_
          refine jr_vret hX hlk hr ⟨rfl, ad1, T1, ?_, hFW.trans (jFm.pt (k := 39) (i := i) (j := j) (by rw [← hAd 39 i j (by decide)]; exact mo_t39 hR1 hi3 hx1) (by decide)), hAd⟩ dX5_looksInto_182
          · rw [hacr]
            unfold s_rch
            rw [ht1]
            show jMo D s0 b0 th (if _ then _ else _) _ _ _
            rw [if_pos (decide_eq_true h3)]
            have h9 := mo_wloc hR1 hi3 hx1 (upd x.2.2.2.1 aa (s_car S t.2.1 t.1 x.1 t.2.2 ff))
            rw [hAd 39 i j (by decide)] at h9
            exact h9
