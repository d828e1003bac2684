/-! the model's lanes -/
theorem ob_frM {D : va_G} {s0 : State} {b0 th : Nat} {S : sSt} {ad : jN} {T : jT} {G : jG} {i : Nat} (h : jMo D s0 b0 th S ad T G) (hi : i < 3) : ∀ y ∈ s_rg (s_s S i).2.length (fun q => ad 38 i q), jOb s0 b0 D G y := fun y hy => by
  obtain ⟨q, hq, rfl⟩ := List.mem_map.mp hy
  exact ob_o (mo_fr h hi (List.getElem?_eq_getElem (List.mem_range.mp hq))) (r := (RX14, TX14, 5)) rfl q2236
theorem mo_t35 {D : va_G} {s0 : State} {b0 th : Nat} {S : sSt} {ad : jN} {T : jT} {G : jG} {i : Nat} (h : jMo D s0 b0 th S ad T G) (hi : i < 3) : T (ad 35 i 0) = (35, i, 0) := h.t (k := 35) (i := i) (j := 0) (if_pos ⟨hi, rfl⟩)
theorem mo_t38 {D : va_G} {s0 : State} {b0 th : Nat} {S : sSt} {ad : jN} {T : jT} {G : jG} {i j : Nat} (h : jMo D s0 b0 th S ad T G) (hi : i < 3) {x : sFr} (hx : (s_s S i).2[j]? = some x) : T (ad 38 i j) = (38, i, j) := h.t (k := 38) (i := i) (j := j) (s := .inl (jo 15 [.int (nI x.1), .int (nI x.2.1), .int (nI x.2.2.2.2), .ref (ad 39 i j), .int (nI x.2.2.1)])) (by
  show (if i < 3 then Option.map _ ((s_s S i).2[j]?) else none) = _
  rw [if_pos hi, hx]; rfl)
theorem mo_t39 {D : va_G} {s0 : State} {b0 th : Nat} {S : sSt} {ad : jN} {T : jT} {G : jG} {i j : Nat} (h : jMo D s0 b0 th S ad T G) (hi : i < 3) {x : sFr} (hx : (s_s S i).2[j]? = some x) : T (ad 39 i j) = (39, i, j) := h.t (k := 39) (i := i) (j := j) (s := .inl (ji D 4 x.2.2.2.1)) (by
  show (if i < 3 then Option.map _ ((s_s S i).2[j]?) else none) = _
  rw [if_pos hi, hx]; rfl)

set_option maxHeartbeats 4000000 in
set_option maxRecDepth 100000 in
theorem mm_ends (l : Launch) (D : va_G) (s0 : State) (b0 : Nat) (A : Nat → Prop) (G : jG) (S : sSt) (th : Nat) (ad : jN) (T : jT) (hR : jMo D s0 b0 th S ad T G) (i : Nat) (hi3 : i < 3) (cc9 : Nat) (hcc : cc9 < 1000) : jM l yX7_ends (ws_ yX7_ends cX7_ends 2 none) (jR 2 0 0) D s0 b0 A G [.ref (ad 35 i 0), .int (nI cc9)] (fun w G1 => w = none ∧ ∃ T1 : jT, jMo D s0 b0 th (s_end S i cc9) ad T1 G1 ∧ jFm 31 60 T G T1 G1) := by
  have hst := mo_lan hR hi3
  have hnc := nI_nc hcc
  refine jM.of (by decide +kernel) (own := RX7) rfl (Nat.le_of_ble_eq_true rfl) ?_
  intro p e s m args below meth c hX hr hlk hnm
  refine jr_aload_n (i := 0) hX rfl rfl dX7_ends_0 ?_
  refine jr_iload_n (i := 1) hX rfl rfl dX7_ends_1 ?_
  refine jr_put (ci := 13) (k := 0) hX hst rfl in_X7 (by decide) tyX7 tyX7_ok nmX7 q1721 rfl hnc (fits_nc hcc) (Nat.le_of_ble_eq_true rfl) dX7_ends_2 ?_
  have hR1 := mo_wst hR hi3 cc9
  have hst1 := mo_lan hR1 hi3
  obtain ⟨moF, capF, eaF, hFL, -, hFc, hFt⟩ := mo_frl hR1 hi3
  refine jr_aload_n (i := 0) hX rfl rfl dX7_ends_5 ?_
  refine jr_get (ci := 13) (k := 1) hX hst1 rfl in_X7 (by decide) q1723 rfl dX7_ends_6 ?_
  refine jr_ee hX (fun hE0 => ?_)
  refine jr_callV (As := []) (bc1 := (0)) (bs1 := (0)) hX (met_clear l D s0 b0 A _ (ad 36 i 0) _ moF capF eaF hFL) (cwV 0 hX.ts (lw_V q1888 q646 q2206 q68 q648) rfl rfl rfl (by decide +kernel) ⟨Nat.le_of_ble_eq_true rfl, Nat.le_of_ble_eq_true rfl⟩) hFL.1 rfl rfl (Nat.le_of_ble_eq_true rfl) (by first | omega | (dsimp only; omega) | (show _ ≤ _; simp only []; omega)) (by first | omega | (dsimp only; omega) | (show _ ≤ _; simp only []; omega)) rfl dX7_ends_9 (fun v_9 G_9 hp_9 => ?_)
  obtain ⟨rfl, hU⟩ := hp_9
  refine jr_ee hX (fun hE1 => ?_)
  obtain ⟨T1, hR2, hfm⟩ := mo_frs (S := s_st S i cc9) hR1 hi3 hE1 hFL hFt (fs := []) hU hFc (fun j x hx => by cases hx)
  refine jr_vret hX hlk hr ⟨rfl, T1, ?_, ?_⟩ dX7_ends_12
  · have e : sw_s (s_st S i cc9) (sup (s_s (s_st S i cc9)) i ((s_s (s_st S i cc9) i).1, [])) = s_end S i cc9 := by
      show (S.1, S.2.1, sup (sup (s_s S) i (cc9, (s_s S i).2)) i ((sup (s_s S) i (cc9, (s_s S i).2) i).1, []), S.2.2.2) = (S.1, S.2.1, sup (s_s S) i (cc9, []), S.2.2.2)
      rw [sup_sup, sup_s]
    rw [e] at hR2
    exact hR2
  · exact (jFm.pt (mo_t35 hR hi3) (by decide)).trans (mo_fm (by omega) hE0 hfm)

set_option maxHeartbeats 4000000 in
set_option maxRecDepth 100000 in
theorem mm_returns (l : Launch) (D : va_G) (s0 : State) (b0 : Nat) (A : Nat → Prop) (G : jG) (S : sSt) (th : Nat) (ad : jN) (T : jT) (hR : jMo D s0 b0 th S ad T G) (hs : sWs S) (i : Nat) (hi3 : i < 3) (r : Int32) (hne : 0 < (s_s S i).2.length) : jM l yX5_returns (ws_ yX5_returns cX5_returns 4 none) (jR 4 0 0) D s0 b0 A G [.ref (ad 31 0 0), .ref (ad 35 i 0), .int r] (fun w G1 => w = none ∧ ∃ T1 : jT, jMo D s0 b0 th (s_gb S i r) ad T1 G1 ∧ jFm 31 60 T G T1 G1) := by
  have hst := mo_lan hR hi3
  obtain ⟨moF, capF, eaF, hFL, -, hFc, hFt⟩ := mo_frl hR hi3
  obtain ⟨hs1, hs2, hs3⟩ := hs i hi3
  obtain ⟨o, ho⟩ : ∃ o, (s_s S i).2[(s_s S i).2.length - 1]? = some o := ⟨_, List.getElem?_eq_getElem (by omega)⟩
  have hO := mo_fr hR hi3 ho
  have htO := mo_t38 hR hi3 ho
  have hle : ((s_s S i).2.eraseIdx ((s_s S i).2.length - 1)).length = (s_s S i).2.length - 1 := by rw [List.length_eraseIdx, if_pos (by omega)]
  refine jM.of (by decide +kernel) (own := RX5) rfl (Nat.le_of_ble_eq_true rfl) ?_
  intro p e s m args below meth c hX hr hlk hnm
  refine jr_aload_n (i := 1) hX rfl rfl dX5_returns_0 ?_
  refine jr_getN (ci := 13) (k := 1) hX hst rfl in_X7 (by decide) q1724 rfl dX5_returns_1 ?_
  refine jr_aload_n (i := 1) hX rfl rfl dX5_returns_4 ?_
  refine jr_getN (ci := 13) (k := 1) hX hst rfl in_X7 (by decide) q1724 rfl dX5_returns_5 ?_
  refine jr_callV (As := []) (bc1 := (0)) (bs1 := (0)) hX (met_size l D s0 b0 A _ (ad 36 i 0) (s_rg (s_s S i).2.length (fun q => ad 38 i q)) moF capF eaF hFL) (cwV 0 hX.ts (lw_V q1834 q410 q2205 q68 q412) rfl rfl rfl (by decide +kernel) ⟨Nat.le_of_ble_eq_true rfl, Nat.le_of_ble_eq_true rfl⟩) hFL.1 rfl rfl (Nat.le_of_ble_eq_true rfl) (by first | omega | (dsimp only; omega) | (show _ ≤ _; simp only []; omega)) (by first | omega | (dsimp only; omega) | (show _ ≤ _; simp only []; omega)) rfl dX5_returns_8 (fun v_8 G_8 hp_8 => ?_)
  obtain ⟨rfl, e9⟩ := hp_8
  rw [e9, rg_len]
  refine jr_iconst (v := 1) hX rfl dX5_returns_11 ?_
  refine jr_isub hX dX5_returns_12 ?_
  rw [nI_s1 hne]
  refine jr_ee hX (fun hE0 => ?_)
  refine jr_callV (As := [.int (nI ((s_s S i).2.length - 1))]) (bc1 := (0)) (bs1 := (0)) hX (met_remove l D s0 b0 A _ (ad 36 i 0) (s_rg (s_s S i).2.length (fun q => ad 38 i q)) moF capF eaF hFL (ob_frM hR hi3) ((s_s S i).2.length - 1) (ad 38 i ((s_s S i).2.length - 1)) (rg_at (by omega))) (cwV 1 hX.ts (lw_V q2017 q1066 q2209 q68 q1068) rfl rfl rfl (by decide +kernel) ⟨Nat.le_of_ble_eq_true rfl, Nat.le_of_ble_eq_true rfl⟩) hFL.1 rfl rfl (Nat.le_of_ble_eq_true rfl) (by first | omega | (dsimp only; omega) | (show _ ≤ _; simp only []; omega)) (by first | omega | (dsimp only; omega) | (show _ ≤ _; simp only []; omega)) rfl dX5_returns_13 (fun v_13 G_13 hp_13 => ?_)
  obtain ⟨rfl, hU⟩ := hp_13
  refine jr_ee hX (fun hE1 => ?_)
  rw [rg_er, ← hle] at hU
  obtain ⟨T1, hR1, hfm⟩ := mo_frs hR hi3 hE1 hFL hFt (fs := (s_s S i).2.eraseIdx ((s_s S i).2.length - 1)) hU hFc (fun j x hx => Or.inl (er_at hx))
  have hO1 := (hfm _ (by rw [hO]; simp) (by rw [htO]; simp) (by rw [htO]; simp) (fun z => by rw [z, hE0] at hO; cases hO)).2.trans hO
  have hst1 := mo_lan hR1 hi3
  have hfm1 := mo_fm (by omega) hE0 hfm
  obtain ⟨moF1, capF1, eaF1, hF1L, -, hF1c, -⟩ := mo_frl hR1 hi3
  have hpl : (s_s (s_pop S i) i).2.length = (s_s S i).2.length - 1 := by rw [← hle]; show ((sup (s_s S) i _) i).2.length = _; rw [sup_s]
  refine jr_castS hX hO1 rfl q1889 dX5_returns_16 ?_
  refine jr_astore_n (i := 3) hX rfl (by decide) rfl dX5_returns_19 ?_
  refine jr_aload_n (i := 1) hX rfl rfl dX5_returns_20 ?_
  refine jr_getN (ci := 13) (k := 1) hX hst1 rfl in_X7 (by decide) q1724 rfl dX5_returns_21 ?_
  refine jr_callV (As := []) (bc1 := (0)) (bs1 := (0)) hX (met_isEmpty l D s0 b0 A _ (ad 36 i 0) _ moF1 capF1 eaF1 hF1L) (cwV 0 hX.ts (lw_V q1919 q996 q2207 q68 q998) rfl rfl rfl (by decide +kernel) ⟨Nat.le_of_ble_eq_true rfl, Nat.le_of_ble_eq_true rfl⟩) hF1L.1 rfl rfl (Nat.le_of_ble_eq_true rfl) (by first | omega | (dsimp only; omega) | (show _ ≤ _; simp only []; omega)) (by first | omega | (dsimp only; omega) | (show _ ≤ _; simp only []; omega)) rfl dX5_returns_24 (fun v_24 G_24 hp_24 => ?_)
  obtain ⟨rfl, e9⟩ := hp_24
  rw [e9]
  refine jr_if_eq hX (tgt := 39) (by decide) dX5_returns_27 (fun c_27 => ?_) (fun c_27 => ?_)
  · have hl2 : 2 ≤ (s_s S i).2.length := by
      have h9 := of_decide_eq_false (jbz_0 c_27)
      refine Nat.not_lt.mp fun z => h9 ?_
      have h8 : (s_s (s_pop S i) i).2.length = 0 := by omega
      show s_rg (s_s (s_pop S i) i).2.length _ = []
      rw [h8]; rfl
    obtain ⟨x9, hx8⟩ : ∃ x, (s_s S i).2[(s_s S i).2.length - 2]? = some x := ⟨_, List.getElem?_eq_getElem (by omega)⟩
    have hx9 : (s_s (s_pop S i) i).2[(s_s (s_pop S i) i).2.length - 1]? = some x9 := by
      rw [hpl]
      show ((sup (s_s S) i _) i).2[_]? = _
      rw [sup_s, List.getElem?_eraseIdx, if_pos (by omega), show (s_s S i).2.length - 1 - 1 = (s_s S i).2.length - 2 by omega]
      exact hx8
    have hF9 := mo_fr (S := s_pop S i) hR1 hi3 hx9
    have hL9 := mo_loc (S := s_pop S i) hR1 hi3 hx9
    have hj9 := lt_ofl hx9
    refine jr_aload_n (i := 1) hX rfl rfl dX5_returns_39 ?_
    refine jr_getN (ci := 13) (k := 1) hX hst1 rfl in_X7 (by decide) q1724 rfl dX5_returns_40 ?_
    refine jr_aload_n (i := 1) hX rfl rfl dX5_returns_43 ?_
    refine jr_getN (ci := 13) (k := 1) hX hst1 rfl in_X7 (by decide) q1724 rfl dX5_returns_44 ?_
    refine jr_callV (As := []) (bc1 := (0)) (bs1 := (0)) hX (met_size l D s0 b0 A _ (ad 36 i 0) (s_rg (s_s (s_pop S i) i).2.length (fun q => ad 38 i q)) moF1 capF1 eaF1 hF1L) (cwV 0 hX.ts (lw_V q1834 q410 q2205 q68 q412) rfl rfl rfl (by decide +kernel) ⟨Nat.le_of_ble_eq_true rfl, Nat.le_of_ble_eq_true rfl⟩) hF1L.1 rfl rfl (Nat.le_of_ble_eq_true rfl) (by first | omega | (dsimp only; omega) | (show _ ≤ _; simp only []; omega)) (by first | omega | (dsimp only; omega) | (show _ ≤ _; simp only []; omega)) rfl dX5_returns_47 (fun v_47 G_47 hp_47 => ?_)
    obtain ⟨rfl, e9⟩ := hp_47
    rw [e9, rg_len]
    refine jr_iconst (v := 1) hX rfl dX5_returns_50 ?_
    refine jr_isub hX dX5_returns_51 ?_
    rw [nI_s1 (by omega)]
    refine jr_callV (As := [.int (nI ((s_s (s_pop S i) i).2.length - 1))]) (bc1 := (0)) (bs1 := (0)) hX (met_get l D s0 b0 A _ (ad 36 i 0) (s_rg (s_s (s_pop S i) i).2.length (fun q => ad 38 i q)) moF1 capF1 eaF1 hF1L ((s_s (s_pop S i) i).2.length - 1) (ad 38 i ((s_s (s_pop S i) i).2.length - 1)) (rg_at (by omega))) (cwV 1 hX.ts (lw_V q1712 q304 q2203 q68 q306) rfl rfl rfl (by decide +kernel) ⟨Nat.le_of_ble_eq_true rfl, Nat.le_of_ble_eq_true rfl⟩) hF1L.1 rfl rfl (Nat.le_of_ble_eq_true rfl) (by first | omega | (dsimp only; omega) | (show _ ≤ _; simp only []; omega)) (by first | omega | (dsimp only; omega) | (show _ ≤ _; simp only []; omega)) rfl dX5_returns_52 (fun v_52 G_52 hp_52 => ?_)
    obtain ⟨rfl, e9⟩ := hp_52
    rw [e9]
    refine jr_castS hX hF9 rfl q1889 dX5_returns_55 ?_
    refine jr_getN (ci := 15) (k := 3) hX hF9 rfl in_X14 (by decide) q1901 rfl dX5_returns_58 ?_
    refine jr_aload_n (i := 3) hX rfl rfl dX5_returns_61 ?_
    refine jr_getN (ci := 15) (k := 4) hX hO1 rfl in_X14 (by decide) q1903 rfl dX5_returns_62 ?_
    refine jr_iload_n (i := 2) hX rfl rfl dX5_returns_65 ?_
    refine jr_iast hX hL9 (vp_in_nI (hs3 _ o ho).2.2.1 (by omega)) dX5_returns_66 ?_
    rw [nI_clamp (by have := (hs3 _ o ho).2.2.1; omega)]
    refine jr_vret hX hlk hr ⟨rfl, T1, ?_, hfm1.trans (jFm.pt (mo_t39 (S := s_pop S i) hR1 hi3 hx9) (by decide))⟩ dX5_returns_67
    have h9 := mo_wloc (S := s_pop S i) hR1 hi3 hx9 (upd x9.2.2.2.1 o.2.2.1 r)
    have e : s_gb S i r = s_lw (s_pop S i) i ((s_s (s_pop S i) i).2.length - 1) x9 (upd x9.2.2.2.1 o.2.2.1 r) := by
      unfold s_gb
      rw [if_neg (by omega), ho, hx8, hpl]
      rfl
    rw [e]
    exact h9
  · refine jr_aload_n (i := 1) hX rfl rfl dX5_returns_30 ?_
    refine jr_bipush (v := 100) hX (by decide) dX5_returns_31 ?_
    refine jr_callV (As := [.int 100]) (bc1 := (0)) (bs1 := (0)) hX (mm_ends l D s0 b0 A _ (s_pop S i) th ad T1 hR1 i hi3 100 (by omega)) (cwV 1 hX.ts (lw_V q1884 q1885 q1886 q80 q1887) rfl rfl rfl (by decide +kernel) ⟨Nat.le_of_ble_eq_true rfl, Nat.le_of_ble_eq_true rfl⟩) hst1 rfl rfl (Nat.le_of_ble_eq_true rfl) (by first | omega | (dsimp only; omega) | (show _ ≤ _; simp only []; omega)) (by first | omega | (dsimp only; omega) | (show _ ≤ _; simp only []; omega)) rfl dX5_returns_33 (fun v_33 G_33 hp_33 => ?_)
    obtain ⟨rfl, T2, hR2, hfm2⟩ := hp_33
    refine jr_goto hX (tgt := 67) (by decide) dX5_returns_36 ?_
    have hl1 : (s_s S i).2.length ≤ 1 := by
      have h9 := of_decide_eq_true (jbz_1 c_27)
      have h8 := congrArg List.length h9
      rw [rg_len] at h8
      have h7 : (s_s (s_pop S i) i).2.length = 0 := h8
      omega
    refine jr_vret hX hlk hr ⟨rfl, T2, ?_, hfm1.trans hfm2⟩ dX5_returns_67
    have e : s_gb S i r = s_end (s_pop S i) i 100 := by
      unfold s_gb
      rw [if_pos hl1]
      show (S.1, S.2.1, sup (s_s S) i (100, []), S.2.2.2) = (S.1, S.2.1, sup (sup (s_s S) i _) i (100, []), S.2.2.2)
      rw [sup_sup]
    rw [e]
    exact hR2

set_option maxHeartbeats 4000000 in
set_option maxRecDepth 100000 in
theorem mm_FrInit (l : Launch) (D : va_G) (s0 : State) (b0 : Nat) (A : Nat → Prop) (G : jG) (n : Nat) (v fn arg into : Int32) (hn : G n = some (jo 15 [.int 0, .int 0, .int 0, .null, .int 0])) : jM l yX14_init (ws_ yX14_init cX14_init 5 none) (jR 1 1 4) D s0 b0 A G [.ref n, .int v, .int fn, .int arg, .int into] (fun w G1 => w = none ∧ ∃ q, G q = none ∧ A q ∧ q ≠ n ∧ G1 n = some (jo 15 [.int v, .int fn, .int 0, .ref q, .int into]) ∧ G1 q = some (ji D 4 (upd (fun _ => 0) 0 arg)) ∧ ∀ b, b ≠ n → b ≠ q → G1 b = G b) := by
  refine jM.of (by decide +kernel) (own := RX14) rfl (Nat.le_of_ble_eq_true rfl) ?_
  intro p e s m args below meth c hX hr hlk hnm
  refine jr_aload_n (i := 0) hX rfl rfl dX14_init_0 ?_
  refine jr_oinit hX q1894 q118 q119 (Nat.le_of_ble_eq_true rfl) (Nat.le_of_ble_eq_true rfl) dX14_init_1 ?_
  refine jr_aload_n (i := 0) hX rfl rfl dX14_init_4 ?_
  refine jr_iconst (v := 4) hX rfl dX14_init_5 ?_
  refine jr_newi (N := 4) (bc1 := 0) (bs1 := 0) hX q295 (by decide) (by decide) (by omega) (by omega) (by omega) dX14_init_6 (fun q hq hqA => ?_)
  have hqn : q ≠ n := fun z => by rw [z, hn] at hq; cases hq
  refine jr_putF (ci := 15) (k := 3) hX (jup_f hn hq) rfl in_X14 (by decide) tyX14 tyX14_ok nmX14 q1900 rfl hnm rfl (by first | rfl | assumption) (by first | rfl | assumption) (Nat.le_of_ble_eq_true rfl) dX14_init_8 ?_
  refine jr_aload_n (i := 0) hX rfl rfl dX14_init_11 ?_
  refine jr_iload_n (i := 1) hX rfl rfl dX14_init_12 ?_
  refine jr_put (ci := 15) (k := 0) hX jup_s rfl in_X14 (by decide) tyX14 tyX14_ok nmX14 q1895 rfl (by first | rfl | assumption) (by first | rfl | assumption) (Nat.le_of_ble_eq_true rfl) dX14_init_13 ?_
  rw [jup_jup]
  refine jr_aload_n (i := 0) hX rfl rfl dX14_init_16 ?_
  refine jr_iload_n (i := 2) hX rfl rfl dX14_init_17 ?_
  refine jr_putF (ci := 15) (k := 1) hX jup_s rfl in_X14 (by decide) tyX14 tyX14_ok nmX14 q1897 rfl hnm rfl (by first | rfl | assumption) (by first | rfl | assumption) (Nat.le_of_ble_eq_true rfl) dX14_init_18 ?_
  rw [jup_jup]
  refine jr_aload_n (i := 0) hX rfl rfl dX14_init_21 ?_
  refine jr_get (ci := 15) (k := 3) hX jup_s rfl in_X14 (by decide) q1900 rfl dX14_init_22 ?_
  refine jr_iconst (v := 0) hX rfl dX14_init_25 ?_
  refine jr_iload_n (i := 3) hX rfl rfl dX14_init_26 ?_
  refine jr_iast hX ((jup_n hqn).trans jup_s) (vp_in_nI (n := 0) (by omega) (by omega)) dX14_init_27 ?_
  refine jr_aload_n (i := 0) hX rfl rfl dX14_init_28 ?_
  refine jr_iload hX rfl dX14_init_29 ?_
  refine jr_putF (ci := 15) (k := 4) hX (jup_n (Ne.symm hqn) |>.trans jup_s) rfl in_X14 (by decide) tyX14 tyX14_ok nmX14 q1902 rfl hnm rfl (by first | rfl | assumption) (by first | rfl | assumption) (Nat.le_of_ble_eq_true rfl) dX14_init_31 ?_
  exact jr_vret hX hlk hr ⟨rfl, q, hq, hqA, hqn, by rw [jup_s]; rfl, by rw [jup_n hqn, jup_s]; rfl, fun b z1 z2 => by rw [jup_n z1, jup_n z2, jup_n z1, jup_n z2]⟩ dX14_init_34

set_option maxHeartbeats 4000000 in
set_option maxRecDepth 100000 in
theorem mm_calls (l : Launch) (D : va_G) (s0 : State) (b0 : Nat) (A : Nat → Prop) (G : jG) (S : sSt) (th : Nat) (ad : jN) (T : jT) (hR : jMo D s0 b0 th S ad T G) (hs : sWs S) (i j : Nat) (x : sFr) (hi3 : i < 3) (hx : (s_s S i).2[j]? = some x) (fn : Nat) (qi : Nat) (hqi : qi < (s_i S).length) (bb into : Nat) (hbb : (s_ins S qi).2.2.1 = nI bb) (hb4 : bb < 4) (hcc : (s_ins S qi).2.2.2 = nI into) : jM l yX5_calls (ws_ yX5_calls cX5_calls 5 none) (jR 7 3 19) D s0 b0 A G [.ref (ad 31 0 0), .ref (ad 35 i 0), .ref (ad 38 i j), .int (nI fn), .ref (ad 50 qi 0)] (fun w G1 => w = none ∧ ∃ (ad1 : jN) (T1 : jT), jMo D s0 b0 th (s_cal S i fn (x.2.2.2.1 bb) into) ad1 T1 G1 ∧ jFm 31 60 T G T1 G1 ∧ ∀ k i' j', ¬ ((k = 38 ∨ k = 39) ∧ i' = i ∧ j' = (s_s S i).2.length) → ad1 k i' j' = ad k i' j') := by
  have hxx := mo_x hR
  have hst := mo_lan hR hi3
  obtain ⟨moF, capF, eaF, hFL, -, hFc, hFt⟩ := mo_frl hR hi3
  obtain ⟨hs1, hs2, hs3⟩ := hs i hi3
  have hCd := mo_cd hR hqi
  rw [hbb, hcc] at hCd
  refine jM.of (by decide +kernel) (own := RX5) rfl (Nat.le_of_ble_eq_true rfl) ?_
  intro p e s m args below meth c hX hr hlk hnm
  refine jr_aload_n (i := 1) hX rfl rfl dX5_calls_0 ?_
  refine jr_getN (ci := 13) (k := 1) hX hst rfl in_X7 (by decide) q1724 rfl dX5_calls_1 ?_
  refine jr_callV (As := []) (bc1 := (3)) (bs1 := (19)) hX (met_size l D s0 b0 A _ (ad 36 i 0) (s_rg (s_s S i).2.length (fun q => ad 38 i q)) moF capF eaF hFL) (cwV 0 hX.ts (lw_V q1834 q410 q2205 q68 q412) rfl rfl rfl (by decide +kernel) ⟨Nat.le_of_ble_eq_true rfl, Nat.le_of_ble_eq_true rfl⟩) hFL.1 rfl rfl (Nat.le_of_ble_eq_true rfl) (by first | omega | (dsimp only; omega) | (show _ ≤ _; simp only []; omega)) (by first | omega | (dsimp only; omega) | (show _ ≤ _; simp only []; omega)) rfl dX5_calls_4 (fun v_4 G_4 hp_4 => ?_)
  obtain ⟨rfl, e9⟩ := hp_4
  rw [e9, rg_len]
  refine jr_bipush (v := 8) hX (by decide) dX5_calls_7 ?_
  refine jr_icmp_ne hX (tgt := 21) (by decide) dX5_calls_9 (fun c_9 => ?_) (fun c_9 => ?_)
  · have h8 : (s_s S i).2.length ≠ 8 := fun z => c_9 (by rw [z]; rfl)
    refine jr_aload_n (i := 1) hX rfl rfl dX5_calls_21 ?_
    refine jr_getN (ci := 13) (k := 1) hX hst rfl in_X7 (by decide) q1724 rfl dX5_calls_22 ?_
    refine jr_ee hX (fun hE0 => ?_)
    refine jr_new (ci := 15) (fs := [.int 0, .int 0, .int 0, .null, .int 0]) (bc1 := 2) (bs1 := 14) hX in_X14 tyX14 tyX14_ok q1889 q1890 q100 rfl (by decide) (by omega) (by omega) dX5_calls_25 (fun n_25 hn_25 hA_25 => ?_)
    refine jr_dup hX rfl dX5_calls_28 ?_
    refine jr_aload_n (i := 0) hX rfl rfl dX5_calls_29 ?_
    refine jr_get (ci := 11) (k := 3) hX (jup_f hxx hn_25) rfl in_X5 (by decide) q1733 rfl dX5_calls_30 ?_
    refine jr_iload_n (i := 3) hX rfl rfl dX5_calls_33 ?_
    refine jr_aload_n (i := 2) hX rfl rfl dX5_calls_34 ?_
    refine jr_getN (ci := 15) (k := 3) hX (jup_f (mo_fr hR hi3 hx) hn_25) rfl in_X14 (by decide) q1901 rfl dX5_calls_35 ?_
    refine jr_aload hX rfl dX5_calls_38 ?_
    refine jr_getN (ci := 14) (k := 2) hX (jup_f hCd hn_25) rfl in_X11 (by decide) q1809 rfl dX5_calls_40 ?_
    refine jr_iald hX (jup_f (mo_loc hR hi3 hx) hn_25) (vp_in_nI hb4 (by omega)) dX5_calls_43 ?_
    rw [nI_clamp (by omega)]
    refine jr_aload hX rfl dX5_calls_44 ?_
    refine jr_getN (ci := 14) (k := 3) hX (jup_f hCd hn_25) rfl in_X11 (by decide) q1811 rfl dX5_calls_46 ?_
    refine jr_callI (ret := none) (As := [.int (nI (s_p S)), .int (nI fn), .int (x.2.2.2.1 bb), .int (nI into)]) (bc1 := (1)) (bs1 := (10)) hX (mm_FrInit l D s0 b0 A _ n_25 (nI (s_p S)) (nI fn) (x.2.2.2.1 bb) (nI into) jup_s) (cwI 4 hX.ts (lw_meth q1893) rfl rfl rfl (hX.ts _ q100) (hX.ts _ q1891) (hX.ts _ q1892) rfl (by decide +kernel) ⟨Nat.le_of_ble_eq_true rfl, Nat.le_of_ble_eq_true rfl⟩) rfl (Nat.le_of_ble_eq_true rfl) (by first | omega | (dsimp only; omega) | (show _ ≤ _; simp only []; omega)) (by first | omega | (dsimp only; omega) | (show _ ≤ _; simp only []; omega)) rfl dX5_calls_49 (fun v_49 G_49 hp_49 => ?_)
    obtain ⟨rfl, q, hq, hqA, hqn, hgn, hgq, hgo⟩ := hp_49
    have hq0 : G q = none := by rw [jup_n hqn] at hq; exact hq
    have hnw : jNw G G_49 := fun b x hb => by
      have z1 : b ≠ n_25 := fun z => by rw [z, hn_25] at hb; cases hb
      have z2 : b ≠ q := fun z => by rw [z, hq0] at hb; cases hb
      rw [hgo b z1 z2, jup_n z1]; exact hb
    have hR1 := mo_ad89 (n := n_25) (q := q) (jRep.nw hR hnw) hi3 (hR.un hn_25) (hR.un hq0) hqn (by rw [hgn]; simp) (by rw [hgq]; simp) (hX.ee hA_25) (hX.ee hqA)
    have hFL1 := hnw.jLS hFL
    refine jr_callV (As := [.ref n_25]) (bc1 := (0)) (bs1 := (0)) hX (met_add l D s0 b0 A _ (ad 36 i 0) (s_rg (s_s S i).2.length (fun q => ad 38 i q)) moF capF eaF hFL1 (ob_frM (jRep.nw hR hnw) hi3) n_25 (ob_o hgn (r := (RX14, TX14, 5)) rfl q2236) 1 10 (by omega) (fun hz => ⟨by omega, by rw [rg_len] at hz; have h9 := hFL.2.2.2; unfold jgw; split <;> omega⟩)) (cwV 1 hX.ts (lw_V q1711 q186 q2202 q68 q188) rfl rfl rfl (by decide +kernel) ⟨Nat.le_of_ble_eq_true rfl, Nat.le_of_ble_eq_true rfl⟩) hFL1.1 rfl rfl (Nat.le_of_ble_eq_true rfl) (by first | omega | (dsimp only; omega) | (show _ ≤ _; simp only []; omega)) (by first | omega | (dsimp only; omega) | (show _ ≤ _; simp only []; omega)) rfl dX5_calls_52 (fun v_52 G_52 hp_52 => ?_)
    obtain ⟨rfl, hU⟩ := hp_52
    refine jr_ee hX (fun hE1 => ?_)
    have hlast : jas (jas ad 38 i (s_s S i).2.length n_25) 39 i (s_s S i).2.length q 38 i (s_s S i).2.length = n_25 := by rw [jas_n (fun z => by omega), jas_s]
    rw [show s_rg (s_s S i).2.length (fun q => ad 38 i q) ++ [n_25] = s_rg ((s_s S i).2 ++ [(s_p S, fn, into, upd (fun _ => 0) 0 (x.2.2.2.1 bb), 0)]).length (fun j => (jas (jas ad 38 i (s_s S i).2.length n_25) 39 i (s_s S i).2.length q) 38 i j) by
      rw [List.length_append, List.length_singleton, ← rg_ap (f := fun q => ad 38 i q) (fun q9 hq9 => by rw [jas_n (fun z => by omega), jas_n (fun z => by omega)]), hlast]] at hU
    have hE01 : G_49 (jEE s0 b0) = none := by
      rw [hgo _ (fun z => hX.ee hA_25 z.symm) (fun z => hX.ee hqA z.symm), jup_n (fun z => hX.ee hA_25 z.symm)]
      exact hE0
    have hcap1 : (if (s_rg (s_s S i).2.length (fun q => ad 38 i q)).length = capF then jgw capF (capF + 1) else capF) ≤ 200 := by
      rw [rg_len]
      have h9 := hFL.2.2.2
      split
      · unfold jgw; split <;> omega
      · exact hFc
    obtain ⟨T2, hR2, hfm2⟩ := mo_frs (fs := (s_s S i).2 ++ [(s_p S, fn, into, upd (fun _ => 0) 0 (x.2.2.2.1 bb), 0)]) hR1 hi3 hE1 (mo := moF) (cap := capF) (ea := eaF) (by
        rw [show s_rg (s_s S i).2.length (fun q9 => (jas (jas ad 38 i (s_s S i).2.length n_25) 39 i (s_s S i).2.length q) 38 i q9) = s_rg (s_s S i).2.length (fun q => ad 38 i q) from List.map_congr_left fun q9 hq9 => by
          have := List.mem_range.mp hq9
          rw [jas_n (fun z => by omega), jas_n (fun z => by omega)]]
        exact hFL1) (fun hc9 => by
        have ht := hFt hc9
        rw [jTs_n, jTs_n]
        · exact ht
        · intro z; rw [z, hR.un hn_25 |> fun h => (by rfl : T n_25 = T n_25)] at ht; have := hR.un hn_25; rw [ht] at this; cases this
        · intro z; rw [z] at ht; have := hR.un hq0; rw [ht] at this; cases this) hU hcap1 (fun j x hx => by
        by_cases hj : j < (s_s S i).2.length
        · rw [List.getElem?_append_left hj] at hx; exact Or.inl hx
        · have hjl := lt_ofl hx
          rw [List.length_append, List.length_singleton] at hjl
          have ej : j = (s_s S i).2.length := by omega
          subst ej
          rw [List.getElem?_append_right (Nat.le_refl _), Nat.sub_self] at hx
          have ex := Option.some.inj hx
          subst ex
          rw [hlast, jas_s]
          exact Or.inr ⟨by rw [jTs_n (Ne.symm hqn), jTs_s], hgn, jTs_s, hgq⟩)
    refine jr_pop hX rfl dX5_calls_55 ?_
    exact jr_vret hX hlk hr ⟨rfl, _, T2, by unfold s_cal; rw [if_neg h8]; exact hR2, (fun b hb hk => by
      have z1 : b ≠ n_25 := fun z => hb (by rw [z]; exact hn_25)
      have z2 : b ≠ q := fun z => hb (by rw [z]; exact hq0)
      have hb1 : G_49 b ≠ none := by rw [hgo b z1 z2, jup_n z1]; exact hb
      have h9 := mo_fm (by omega) hE01 hfm2 b hb1 (by rw [jTs_n z2, jTs_n z1]; exact hk)
      rw [jTs_n z2, jTs_n z1, hgo b z1 z2, jup_n z1] at h9
      exact h9), fun k9 i9 j9 hk => by
      rw [jas_n (fun z => hk ⟨Or.inr z.1, z.2⟩), jas_n (fun z => hk ⟨Or.inl z.1, z.2⟩)]⟩ dX5_calls_56
  · have h8 : (s_s S i).2.length = 8 := (nI_eq (by omega) (by omega)).mp c_9
    refine jr_aload_n (i := 1) hX rfl rfl dX5_calls_12 ?_
    refine jr_bipush (v := 102) hX (by decide) dX5_calls_13 ?_
    refine jr_callV (As := [.int 102]) (bc1 := (3)) (bs1 := (19)) hX (mm_ends l D s0 b0 A _ S th ad T hR i hi3 102 (by omega)) (cwV 1 hX.ts (lw_V q1884 q1885 q1886 q80 q1887) rfl rfl rfl (by decide +kernel) ⟨Nat.le_of_ble_eq_true rfl, Nat.le_of_ble_eq_true rfl⟩) hst rfl rfl (Nat.le_of_ble_eq_true rfl) (by first | omega | (dsimp only; omega) | (show _ ≤ _; simp only []; omega)) (by first | omega | (dsimp only; omega) | (show _ ≤ _; simp only []; omega)) rfl dX5_calls_15 (fun v_15 G_15 hp_15 => ?_)
    obtain ⟨rfl, T1, hR1, hfm⟩ := hp_15
    refine jr_goto hX (tgt := 56) (by decide) dX5_calls_18 ?_
    exact jr_vret hX hlk hr ⟨rfl, ad, T1, by unfold s_cal; rw [if_pos h8]; exact hR1, hfm, fun _ _ _ _ => rfl⟩ dX5_calls_56
