/-! the model's oneStep -/
/-- the versions that stand beside what was put out are small -/
def s_uv (S : sSt) : Prop := ∀ u ∈ s_u S, u.2 < 100
theorem uv_at {S : sSt} (h : s_uv S) : ∀ v, v < (s_u S).length → ((s_u S).getD v (0, 0)).2 + 128 < 256 := fun v hv => by
  have h9 := h ((s_u S)[v]) (List.getElem_mem hv)
  rw [List.getD_eq_getElem?_getD, List.getElem?_eq_getElem hv]
  show ((s_u S)[v]).2 + 128 < 256
  omega
theorem out_u {S : sSt} {v : Nat} {a : Int32} : s_u (s_out S v a) = s_u S ++ [(a, v)] := by
  unfold s_out
  split
  · split <;> rfl
  · rfl
theorem act_u {S : sSt} {i j : Nat} {x : sFr} {I : sIns} : s_u (s_act S i j x I) = s_u S ∨ ∃ a, s_u (s_act S i j x I) = s_u S ++ [(a, x.1)] := by
  unfold s_act
  split
  · exact Or.inl rfl
  · exact Or.inl rfl
  · exact Or.inl kq_mk.2.2.2.1
  · exact Or.inl kq_acR.2.2.2.1
  · exact Or.inl kq_acR.2.2.2.1
  · exact Or.inl rfl
  · exact Or.inl kq_cal.2.2.2.1
  · exact Or.inl kq_cal.2.2.2.1
  · exact Or.inl rfl
  · exact Or.inl kq_gb.2.2.2.1
  · exact Or.inr ⟨_, out_u⟩
  · exact Or.inl rfl
theorem stp_u {S : sSt} {i : Nat} (h : sW S) (hi : i < 3) (hu : s_uv S) : s_uv (s_stp S i) := by
  unfold s_stp
  cases hx : (s_s S i).2[(s_s S i).2.length - 1]? with
  | none => exact hu
  | some x =>
    have hxa := (h.2.2.1 i hi).2.2 _ x hx
    have hmm : s_m S = (s_v S).length - 1 := rfl
    have hvu := h.2.1.2.1
    show s_uv (match ((s_ver S x.1).1 x.2.1)[x.2.2.2.2]? with
      | none => s_gb (sw_n S (s_n S + 1)) i 0
      | some q => _)
    cases hq : ((s_ver S x.1).1 x.2.1)[x.2.2.2.2]? with
    | none =>
      have e : s_u (s_gb (sw_n S (s_n S + 1)) i 0) = s_u S := kq_gb.2.2.2.1
      intro u hm
      have hm' : u ∈ s_u (s_gb (sw_n S (s_n S + 1)) i 0) := hm
      rw [e] at hm'
      exact hu u hm'
    | some q =>
      rcases act_u (S := s_fw (sw_n S (s_n S + 1)) i ((s_s S i).2.length - 1) (x.1, x.2.1, x.2.2.1, x.2.2.2.1, x.2.2.2.2 + 1)) (i := i) (j := (s_s S i).2.length - 1) (x := (x.1, x.2.1, x.2.2.1, x.2.2.2.1, x.2.2.2.2 + 1)) (I := s_ins S q) with e | ⟨a, e⟩
      · intro u hm
        have hm' : u ∈ s_u (s_act (s_fw (sw_n S (s_n S + 1)) i ((s_s S i).2.length - 1) (x.1, x.2.1, x.2.2.1, x.2.2.2.1, x.2.2.2.2 + 1)) i ((s_s S i).2.length - 1) (x.1, x.2.1, x.2.2.1, x.2.2.2.1, x.2.2.2.2 + 1) (s_ins S q)) := hm
        rw [e] at hm'
        exact hu u hm'
      · intro u hm
        have hm' : u ∈ s_u (s_act (s_fw (sw_n S (s_n S + 1)) i ((s_s S i).2.length - 1) (x.1, x.2.1, x.2.2.1, x.2.2.2.1, x.2.2.2.2 + 1)) i ((s_s S i).2.length - 1) (x.1, x.2.1, x.2.2.1, x.2.2.2.1, x.2.2.2.2 + 1) (s_ins S q)) := hm
        rw [e] at hm'
        rcases List.mem_append.mp hm' with z | z
        · exact hu u z
        · rw [List.mem_singleton.mp z]
          show x.1 < 100
          omega
theorem one_u {S : sSt} {i : Nat} (h : sW S) (hi : i < 3) (hu : s_uv S) : s_uv (s_one S i) := by
  have hk := (look_kp (s_stp S i)).tr (giveUp_kp (s_look (s_stp S i)))
  obtain ⟨k1, -, -, -, k5, k6, -, k8, k9, k10, k11⟩ := hk
  have e : s_u (s_one S i) = s_u (s_stp S i) := k8
  intro u hm
  rw [e] at hm
  exact stp_u h hi hu u hm
theorem flt_len {α : Type} {p : α → Bool} : ∀ L : List α, (L.filter p).length + (L.filter (fun x => !p x)).length = L.length
  | [] => rfl
  | a :: L => by
    have h := flt_len (p := p) L
    cases e : p a
    · rw [List.filter_cons_of_neg (by simp [e]), List.filter_cons_of_pos (by simp [e]), List.length_cons, List.length_cons]; omega
    · rw [List.filter_cons_of_pos (by simp [e]), List.filter_cons_of_neg (by simp [e]), List.length_cons, List.length_cons]; omega
theorem gvu_len {S : sSt} : ((s_q S).filter (s_due S)).length + (s_q (s_gvu S)).length = (s_q S).length := by
  have e : s_q (s_gvu S) = (s_q S).filter (fun ci => !s_due S ci) := by
    show (s_q S).take 0 ++ ((s_q S).drop 0).filter (fun ci => !s_due S ci) = _
    rw [List.drop_zero, List.take_zero, List.nil_append]
  rw [e]
  exact flt_len _

set_option maxHeartbeats 4000000 in
set_option maxRecDepth 100000 in
theorem mm_oneStep (l : Launch) (D : va_G) (s0 : State) (b0 : Nat) (A : Nat → Prop) (G : jG) (S : sSt) (th : Nat) (ad : jN) (T : jT) (hR : jMo D s0 b0 th S ad T G) (hW : sW S) (hk : sWk S) (huv : s_uv S) (hu : (s_u S).length < 6400) (hcc : s_cc S < 99) (hn : s_n S < 900000) (i : Nat) (hi3 : i < 3) (hne : 0 < (s_s S i).2.length) : jM l yX5_oneStep (ws_ yX5_oneStep cX5_oneStep 4 none) (jR 15 ((18 + 159 * (s_cq S - s_cq (s_one S i)))) ((443 + 636 * (s_cq S - s_cq (s_one S i)) + 8 * (s_k (s_one S i) - s_k S)))) D s0 b0 A G [.ref (ad 31 0 0), .ref (ad 35 i 0)] (fun w G1 => w = none ∧ ∃ (ad1 : jN) (T1 : jT), jMo D s0 b0 th (s_one S i) ad1 T1 G1 ∧ jFm 31 60 T G T1 G1 ∧ ∀ k i j, k < 38 → ad1 k i j = ad k i j) := by
  have hxx := mo_x hR
  obtain ⟨h1i, h2v, h3s, h4o, h5p, h6c, h7l, h8t⟩ := id hW
  have hmm : s_m S = (s_v S).length - 1 := rfl
  have hvu := h2v.2.1
  have hm := one_m (i := i) hne
  have hW2 := stp_W (i := i) hW hi3 (by omega)
  have hW3 := look_W hW2
  have hW4 : sW (s_gvu (s_look (s_stp S i))) := guI_W hW3
  have had := stp_ad (i := i) hne
  have hn3 : s_n (s_look (s_stp S i)) < 1000000 := by
    rw [(look_kp (s_stp S i)).2.2.2.2.2.2.2.2.2.1, had.2.2.1]
    show s_n S + 1 < 1000000
    omega
  have hcS : (s_c S).length ≤ s_cc S := Nat.le_add_right _ _
  have hqS := sW_ql hW
  have hc3 : (s_c (s_look (s_stp S i))).length < 100 := by
    rw [(look_kp (s_stp S i)).2.2.2.2.1]
    have := had.2.2.2.2.2.2.2.2.2.2
    have h9 : (s_c (s_stp S i)).length ≤ (s_c S).length + 1 := this
    omega
  have e2 : (s_q (s_look (s_gvu (s_look (s_stp S i))))).length = (s_q (s_one S i)).length := by rw [show s_one S i = s_look (s_gvu (s_look (s_stp S i))) from (giveUp_two (s_stp S i)).symm]
  have l1 := look_len (s_stp S i)
  have l2 := gvu_len (S := s_look (s_stp S i))
  have l3 := look_len (s_gvu (s_look (s_stp S i)))
  have hk13 : s_k S < 13000 := by have := hk.2.2; omega
  obtain ⟨x, hx⟩ : ∃ x, (s_s S i).2[(s_s S i).2.length - 1]? = some x := ⟨_, List.getElem?_eq_getElem (by omega)⟩
  obtain ⟨hs1, hs2, hs3⟩ := h3s i hi3
  have hxa := hs3 _ x hx
  have hF := mo_fr hR hi3 hx
  have hxv : x.1 < (s_v S).length := by omega
  obtain ⟨moV, capV, eaV, hVL, -, -, -⟩ := mo_vs hR
  obtain ⟨moF, capF, eaF, hFL, -, -, -⟩ := mo_fns hR hxv
  obtain ⟨moL, capL, eaL, hLL, -, -, -⟩ := mo_frl hR hi3
  obtain ⟨mo0, cap0, ea0, hIL0, -, -, -⟩ := mo_fn hR hxv hxa.2.1
  have hVr := mo_ver hR hxv
  have hLn := mo_lan hR hi3
  have hR1 : jMo D s0 b0 th (sw_n S (s_n S + 1)) ad T _ := mo_wn hR (s_n S + 1)
  have hF1 : jFm 31 60 T G T _ := jFm.pt (T := T) (G := G) (lo := 31) (hi := 60) (c := jo 11 [.int (nI th), .ref (ad 32 0 0), .ref (ad 37 (s_m S) 0), .int (nI (s_p S)), .ref (ad 32 1 0), .ref (ad 32 2 0), .ref (ad 34 0 0), .ref (ad 32 3 0), .ref (ad 32 4 0), .int (jbz (s_w S)), .int (s_l S), .ref (ad 32 5 0), .ref (ad 32 6 0), .long (lN (s_n S + 1))]) (mo_t31 hR) (by decide)
  have hFa := mo_fr hR1 hi3 hx
  obtain ⟨moI, capI, eaI, hIL, -, -, -⟩ := mo_fn hR1 hxv hxa.2.1
  have hxl : (((s_ver S x.1).1 x.2.1).map (fun q => ad 50 q 0)).length = ((s_ver S x.1).1 x.2.1).length := List.length_map _
  have hfl := ((h2v.2.2 x.1 hxv).1 x.2.1 hxa.2.1)
  refine jM.of (by decide +kernel) (own := RX5) rfl (Nat.le_of_ble_eq_true rfl) ?_
  intro p e s m args below meth c hX hr hlk hnm
  have cont : ∀ (ad2 : jN) (T2 : jT) (G2 : jG), jMo D s0 b0 th (s_stp S i) ad2 T2 G2 → (∀ k i j, k < 38 → ad2 k i j = ad k i j) → jFm 31 60 T G T2 G2 → Jg p l e (jR 15 (18 + 159 * (s_cq S - s_cq (s_one S i))) (443 + 636 * (s_cq S - s_cq (s_one S i)) + 8 * (s_k (s_one S i) - s_k S))) s m args below meth c (MQ below (jQ D A (fun w G1 => w = none ∧ ∃ (ad1 : jN) (T1 : jT), jMo D s0 b0 th (s_one S i) ad1 T1 G1 ∧ jFm 31 60 T G T1 G1 ∧ ∀ k i j, k < 38 → ad1 k i j = ad k i j)) args s (18 + 159 * (s_cq S - s_cq (s_one S i))) (443 + 636 * (s_cq S - s_cq (s_one S i)) + 8 * (s_k (s_one S i) - s_k S)) A) D A 4 G2 (11 + 159 * ((s_q (s_stp S i)).length - (s_q (s_one S i)).length)) (43 + 636 * ((s_q (s_stp S i)).length - (s_q (s_one S i)).length)) 95 [(0, .ref (ad 31 0 0))] [] := by
    intro ad2 T2 G2 hR2 hA2 hF2
    have hxx2 := mo_x hR2
    rw [show ad 31 0 0 = ad2 31 0 0 from (hA2 31 0 0 (by decide)).symm]
    refine jr_aload_n (i := 0) hX rfl rfl dX5_oneStep_95 ?_
    refine jr_callV (As := []) (bc1 := (7 + 159 * ((s_q (s_look (s_stp S i))).length - (s_q (s_one S i)).length))) (bs1 := (27 + 636 * ((s_q (s_look (s_stp S i))).length - (s_q (s_one S i)).length))) hX (mm_looks l D s0 b0 A _ (s_stp S i) th ad2 T2 hR2 hW2) (cwV 0 hX.ts (lw_V q1915 q1917 qs42 q78 q1918) rfl rfl rfl (by decide +kernel) ⟨Nat.le_of_ble_eq_true rfl, Nat.le_of_ble_eq_true rfl⟩) hxx2 rfl rfl (Nat.le_of_ble_eq_true rfl) (by first | omega | (dsimp only; omega) | (show _ ≤ _; simp only []; omega)) (by first | omega | (dsimp only; omega) | (show _ ≤ _; simp only []; omega)) rfl dX5_oneStep_96 (fun v_96 G_96 hp_96 => ?_)
    obtain ⟨rfl, ad3, T3, h1, h2, h3⟩ := hp_96
    rw [show ad2 31 0 0 = ad3 31 0 0 from (h3 31 0 0 (by decide)).symm]
    have hxx3 := mo_x h1
    refine jr_aload_n (i := 0) hX rfl rfl dX5_oneStep_99 ?_
    refine jr_callV (As := []) (bc1 := (4 + 159 * ((s_q (s_gvu (s_look (s_stp S i)))).length - (s_q (s_one S i)).length))) (bs1 := (16 + 636 * ((s_q (s_gvu (s_look (s_stp S i)))).length - (s_q (s_one S i)).length))) hX (mm_givesUp l D s0 b0 A _ (s_look (s_stp S i)) th ad3 T3 h1 hW3.2.2.2.2.2.1 hn3 (by have := sW_ql hW3; omega)) (cwV 0 hX.ts (lw_V q2076 q2078 qs60 q78 q2079) rfl rfl rfl (by decide +kernel) ⟨Nat.le_of_ble_eq_true rfl, Nat.le_of_ble_eq_true rfl⟩) hxx3 rfl rfl (Nat.le_of_ble_eq_true rfl) (by first | omega | (dsimp only; omega) | (show _ ≤ _; simp only []; omega)) (by first | omega | (dsimp only; omega) | (show _ ≤ _; simp only []; omega)) rfl dX5_oneStep_100 (fun v_100 G_100 hp_100 => ?_)
    obtain ⟨rfl, T4, g1, g2⟩ := hp_100
    have hxx4 := mo_x g1
    refine jr_aload_n (i := 0) hX rfl rfl dX5_oneStep_103 ?_
    refine jr_callV (As := []) (bc1 := (0)) (bs1 := (0)) hX (mm_looks l D s0 b0 A _ (s_gvu (s_look (s_stp S i))) th ad3 T4 g1 hW4) (cwV 0 hX.ts (lw_V q1915 q1917 qs42 q78 q1918) rfl rfl rfl (by decide +kernel) ⟨Nat.le_of_ble_eq_true rfl, Nat.le_of_ble_eq_true rfl⟩) hxx4 rfl rfl (Nat.le_of_ble_eq_true rfl) (by first | omega | (dsimp only; omega) | (show _ ≤ _; simp only []; omega)) (by first | omega | (dsimp only; omega) | (show _ ≤ _; simp only []; omega)) rfl dX5_oneStep_104 (fun v_104 G_104 hp_104 => ?_)
    obtain ⟨rfl, ad5, T5, k1, k2, k3⟩ := hp_104
    refine jr_vret hX hlk hr ⟨rfl, ad5, T5, ?_, ((hF2.trans h2).trans g2).trans k2, fun k i j hk => (k3 k i j (by omega)).trans ((h3 k i j (by omega)).trans (hA2 k i j hk))⟩ dX5_oneStep_107
    rw [show s_one S i = s_look (s_gvu (s_look (s_stp S i))) from (giveUp_two (s_stp S i)).symm]
    exact k1
  refine jr_aload_n (i := 1) hX rfl rfl dX5_oneStep_0 ?_
  refine jr_getN (ci := 13) (k := 1) hX hLn rfl in_X7 (by decide) q1724 rfl dX5_oneStep_1 ?_
  refine jr_aload_n (i := 1) hX rfl rfl dX5_oneStep_4 ?_
  refine jr_getN (ci := 13) (k := 1) hX hLn rfl in_X7 (by decide) q1724 rfl dX5_oneStep_5 ?_
  refine jr_callV (As := []) (bc1 := ((18 + 159 * (s_cq S - s_cq (s_one S i))))) (bs1 := ((443 + 636 * (s_cq S - s_cq (s_one S i)) + 8 * (s_k (s_one S i) - s_k S)))) hX (met_size l D s0 b0 A _ (ad 36 i 0) (s_rg (s_s S i).2.length (fun q => ad 38 i q)) moL capL eaL hLL) (cwV 0 hX.ts (lw_V q1834 q410 q2205 q68 q412) rfl rfl rfl (by decide +kernel) ⟨Nat.le_of_ble_eq_true rfl, Nat.le_of_ble_eq_true rfl⟩) hLL.1 rfl rfl (Nat.le_of_ble_eq_true rfl) (by first | omega | (dsimp only; omega) | (show _ ≤ _; simp only []; omega)) (by first | omega | (dsimp only; omega) | (show _ ≤ _; simp only []; omega)) rfl dX5_oneStep_8 (fun v_8 G_8 hp_8 => ?_)
  obtain ⟨rfl, e9⟩ := hp_8
  rw [e9, rg_len]
  refine jr_iconst (v := 1) hX rfl dX5_oneStep_11 ?_
  refine jr_isub hX dX5_oneStep_12 ?_
  rw [nI_s1 hne]
  refine jr_callV (As := [.int (nI ((s_s S i).2.length - 1))]) (bc1 := ((18 + 159 * (s_cq S - s_cq (s_one S i))))) (bs1 := ((443 + 636 * (s_cq S - s_cq (s_one S i)) + 8 * (s_k (s_one S i) - s_k S)))) hX (met_get l D s0 b0 A _ (ad 36 i 0) (s_rg (s_s S i).2.length (fun q => ad 38 i q)) moL capL eaL hLL ((s_s S i).2.length - 1) (ad 38 i ((s_s S i).2.length - 1)) (rg_at (by omega))) (cwV 1 hX.ts (lw_V q1712 q304 q2203 q68 q306) rfl rfl rfl (by decide +kernel) ⟨Nat.le_of_ble_eq_true rfl, Nat.le_of_ble_eq_true rfl⟩) hLL.1 rfl rfl (Nat.le_of_ble_eq_true rfl) (by first | omega | (dsimp only; omega) | (show _ ≤ _; simp only []; omega)) (by first | omega | (dsimp only; omega) | (show _ ≤ _; simp only []; omega)) rfl dX5_oneStep_13 (fun v_13 G_13 hp_13 => ?_)
  obtain ⟨rfl, e9⟩ := hp_13
  rw [e9]
  refine jr_castS hX hF rfl q1889 dX5_oneStep_16 ?_
  refine jr_astore_n (i := 2) hX rfl (by decide) rfl dX5_oneStep_19 ?_
  refine jr_aload_n (i := 0) hX rfl rfl dX5_oneStep_20 ?_
  refine jr_get (ci := 11) (k := 1) hX hxx rfl in_X5 (by decide) q1731 rfl dX5_oneStep_21 ?_
  refine jr_aload_n (i := 2) hX rfl rfl dX5_oneStep_24 ?_
  refine jr_getN (ci := 15) (k := 0) hX hF rfl in_X14 (by decide) q1896 rfl dX5_oneStep_25 ?_
  refine jr_callV (As := [.int (nI x.1)]) (bc1 := ((18 + 159 * (s_cq S - s_cq (s_one S i))))) (bs1 := ((443 + 636 * (s_cq S - s_cq (s_one S i)) + 8 * (s_k (s_one S i) - s_k S)))) hX (met_get l D s0 b0 A _ (ad 32 0 0) (s_rg (s_m S) (fun v => ad 37 v 0)) moV capV eaV hVL x.1 (ad 37 x.1 0) (rg_at (by omega))) (cwV 1 hX.ts (lw_V q1712 q304 q2203 q68 q306) rfl rfl rfl (by decide +kernel) ⟨Nat.le_of_ble_eq_true rfl, Nat.le_of_ble_eq_true rfl⟩) hVL.1 rfl rfl (Nat.le_of_ble_eq_true rfl) (by first | omega | (dsimp only; omega) | (show _ ≤ _; simp only []; omega)) (by first | omega | (dsimp only; omega) | (show _ ≤ _; simp only []; omega)) rfl dX5_oneStep_28 (fun v_28 G_28 hp_28 => ?_)
  obtain ⟨rfl, e9⟩ := hp_28
  rw [e9]
  refine jr_castS hX hVr rfl q1666 dX5_oneStep_31 ?_
  refine jr_getN (ci := 12) (k := 0) hX hVr rfl in_X6 (by decide) q1683 rfl dX5_oneStep_34 ?_
  refine jr_aload_n (i := 2) hX rfl rfl dX5_oneStep_37 ?_
  refine jr_getN (ci := 15) (k := 1) hX hF rfl in_X14 (by decide) q1898 rfl dX5_oneStep_38 ?_
  refine jr_callV (As := [.int (nI x.2.1)]) (bc1 := ((18 + 159 * (s_cq S - s_cq (s_one S i))))) (bs1 := ((443 + 636 * (s_cq S - s_cq (s_one S i)) + 8 * (s_k (s_one S i) - s_k S)))) hX (met_get l D s0 b0 A _ (ad 40 x.1 0) (s_rg 5 (fun f => ad 41 x.1 f)) moF capF eaF hFL x.2.1 (ad 41 x.1 x.2.1) (rg_at hxa.2.1)) (cwV 1 hX.ts (lw_V q1712 q304 q2203 q68 q306) rfl rfl rfl (by decide +kernel) ⟨Nat.le_of_ble_eq_true rfl, Nat.le_of_ble_eq_true rfl⟩) hFL.1 rfl rfl (Nat.le_of_ble_eq_true rfl) (by first | omega | (dsimp only; omega) | (show _ ≤ _; simp only []; omega)) (by first | omega | (dsimp only; omega) | (show _ ≤ _; simp only []; omega)) rfl dX5_oneStep_41 (fun v_41 G_41 hp_41 => ?_)
  obtain ⟨rfl, e9⟩ := hp_41
  rw [e9]
  refine jr_castS hX hIL0.1 rfl q1664 dX5_oneStep_44 ?_
  refine jr_astore_n (i := 3) hX rfl (by decide) rfl dX5_oneStep_47 ?_
  refine jr_aload_n (i := 0) hX rfl rfl dX5_oneStep_48 ?_
  refine jr_dup hX rfl dX5_oneStep_49 ?_
  refine jr_get (ci := 11) (k := 13) hX hxx rfl in_X5 (by decide) q1743 rfl dX5_oneStep_50 ?_
  refine jr_lconst (v := 1) hX rfl dX5_oneStep_53 ?_
  refine jr_ladd hX dX5_oneStep_54 ?_
  rw [show lN (s_n S) + (1 : Int64) = lN (s_n S + 1) from lN_1 _]
  refine jr_put (ci := 11) (k := 13) hX hxx rfl in_X5 (by decide) tyX5 tyX5_ok nmX5 q1743 rfl (by first | rfl | assumption) (by first | rfl | assumption) (Nat.le_of_ble_eq_true rfl) dX5_oneStep_55 ?_
  refine jr_aload_n (i := 2) hX rfl rfl dX5_oneStep_58 ?_
  refine jr_getN (ci := 15) (k := 2) hX hFa rfl in_X14 (by decide) q1899 rfl dX5_oneStep_59 ?_
  refine jr_aload_n (i := 3) hX rfl rfl dX5_oneStep_62 ?_
  refine jr_callV (As := []) (bc1 := ((18 + 159 * (s_cq S - s_cq (s_one S i))))) (bs1 := ((443 + 636 * (s_cq S - s_cq (s_one S i)) + 8 * (s_k (s_one S i) - s_k S)))) hX (met_size l D s0 b0 A _ (ad 41 x.1 x.2.1) (((s_ver S x.1).1 x.2.1).map (fun q => ad 50 q 0)) moI capI eaI hIL) (cwV 0 hX.ts (lw_V q1834 q410 q2205 q68 q412) rfl rfl rfl (by decide +kernel) ⟨Nat.le_of_ble_eq_true rfl, Nat.le_of_ble_eq_true rfl⟩) hIL.1 rfl rfl (Nat.le_of_ble_eq_true rfl) (by first | omega | (dsimp only; omega) | (show _ ≤ _; simp only []; omega)) (by first | omega | (dsimp only; omega) | (show _ ≤ _; simp only []; omega)) rfl dX5_oneStep_63 (fun v_63 G_63 hp_63 => ?_)
  obtain ⟨rfl, e9⟩ := hp_63
  rw [e9, hxl]
  refine jr_icmp_ge hX (tgt := 89) (by decide) dX5_oneStep_66 (fun c_66 => ?_) (fun c_66 => ?_)
  · refine jr_aload_n (i := 0) hX rfl rfl dX5_oneStep_89 ?_
    refine jr_aload_n (i := 1) hX rfl rfl dX5_oneStep_90 ?_
    refine jr_iconst (v := 0) hX rfl dX5_oneStep_91 ?_
    refine jr_callV (As := [.ref (ad 35 i 0), .int 0]) (bc1 := (11 + 159 * ((s_q (s_stp S i)).length - (s_q (s_one S i)).length))) (bs1 := (43 + 636 * ((s_q (s_stp S i)).length - (s_q (s_one S i)).length))) hX (mm_returns l D s0 b0 A _ (sw_n S (s_n S + 1)) th ad T hR1 h3s i hi3 0 hne) (cwV 2 hX.ts (lw_V q2013 q2015 qs57 q78 q2016) rfl rfl rfl (by decide +kernel) ⟨Nat.le_of_ble_eq_true rfl, Nat.le_of_ble_eq_true rfl⟩) (mo_x hR1) rfl rfl (Nat.le_of_ble_eq_true rfl) (by first | omega | (dsimp only; omega) | (show _ ≤ _; simp only []; omega)) (by first | omega | (dsimp only; omega) | (show _ ≤ _; simp only []; omega)) rfl dX5_oneStep_92 (fun v_92 G_92 hp_92 => ?_)
    obtain ⟨rfl, T1, g1, g2⟩ := hp_92
    have hqn : ((s_ver S x.1).1 x.2.1)[x.2.2.2.2]? = none := List.getElem?_eq_none (Nat.not_lt.mp fun z => absurd c_66 (nI_ge z (by omega)))
    have eS : s_stp S i = s_gb (sw_n S (s_n S + 1)) i 0 := by
      unfold s_stp
      rw [hx]
      show (match ((s_ver S x.1).1 x.2.1)[x.2.2.2.2]? with
          | none => s_gb (sw_n S (s_n S + 1)) i 0
          | some q => _) = _
      rw [hqn]
    refine jr_lvm [(0, .ref (ad 31 0 0))] rfl ?_
    exact cont ad T1 _ (by rw [eS]; exact g1) (fun _ _ _ _ => rfl) (hF1.trans g2)
  · have hpl : x.2.2.2.2 < ((s_ver S x.1).1 x.2.1).length := Nat.not_le.mp fun z => c_66 (nI_le z (by omega))
    obtain ⟨q, hqs⟩ : ∃ q, ((s_ver S x.1).1 x.2.1)[x.2.2.2.2]? = some q := ⟨_, List.getElem?_eq_getElem hpl⟩
    have hqp : q < (s_i S).length := hfl.2 q (List.mem_of_getElem? hqs)
    have hxB : (s_s (s_fw (sw_n S (s_n S + 1)) i ((s_s S i).2.length - 1) (x.1, x.2.1, x.2.2.1, x.2.2.2.1, x.2.2.2.2 + 1)) i).2[(s_s S i).2.length - 1]? = some (x.1, x.2.1, x.2.2.1, x.2.2.2.1, x.2.2.2.2 + 1) := by
      show (sup (s_s S) i _ i).2[(s_s S i).2.length - 1]? = _
      rw [sup_s]
      exact List.getElem?_set_self (lt_ofl hx)
    have hWB : sW (s_fw (sw_n S (s_n S + 1)) i ((s_s S i).2.length - 1) (x.1, x.2.1, x.2.2.1, x.2.2.2.1, x.2.2.2.2 + 1)) := sW_fw (S := sw_n S (s_n S + 1)) hW hi3 hx ⟨hxa.1, hxa.2.1, hxa.2.2.1, by show x.2.2.2.2 + 1 ≤ 10; omega⟩
    have eS : s_stp S i = s_act (s_fw (sw_n S (s_n S + 1)) i ((s_s S i).2.length - 1) (x.1, x.2.1, x.2.2.1, x.2.2.2.1, x.2.2.2.2 + 1)) i ((s_s S i).2.length - 1) (x.1, x.2.1, x.2.2.1, x.2.2.2.1, x.2.2.2.2 + 1) (s_ins S q) := by
      unfold s_stp
      rw [hx]
      show (match ((s_ver S x.1).1 x.2.1)[x.2.2.2.2]? with
          | none => s_gb (sw_n S (s_n S + 1)) i 0
          | some q => _) = _
      rw [hqs]
    have ekk : s_k (s_act (s_fw (sw_n S (s_n S + 1)) i ((s_s S i).2.length - 1) (x.1, x.2.1, x.2.2.1, x.2.2.2.1, x.2.2.2.2 + 1)) i ((s_s S i).2.length - 1) (x.1, x.2.1, x.2.2.1, x.2.2.2.1, x.2.2.2.2 + 1) (s_ins (s_fw (sw_n S (s_n S + 1)) i ((s_s S i).2.length - 1) (x.1, x.2.1, x.2.2.1, x.2.2.2.1, x.2.2.2.2 + 1)) q)) = s_k (s_one S i) := by rw [hm.2.2.2.2.2.1, eS]
    have ek0 : s_k (s_fw (sw_n S (s_n S + 1)) i ((s_s S i).2.length - 1) (x.1, x.2.1, x.2.2.1, x.2.2.2.1, x.2.2.2.2 + 1)) = s_k S := rfl
    refine jr_aload_n (i := 0) hX rfl rfl dX5_oneStep_69 ?_
    refine jr_aload_n (i := 1) hX rfl rfl dX5_oneStep_70 ?_
    refine jr_aload_n (i := 2) hX rfl rfl dX5_oneStep_71 ?_
    refine jr_aload_n (i := 3) hX rfl rfl dX5_oneStep_72 ?_
    refine jr_aload_n (i := 2) hX rfl rfl dX5_oneStep_73 ?_
    refine jr_getN (ci := 15) (k := 2) hX hFa rfl in_X14 (by decide) q1899 rfl dX5_oneStep_74 ?_
    refine jr_callV (As := [.int (nI x.2.2.2.2)]) (bc1 := ((18 + 159 * (s_cq S - s_cq (s_one S i))))) (bs1 := ((443 + 636 * (s_cq S - s_cq (s_one S i)) + 8 * (s_k (s_one S i) - s_k S)))) hX (met_get l D s0 b0 A _ (ad 41 x.1 x.2.1) (((s_ver S x.1).1 x.2.1).map (fun q => ad 50 q 0)) moI capI eaI hIL x.2.2.2.2 (ad 50 q 0) (by rw [List.getElem?_map, hqs]; rfl)) (cwV 1 hX.ts (lw_V q1712 q304 q2203 q68 q306) rfl rfl rfl (by decide +kernel) ⟨Nat.le_of_ble_eq_true rfl, Nat.le_of_ble_eq_true rfl⟩) hIL.1 rfl rfl (Nat.le_of_ble_eq_true rfl) (by first | omega | (dsimp only; omega) | (show _ ≤ _; simp only []; omega)) (by first | omega | (dsimp only; omega) | (show _ ≤ _; simp only []; omega)) rfl dX5_oneStep_77 (fun v_77 G_77 hp_77 => ?_)
    obtain ⟨rfl, e9⟩ := hp_77
    rw [e9]
    refine jr_castS hX (mo_cd hR1 hqp) rfl q1798 dX5_oneStep_80 ?_
    refine jr_callV (As := [.ref (ad 35 i 0), .ref (ad 38 i ((s_s S i).2.length - 1)), .ref (ad 50 q 0)]) (bc1 := (11 + 159 * ((s_q (s_stp S i)).length - (s_q (s_one S i)).length))) (bs1 := (43 + 636 * ((s_q (s_stp S i)).length - (s_q (s_one S i)).length))) hX (mm_does l D s0 b0 A _ (sw_n S (s_n S + 1)) th ad T hR1 (s_fw (sw_n S (s_n S + 1)) i ((s_s S i).2.length - 1) (x.1, x.2.1, x.2.2.1, x.2.2.2.1, x.2.2.2.2 + 1)) i ((s_s S i).2.length - 1) x (x.1, x.2.1, x.2.2.1, x.2.2.2.1, x.2.2.2.2 + 1) hi3 hx rfl rfl hxB hWB.1 hWB.2.1 hWB.2.2.1 hWB.2.2.2.1 hWB.2.2.2.2.2.1.2.1 hk hk13 (by show (s_c S).length < 100; omega) (by show (s_q S).length < 100; omega) (by show s_p S < 100; omega) (uv_at huv) q hqp) (cwV 3 hX.ts (lw_V q1979 q1981 qs53 q78 q1982) rfl rfl rfl (by decide +kernel) ⟨Nat.le_of_ble_eq_true rfl, Nat.le_of_ble_eq_true rfl⟩) (mo_x hR1) rfl rfl (Nat.le_of_ble_eq_true rfl) (by first | omega | (dsimp only; omega) | (show _ ≤ _; simp only []; omega)) (by first | omega | (dsimp only; omega) | (show _ ≤ _; simp only []; omega)) rfl dX5_oneStep_83 (fun v_83 G_83 hp_83 => ?_)
    obtain ⟨rfl, ad1, T1, g1, g2, g3⟩ := hp_83
    refine jr_goto hX (tgt := 95) (by decide) dX5_oneStep_86 ?_
    refine jr_lvm [(0, .ref (ad 31 0 0))] rfl ?_
    exact cont ad1 T1 _ (by rw [eS]; exact g1) g3 (hF1.trans g2)
