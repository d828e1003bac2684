/-! the model's takesEffect -/
theorem ctI_q {S : sSt} {r : List Nat} {a n : Nat} : s_ctI (sw_q S r) a n = sw_q (s_ctI S a n) r := by
  have e : s_cT (sw_q S r) a = s_cT S a := by
    funext t
    unfold s_cT
    rw [car_v (S := sw_q S r) (S2 := S) rfl]
  unfold s_ctI
  rw [e]
theorem tk1_q {S : sSt} {r : List Nat} {ch : sCh} : s_tk1 (sw_q S r) ch = sw_q (s_tk1 S ch) r := rfl
theorem tk2_q {S : sSt} {r : List Nat} {ch : sCh} : s_tk2 (sw_q S r) ch = sw_q (s_tk2 S ch) r := by
  unfold s_tk2
  by_cases h : ch.2.2.1 = true
  · rw [if_pos h, if_pos h, tk1_q, ctI_q]; rfl
  · rw [if_neg h, if_neg h, tk1_q]
theorem tke_q {S : sSt} {r : List Nat} {ci : Nat} {ch : sCh} : s_tke (sw_q S r) ci ch = sw_q (s_tke S ci ch) r := by
  unfold s_tke
  rw [tk2_q]
theorem tk2_c {S : sSt} {ch : sCh} : s_c (s_tk2 S ch) = s_c S ∧ s_q (s_tk2 S ch) = s_q S := by
  unfold s_tk2
  split <;> exact ⟨rfl, rfl⟩
/-- a change takes effect: the first k things have been seen -/
def s_tkI (S : sSt) (ch : sCh) (k : Nat) : sSt := if ch.2.2.1 = true then s_ctI (s_tk1 S ch) (s_to S ch.2.1) k else s_tk1 S ch
theorem tkI_0 {S : sSt} {ch : sCh} : s_tkI S ch 0 = s_tk1 S ch := by
  unfold s_tkI
  split
  · exact ctI_0
  · rfl
theorem tkI_n {S : sSt} {ch : sCh} : s_tkI S ch (s_o S).length = s_tk2 S ch := rfl
theorem tkI_at {S : sSt} {ch : sCh} {k n : Nat} (h : k ≤ n) : (s_o (s_tkI S ch k))[n]? = (s_o S)[n]? := by
  unfold s_tkI
  split
  · exact ctI_at h
  · rfl
theorem tkI_no {S : sSt} {ch : sCh} {k n : Nat} (h : ch.2.2.1 = false) : s_tkI S ch k = s_tkI S ch n := by
  unfold s_tkI
  rw [h]; rfl
theorem tkI_c {S : sSt} {ch : sCh} {k : Nat} : s_c (s_tkI S ch k) = s_c S := by
  unfold s_tkI
  split <;> rfl

set_option maxHeartbeats 4000000 in
set_option maxRecDepth 100000 in
theorem mm_takesEffect (l : Launch) (D : va_G) (s0 : State) (b0 : Nat) (A : Nat → Prop) (G : jG) (S : sSt) (th : Nat) (ad : jN) (T : jT) (hR : jMo D s0 b0 th S ad T G) (ci : Nat) (rq : List Nat) (hq : s_q S = ci :: rq) (ch : sCh) (hch : (s_c S)[ci]? = some ch) (hi : sWi S) (hv : sWv S) (hp : s_p S < s_m S) (hl : s_lead S ch.2.1 = true) (hs : sWs S) (ho : sWo S) (hW : sWc S) (hfr : s_free S ch.2.1 ch.1) (hcm : ch.1 < 1000) : jM l yX5_takesEffect (ws_ yX5_takesEffect cX5_takesEffect 7 none) (jR 6 155 620) D s0 b0 A G [.ref (ad 31 0 0), .ref (ad 48 ci 0)] (fun w G1 => w = none ∧ ∃ (ad1 : jN) (T1 : jT), jMo D s0 b0 th (s_tke (sw_q S rq) ci ch) ad1 T1 G1 ∧ jFm 31 60 T G T1 G1 ∧ ∀ k i j, k ≠ 47 → ad1 k i j = ad k i j) := by
  have hxx := mo_x hR
  have hto := (s_lt hl hp).2
  have hol := ho.1
  have hmm : s_m S = (s_v S).length - 1 := rfl
  have hvu := hv.2.1
  obtain ⟨mo0, cap0, ea0, hLL0, -, -, hea0⟩ := mo_lns hR
  refine jM.of (by decide +kernel) (own := RX5) rfl (Nat.le_of_ble_eq_true rfl) ?_
  intro p e s m args below meth c hX hr hlk hnm
  refine jr_aload_n (i := 0) hX rfl rfl dX5_takesEffect_0 ?_
  refine jr_aload_n (i := 1) hX rfl rfl dX5_takesEffect_1 ?_
  refine jr_callV (As := [.ref (ad 48 ci 0)]) (bc1 := (155)) (bs1 := (620)) hX (mm_target l D s0 b0 A _ S th ad T hR ci ch hch hp (by omega)) (cwV 1 hX.ts (lw_V q1921 q1923 qs43 q78 q1924) rfl rfl rfl (by decide +kernel) ⟨Nat.le_of_ble_eq_true rfl, Nat.le_of_ble_eq_true rfl⟩) hxx rfl rfl (Nat.le_of_ble_eq_true rfl) (by first | omega | (dsimp only; omega) | (show _ ≤ _; simp only []; omega)) (by first | omega | (dsimp only; omega) | (show _ ≤ _; simp only []; omega)) rfl dX5_takesEffect_2 (fun v_2 G_2 hp_2 => ?_)
  obtain ⟨rfl, e9⟩ := hp_2
  rw [e9]
  rw [if_pos hl]
  refine jr_istore_n (i := 2) hX rfl (by decide) rfl dX5_takesEffect_5 ?_
  refine jr_aload_n (i := 0) hX rfl rfl dX5_takesEffect_6 ?_
  refine jr_get (ci := 11) (k := 4) hX hxx rfl in_X5 (by decide) q1734 rfl dX5_takesEffect_7 ?_
  have hL0 := hLL0
  refine jr_callV (As := []) (bc1 := (151 + (3 - 0))) (bs1 := (604 + 4 * (3 - 0))) hX (met_iterator l D s0 b0 A _ (ad 32 1 0) (s_rg 3 (fun v => ad 35 v 0)) mo0 cap0 ea0 hL0) (cwV 0 hX.ts (lw_V q1937 q855 q2208 q68 q857) rfl rfl rfl (by decide +kernel) ⟨Nat.le_of_ble_eq_true rfl, Nat.le_of_ble_eq_true rfl⟩) hL0.1 rfl rfl (Nat.le_of_ble_eq_true rfl) (by first | omega | (dsimp only; omega) | (show _ ≤ _; simp only []; omega)) (by first | omega | (dsimp only; omega) | (show _ ≤ _; simp only []; omega)) rfl dX5_takesEffect_10 (fun v_10 G_10 hp_10 => ?_)
  obtain ⟨it0, rfl, hn, hA, e9⟩ := hp_10
  rw [e9]
  refine jr_astore_n (i := 3) hX rfl (by decide) rfl dX5_takesEffect_13 ?_
  have hnit0 : G it0 = none := hn
  have hTit0 := hR.un hn
  have hxl0 : (s_rg 3 (fun v => ad 35 v 0)).length = 3 := rg_len
  have rest : ∀ Gc : jG, jMo D s0 b0 th (s_mvI S ch.2.1 ch.1 3 0) ad T Gc → jFm 31 60 T G T Gc → Jg p l e (jR 6 155 620) s m args below meth c (MQ below (jQ D A (fun w G1 => w = none ∧ ∃ (ad1 : jN) (T1 : jT), jMo D s0 b0 th (s_tke (sw_q S rq) ci ch) ad1 T1 G1 ∧ jFm 31 60 T G T1 G1 ∧ ∀ k i j, k ≠ 47 → ad1 k i j = ad k i j)) args s 155 620 A) D A 7 Gc 151 604 88 [(2, .int (nI (s_to S ch.2.1))), (0, .ref (ad 31 0 0)), (1, .ref (ad 48 ci 0))] [] := by
    intro Gc hRc hFc
    refine jr_aload_n (i := 0) hX rfl rfl dX5_takesEffect_88 ?_
    refine jr_iload_n (i := 2) hX rfl rfl dX5_takesEffect_89 ?_
    refine jr_put (ci := 11) (k := 3) hX (mo_x hRc) rfl in_X5 (by decide) tyX5 tyX5_ok nmX5 q1733 rfl (by first | rfl | assumption) (by first | rfl | assumption) (Nat.le_of_ble_eq_true rfl) dX5_takesEffect_90 ?_
    have hR4 : jMo D s0 b0 th (s_tk1 S ch) ad T _ := mo_wp hRc (s_to S ch.2.1)
    have hF4 := hFc.trans (jFm.pt (lo := 31) (hi := 60) (c := jo 11 [.int (nI th), .ref (ad 32 0 0), .ref (ad 37 (s_m S) 0), .int (nI (s_to S ch.2.1)), .ref (ad 32 1 0), .ref (ad 32 2 0), .ref (ad 34 0 0), .ref (ad 32 3 0), .ref (ad 32 4 0), .int (jbz (s_w S)), .int (s_l S), .ref (ad 32 5 0), .ref (ad 32 6 0), .long (lN (s_n S))]) (mo_t31 hRc) (by decide))
    obtain ⟨mo, cap, ea, hL0, -, -, hea⟩ := mo_ths hR4
    have hL : jLS D s0 b0 _ (ad 32 2 0) (s_rg (s_o S).length (fun v => ad 46 v 0)) mo cap ea := hL0
    refine jr_aload_n (i := 0) hX rfl rfl dX5_takesEffect_93 ?_
    refine jr_get (ci := 11) (k := 5) hX (mo_x hR4) rfl in_X5 (by decide) q1735 rfl dX5_takesEffect_94 ?_
    refine jr_callV (As := []) (bc1 := (150)) (bs1 := (600)) hX (met_iterator l D s0 b0 A _ (ad 32 2 0) (s_rg (s_o S).length (fun v => ad 46 v 0)) mo cap ea hL) (cwV 0 hX.ts (lw_V q1937 q855 q2208 q68 q857) rfl rfl rfl (by decide +kernel) ⟨Nat.le_of_ble_eq_true rfl, Nat.le_of_ble_eq_true rfl⟩) hL.1 rfl rfl (Nat.le_of_ble_eq_true rfl) (by first | omega | (dsimp only; omega) | (show _ ≤ _; simp only []; omega)) (by first | omega | (dsimp only; omega) | (show _ ≤ _; simp only []; omega)) rfl dX5_takesEffect_97 (fun v_97 G_97 hp_97 => ?_)
    obtain ⟨it, rfl, hn, hA, e9⟩ := hp_97
    rw [e9]
    refine jr_astore_n (i := 3) hX rfl (by decide) rfl dX5_takesEffect_100 ?_
    have hTit := hR4.un hn
    have hnit := hF4.bk hTit (by decide) hn
    have hxl : (s_rg (s_o S).length (fun v => ad 46 v 0)).length = (s_o S).length := rg_len
    have loopT : ∀ (n9 : Nat) (k : Nat) (adc : jN) (Tc : jT) (Gc : jG) (lr : Int32), (s_o S).length - k = n9 → k ≤ (s_o S).length → jMo D s0 b0 th (s_tkI S ch k) adc Tc Gc → (∀ k i j, k ≠ 47 → adc k i j = ad k i j) → jFm 31 60 T G Tc Gc → (Tc it).1 = 0 → G it = none → Gc it = some (jo 1 [.int (nI k), .int lr, .int mo, .ref (ad 32 2 0)]) → jLS D s0 b0 Gc (ad 32 2 0) (s_rg (s_o S).length (fun v => ad 46 v 0)) mo cap ea → (cap ≠ 0 → Tc ea = (132, 2, 0)) → Jg p l e (jR 6 155 620) s m args below meth c (MQ below (jQ D A (fun w G1 => w = none ∧ ∃ (ad1 : jN) (T1 : jT), jMo D s0 b0 th (s_tke (sw_q S rq) ci ch) ad1 T1 G1 ∧ jFm 31 60 T G T1 G1 ∧ ∀ k i j, k ≠ 47 → ad1 k i j = ad k i j)) args s 155 620 A) D A 7 Gc (5 * (30 - k)) (20 * (30 - k)) 101 [(3, .ref it), (2, .int (nI (s_to S ch.2.1))), (0, .ref (ad 31 0 0)), (1, .ref (ad 48 ci 0))] [] := by
      intro n9
      induction n9 using Nat.strongRecOn with
      | ind n9 ih0 =>
      intro k adc Tc Gc lr hn9 hkl hRc hAd hFc hTit hnit hit hL hea
      have ih : ∀ m9, m9 < n9 → ∀ (k : Nat) (adc : jN) (Tc : jT) (Gc : jG) (lr : Int32), (s_o S).length - k = m9 → k ≤ (s_o S).length → jMo D s0 b0 th (s_tkI S ch k) adc Tc Gc → (∀ k i j, k ≠ 47 → adc k i j = ad k i j) → jFm 31 60 T G Tc Gc → (Tc it).1 = 0 → G it = none → Gc it = some (jo 1 [.int (nI k), .int lr, .int mo, .ref (ad 32 2 0)]) → jLS D s0 b0 Gc (ad 32 2 0) (s_rg (s_o S).length (fun v => ad 46 v 0)) mo cap ea → (cap ≠ 0 → Tc ea = (132, 2, 0)) → Jg p l e (jR 6 155 620) s m args below meth c (MQ below (jQ D A (fun w G1 => w = none ∧ ∃ (ad1 : jN) (T1 : jT), jMo D s0 b0 th (s_tke (sw_q S rq) ci ch) ad1 T1 G1 ∧ jFm 31 60 T G T1 G1 ∧ ∀ k i j, k ≠ 47 → ad1 k i j = ad k i j)) args s 155 620 A) D A 7 Gc (5 * (30 - k)) (20 * (30 - k)) 101 [(3, .ref it), (2, .int (nI (s_to S ch.2.1))), (0, .ref (ad 31 0 0)), (1, .ref (ad 48 ci 0))] [] := fun m9 hm => ih0 m9 hm
      refine jr_aload_n (i := 3) hX rfl rfl dX5_takesEffect_101 ?_
      refine jr_callF (As := []) (bc1 := (5 * (30 - k))) (bs1 := (20 * (30 - k))) hX (met_hasNext l D s0 b0 A _ (ad 32 2 0) (s_rg (s_o S).length (fun v => ad 46 v 0)) mo cap ea hL it (k) lr hit (by rw [hxl]; omega)) (va_cwF 0 hX.ts (lw_F q1939 q882 q884 q96 q886) rfl rfl rfl (hX.S.fw ⟨by decide +kernel, by decide +kernel⟩ q880 q879 q885 q883 q881) (by decide +kernel) ⟨Nat.le_of_ble_eq_true rfl, Nat.le_of_ble_eq_true rfl⟩) hit rfl rfl (Nat.le_of_ble_eq_true rfl) (by first | omega | (dsimp only; omega) | (show _ ≤ _; simp only []; omega)) (by first | omega | (dsimp only; omega) | (show _ ≤ _; simp only []; omega)) rfl dX5_takesEffect_102 (fun v_102 G_102 hp_102 => ?_)
      obtain ⟨rfl, e9⟩ := hp_102
      rw [e9, hxl]
      refine jr_if_eq hX (tgt := 138) (by decide) dX5_takesEffect_107 (fun c_107 => ?_) (fun c_107 => ?_)
      · have hk2 : ¬ k < (s_o S).length := of_decide_eq_false (jbz_0 c_107)
        rw [show k = (s_o S).length by omega, tkI_n] at hRc
        have hch1 : (s_c (s_tk2 S ch))[ci]? = some ch := by rw [tk2_c.1]; exact hch
        have hC := mo_ch hRc hch1
        rw [show ad 48 ci 0 = adc 48 ci 0 from (hAd 48 ci 0 (by decide)).symm]
        have h9 : jMo D s0 b0 th (s_tke S ci ch) adc Tc _ := mo_wch hRc hch1 101
        have hxx9 := mo_x h9
        rw [hAd 31 0 0 (by decide)] at hxx9
        have hq9 : s_q (s_tke S ci ch) = ci :: rq := (tk2_c (S := S) (ch := ch)).2.trans hq
        have hch2 : (s_c (s_tke S ci ch))[ci]? = some (ch.1, ch.2.1, ch.2.2.1, ch.2.2.2.1, 101) := List.getElem?_set_self (lt_ofl hch1)
        have hwq : ∀ q ∈ s_q (s_tke S ci ch), q < (s_c (s_tke S ci ch)).length := fun q hq8 => by
          show q < ((s_c (s_tk2 S ch)).set ci _).length
          rw [List.length_set, tk2_c.1]
          exact hW.2.1 q (by rw [hq, ← hq9]; exact hq8)
        obtain ⟨moQ, capQ, eaQ, hQL, -, hQc, hQt⟩ := mo_que h9
        refine jr_aload_n (i := 1) hX rfl rfl dX5_takesEffect_138 ?_
        refine jr_bipush (v := 101) hX (by decide) dX5_takesEffect_139 ?_
        refine jr_putN (ci := 17) (k := 5) hX hC rfl in_X18 (by decide) tyX18 tyX18_ok nmX18 q2061 rfl (by first | rfl | assumption) (by first | rfl | assumption) (Nat.le_of_ble_eq_true rfl) dX5_takesEffect_141 ?_
        refine jr_aload_n (i := 0) hX rfl rfl dX5_takesEffect_144 ?_
        refine jr_get (ci := 11) (k := 8) hX hxx9 rfl in_X5 (by decide) q1738 rfl dX5_takesEffect_145 ?_
        refine jr_aload_n (i := 1) hX rfl rfl dX5_takesEffect_148 ?_
        refine jr_ee hX (fun hE0 => ?_)
        refine jr_callV (As := [.ref (adc 48 ci 0)]) (bc1 := (5 * (30 - k))) (bs1 := (20 * (30 - k))) hX (met_removeO l D s0 b0 A _ (adc 32 4 0) ((s_q (s_tke S ci ch)).map (fun v => adc 48 v 0)) moQ capQ eaQ hQL (ob_qM (S := s_tke S ci ch) h9 hwq) (adc 48 ci 0) 17 _ _ _ _ (mo_ch h9 hch2) rfl q811 0 (by rw [hq9]; rfl) (fun j hj => absurd hj (Nat.not_lt_zero j))) (cwV 1 hX.ts (lw_V q1929 q1930 q1931 q68 q1932) rfl rfl rfl (by decide +kernel) ⟨Nat.le_of_ble_eq_true rfl, Nat.le_of_ble_eq_true rfl⟩) hQL.1 rfl rfl (Nat.le_of_ble_eq_true rfl) (by first | omega | (dsimp only; omega) | (show _ ≤ _; simp only []; omega)) (by first | omega | (dsimp only; omega) | (show _ ≤ _; simp only []; omega)) rfl dX5_takesEffect_149 (fun v_149 G_149 hp_149 => ?_)
        obtain ⟨rfl, hU⟩ := hp_149
        refine jr_ee hX (fun hE1 => ?_)
        rw [← map_er] at hU
        obtain ⟨T3, hR3, hfm⟩ := mo_qls (qs := (s_q (s_tke S ci ch)).eraseIdx 0) h9 hE1 hQL hQt hU hQc
        have hfm1 := mo_fm (by omega) hE0 hfm
        refine jr_pop hX rfl dX5_takesEffect_152 ?_
        refine jr_vret hX hlk hr ⟨rfl, adc, T3, ?_, (hFc.trans (jFm.pt (k := 48) (i := ci) (j := 0) (mo_t48 hRc hch1) (by decide))).trans hfm1, hAd⟩ dX5_takesEffect_153
        rw [tke_q]
        rw [hq9] at hR3
        exact hR3
      · have hk2 : k < (s_o S).length := of_decide_eq_true (jbz_1 c_107)
        obtain ⟨t, ht⟩ : ∃ t, (s_o S)[k]? = some t := ⟨_, List.getElem?_eq_getElem hk2⟩
        refine jr_aload_n (i := 3) hX rfl rfl dX5_takesEffect_110 ?_
        refine jr_callF (As := []) (bc1 := (5 * (30 - k))) (bs1 := (20 * (30 - k))) hX (met_next l D s0 b0 A _ (ad 32 2 0) (s_rg (s_o S).length (fun v => ad 46 v 0)) mo cap ea hL it (k) lr hit (ad 46 k 0) (rg_at hk2)) (va_cwF 0 hX.ts (lw_F q1941 q891 q893 q96 q895) rfl rfl rfl (hX.S.fw ⟨by decide +kernel, by decide +kernel⟩ q890 q889 q894 q892 q881) (by decide +kernel) ⟨Nat.le_of_ble_eq_true rfl, Nat.le_of_ble_eq_true rfl⟩) hit rfl rfl (Nat.le_of_ble_eq_true rfl) (by first | omega | (dsimp only; omega) | (show _ ≤ _; simp only []; omega)) (by first | omega | (dsimp only; omega) | (show _ ≤ _; simp only []; omega)) rfl dX5_takesEffect_111 (fun v_111 G_111 hp_111 => ?_)
        obtain ⟨rfl, e9⟩ := hp_111
        rw [e9]
        have hR2 := jRep.lo hRc hTit (jo 1 [.int (nI (k + 1)), .int (nI k), .int mo, .ref (ad 32 2 0)])
        have hTh := mo_th hR2 ((tkI_at (Nat.le_refl k)).trans ht)
        rw [hAd 46 k 0 (by decide)] at hTh
        have hxx := mo_x hR2
        rw [hAd 31 0 0 (by decide)] at hxx
        have hC := mo_ch hR2 ((congrArg (fun L => L[ci]?) tkI_c).trans hch)
        rw [hAd 48 ci 0 (by decide)] at hC
        refine jr_castS hX hTh rfl q1959 dX5_takesEffect_116 ?_
        refine jr_astore hX (by decide) rfl dX5_takesEffect_119 ?_
        refine jr_aload_n (i := 1) hX rfl rfl dX5_takesEffect_121 ?_
        refine jr_getN (ci := 17) (k := 3) hX hC rfl in_X18 (by decide) q2057 rfl dX5_takesEffect_122 ?_
        refine jr_if_eq hX (tgt := 135) (by decide) dX5_takesEffect_125 (fun c_125 => ?_) (fun c_125 => ?_)
        · refine jr_goto hX (tgt := 101) (by decide) dX5_takesEffect_135 ?_
          refine jr_lvm [(3, .ref it), (2, .int (nI (s_to S ch.2.1))), (0, .ref (ad 31 0 0)), (1, .ref (ad 48 ci 0))] rfl ?_
          exact jr_wk (by omega) (by omega) (ih _ (by omega) (k + 1) adc Tc _ _ rfl (by omega) (by rw [tkI_no (k := k + 1) (n := k) (jbz_0 c_125)]; exact hR2) hAd (hFc.fr hnit) hTit hnit jup_s (hL.los hit (by simp)) hea)
        · have hb := jbz_1 c_125
          have htk : s_tkI S ch k = s_ctI (s_tk1 S ch) (s_to S ch.2.1) k := if_pos hb
          have htk1 : s_tkI S ch (k + 1) = s_ctI (s_tk1 S ch) (s_to S ch.2.1) (k + 1) := if_pos hb
          rw [htk] at hR2
          have h8 := mm_carryTo l D s0 b0 A _ (s_ctI (s_tk1 S ch) (s_to S ch.2.1) k) th adc Tc hR2 hv k t ((ctI_at (Nat.le_refl k)).trans ht) (ho.2 k t ht).2 (ho.2 k t ht).1 (s_to S ch.2.1) hto
          rw [hAd 46 k 0 (by decide), hAd 31 0 0 (by decide)] at h8
          refine jr_aload_n (i := 0) hX rfl rfl dX5_takesEffect_128 ?_
          refine jr_aload hX rfl dX5_takesEffect_129 ?_
          refine jr_iload_n (i := 2) hX rfl rfl dX5_takesEffect_131 ?_
          refine jr_callV (As := [.ref (ad 46 k 0), .int (nI (s_to S ch.2.1))]) (bc1 := (5 * (30 - (k + 1)))) (bs1 := (20 * (30 - (k + 1)))) hX (h8) (cwV 2 hX.ts (lw_V q1960 q1962 qs50 q78 q1963) rfl rfl rfl (by decide +kernel) ⟨Nat.le_of_ble_eq_true rfl, Nat.le_of_ble_eq_true rfl⟩) hxx rfl rfl (Nat.le_of_ble_eq_true rfl) (by first | omega | (dsimp only; omega) | (show _ ≤ _; simp only []; omega)) (by first | omega | (dsimp only; omega) | (show _ ≤ _; simp only []; omega)) rfl dX5_takesEffect_132 (fun v_132 G_132 hp_132 => ?_)
          obtain ⟨rfl, ad1, T1, h1, h2, h3⟩ := hp_132
          rw [ctI_s (S := s_tk1 S ch) ht, ← htk1] at h1
          have hit2 := h2.k0 (b := it) hTit (by decide) jup_s
          obtain ⟨hL2, hea2⟩ := jLS.fm (hL.los hit (by simp)) h2 (by rw [← hAd 32 2 0 (by decide)]; exact mo_t32 hRc (by decide)) hea (by decide) (by decide)
          have hF2 := (hFc.fr hnit (c := jo 1 [.int (nI (k + 1)), .int (nI k), .int mo, .ref (ad 32 2 0)])).trans (h2.wide (by decide) (by decide))
          refine jr_goto hX (tgt := 101) (by decide) dX5_takesEffect_135 ?_
          refine jr_lvm [(3, .ref it), (2, .int (nI (s_to S ch.2.1))), (0, .ref (ad 31 0 0)), (1, .ref (ad 48 ci 0))] rfl ?_
          exact ih _ (by omega) (k + 1) ad1 T1 _ _ rfl (by omega) h1 (fun k i j h => (h3 k i j h).trans (hAd k i j h)) hF2 hit2.1 hnit hit2.2 hL2 hea2
    refine jr_lvm [(3, .ref it), (2, .int (nI (s_to S ch.2.1))), (0, .ref (ad 31 0 0)), (1, .ref (ad 48 ci 0))] rfl ?_
    refine jr_wk (bc' := 5 * (30 - 0)) (bs' := 20 * (30 - 0)) (by omega) (by omega) (loopT _ 0 ad T _ (-1) rfl (Nat.zero_le _) ?_ (fun _ _ _ _ => rfl) (hF4.fr hnit) hTit hnit jup_s ((jNw.new hn).jLS hL) hea)
    rw [tkI_0]
    exact hR4.lo hTit _
  have loopO : ∀ (n9 : Nat) (i : Nat) (Gc : jG) (lr0 : Int32), 3 - i = n9 → i ≤ 3 → jMo D s0 b0 th (s_mvI S ch.2.1 ch.1 i 0) ad T Gc → jFm 31 60 T G T Gc → Gc it0 = some (jo 1 [.int (nI (i)), .int lr0, .int mo0, .ref (ad 32 1 0)]) → jLS D s0 b0 Gc (ad 32 1 0) (s_rg 3 (fun v => ad 35 v 0)) mo0 cap0 ea0 → Jg p l e (jR 6 155 620) s m args below meth c (MQ below (jQ D A (fun w G1 => w = none ∧ ∃ (ad1 : jN) (T1 : jT), jMo D s0 b0 th (s_tke (sw_q S rq) ci ch) ad1 T1 G1 ∧ jFm 31 60 T G T1 G1 ∧ ∀ k i j, k ≠ 47 → ad1 k i j = ad k i j)) args s 155 620 A) D A 7 Gc (151 + (3 - (i))) (604 + 4 * (3 - (i))) 14 [(3, .ref it0), (2, .int (nI (s_to S ch.2.1))), (0, .ref (ad 31 0 0)), (1, .ref (ad 48 ci 0))] [] := by
    intro n9
    induction n9 using Nat.strongRecOn with
    | ind n9 ih0 =>
    intro i Gc lr0 hn9 hil hRc hFc hit0 hL0
    have ih : ∀ m9, m9 < n9 → ∀ (i : Nat) (Gc : jG) (lr0 : Int32), 3 - i = m9 → i ≤ 3 → jMo D s0 b0 th (s_mvI S ch.2.1 ch.1 i 0) ad T Gc → jFm 31 60 T G T Gc → Gc it0 = some (jo 1 [.int (nI (i)), .int lr0, .int mo0, .ref (ad 32 1 0)]) → jLS D s0 b0 Gc (ad 32 1 0) (s_rg 3 (fun v => ad 35 v 0)) mo0 cap0 ea0 → Jg p l e (jR 6 155 620) s m args below meth c (MQ below (jQ D A (fun w G1 => w = none ∧ ∃ (ad1 : jN) (T1 : jT), jMo D s0 b0 th (s_tke (sw_q S rq) ci ch) ad1 T1 G1 ∧ jFm 31 60 T G T1 G1 ∧ ∀ k i j, k ≠ 47 → ad1 k i j = ad k i j)) args s 155 620 A) D A 7 Gc (151 + (3 - (i))) (604 + 4 * (3 - (i))) 14 [(3, .ref it0), (2, .int (nI (s_to S ch.2.1))), (0, .ref (ad 31 0 0)), (1, .ref (ad 48 ci 0))] [] := fun m9 hm => ih0 m9 hm
    refine jr_aload_n (i := 3) hX rfl rfl dX5_takesEffect_14 ?_
    refine jr_callF (As := []) (bc1 := (151 + (3 - i))) (bs1 := (604 + 4 * (3 - i))) hX (met_hasNext l D s0 b0 A _ (ad 32 1 0) (s_rg 3 (fun v => ad 35 v 0)) mo0 cap0 ea0 hL0 it0 (i) lr0 hit0 (by rw [hxl0]; omega)) (va_cwF 0 hX.ts (lw_F q1939 q882 q884 q96 q886) rfl rfl rfl (hX.S.fw ⟨by decide +kernel, by decide +kernel⟩ q880 q879 q885 q883 q881) (by decide +kernel) ⟨Nat.le_of_ble_eq_true rfl, Nat.le_of_ble_eq_true rfl⟩) hit0 rfl rfl (Nat.le_of_ble_eq_true rfl) (by first | omega | (dsimp only; omega) | (show _ ≤ _; simp only []; omega)) (by first | omega | (dsimp only; omega) | (show _ ≤ _; simp only []; omega)) rfl dX5_takesEffect_15 (fun v_15 G_15 hp_15 => ?_)
    obtain ⟨rfl, e9⟩ := hp_15
    rw [e9, hxl0]
    refine jr_if_eq hX (tgt := 88) (by decide) dX5_takesEffect_20 (fun c_20 => ?_) (fun c_20 => ?_)
    · have hi3 : 3 ≤ i := Nat.not_lt.mp fun z => absurd z (of_decide_eq_false (jbz_0 c_20))
      rw [show i = 3 by omega] at hRc
      refine jr_lvm [(2, .int (nI (s_to S ch.2.1))), (0, .ref (ad 31 0 0)), (1, .ref (ad 48 ci 0))] rfl ?_
      exact jr_wk (by omega) (by omega) (rest _ hRc hFc)
    · have hi3 : i < 3 := of_decide_eq_true (jbz_1 c_20)
      have hl8 := (hs i hi3).2.1
      refine jr_aload_n (i := 3) hX rfl rfl dX5_takesEffect_23 ?_
      refine jr_callF (As := []) (bc1 := (151 + (3 - i))) (bs1 := (604 + 4 * (3 - i))) hX (met_next l D s0 b0 A _ (ad 32 1 0) (s_rg 3 (fun v => ad 35 v 0)) mo0 cap0 ea0 hL0 it0 (i) lr0 hit0 (ad 35 i 0) (rg_at hi3)) (va_cwF 0 hX.ts (lw_F q1941 q891 q893 q96 q895) rfl rfl rfl (hX.S.fw ⟨by decide +kernel, by decide +kernel⟩ q890 q889 q894 q892 q881) (by decide +kernel) ⟨Nat.le_of_ble_eq_true rfl, Nat.le_of_ble_eq_true rfl⟩) hit0 rfl rfl (Nat.le_of_ble_eq_true rfl) (by first | omega | (dsimp only; omega) | (show _ ≤ _; simp only []; omega)) (by first | omega | (dsimp only; omega) | (show _ ≤ _; simp only []; omega)) rfl dX5_takesEffect_24 (fun v_24 G_24 hp_24 => ?_)
      obtain ⟨rfl, e9⟩ := hp_24
      rw [e9]
      have hR1 := jRep.lo hRc hTit0 (jo 1 [.int (nI (i + 1)), .int (nI i), .int mo0, .ref (ad 32 1 0)])
      have hF1 := hFc.fr hnit0 (c := jo 1 [.int (nI (i + 1)), .int (nI i), .int mo0, .ref (ad 32 1 0)])
      have hL01 := hL0.los hit0 (c := jo 1 [.int (nI (i + 1)), .int (nI i), .int mo0, .ref (ad 32 1 0)]) (by simp)
      have hLn := mo_lan hR1 hi3
      obtain ⟨mo, cap, ea, hLL, -, -, hea⟩ := mo_frl hR1 hi3
      have hL := hLL
      rw [mvI_len] at hL
      refine jr_castS hX hLn rfl q1713 dX5_takesEffect_29 ?_
      refine jr_astore hX (by decide) rfl dX5_takesEffect_32 ?_
      refine jr_aload hX rfl dX5_takesEffect_34 ?_
      refine jr_getN (ci := 13) (k := 1) hX hLn rfl in_X7 (by decide) q1724 rfl dX5_takesEffect_36 ?_
      refine jr_callV (As := []) (bc1 := (151 + (2 - i))) (bs1 := (604 + 4 * (2 - i))) hX (met_iterator l D s0 b0 A _ (ad 36 i 0) (s_rg (s_s S i).2.length (fun q => ad 38 i q)) mo cap ea hL) (cwV 0 hX.ts (lw_V q1937 q855 q2208 q68 q857) rfl rfl rfl (by decide +kernel) ⟨Nat.le_of_ble_eq_true rfl, Nat.le_of_ble_eq_true rfl⟩) hL.1 rfl rfl (Nat.le_of_ble_eq_true rfl) (by first | omega | (dsimp only; omega) | (show _ ≤ _; simp only []; omega)) (by first | omega | (dsimp only; omega) | (show _ ≤ _; simp only []; omega)) rfl dX5_takesEffect_39 (fun v_39 G_39 hp_39 => ?_)
      obtain ⟨it, rfl, hn, hA, e9⟩ := hp_39
      rw [e9]
      refine jr_astore hX (by decide) rfl dX5_takesEffect_42 ?_
      have cont : ∀ (Gc : jG) (lr0 : Int32), jMo D s0 b0 th (s_mvI S ch.2.1 ch.1 (i + 1) 0) ad T Gc → jFm 31 60 T G T Gc → Gc it0 = some (jo 1 [.int (nI (i + 1)), .int lr0, .int mo0, .ref (ad 32 1 0)]) → jLS D s0 b0 Gc (ad 32 1 0) (s_rg 3 (fun v => ad 35 v 0)) mo0 cap0 ea0 → Jg p l e (jR 6 155 620) s m args below meth c (MQ below (jQ D A (fun w G1 => w = none ∧ ∃ (ad1 : jN) (T1 : jT), jMo D s0 b0 th (s_tke (sw_q S rq) ci ch) ad1 T1 G1 ∧ jFm 31 60 T G T1 G1 ∧ ∀ k i j, k ≠ 47 → ad1 k i j = ad k i j)) args s 155 620 A) D A 7 Gc (151 + (3 - (i + 1))) (604 + 4 * (3 - (i + 1))) 14 [(3, .ref it0), (2, .int (nI (s_to S ch.2.1))), (0, .ref (ad 31 0 0)), (1, .ref (ad 48 ci 0))] [] := fun Gc lr0 z1 z2 z3 z4 => ih _ (by omega) (i + 1) Gc lr0 rfl (by omega) z1 z2 z3 z4
      have hne : it0 ≠ it := fun z => by rw [← z, jup_s] at hn; cases hn
      have hTit := hR1.un hn
      have hnit := hF1.bk hTit (by decide) hn
      have hxl : (s_rg (s_s S i).2.length (fun q => ad 38 i q)).length = (s_s S i).2.length := rg_len
      have loopI : ∀ (n9 : Nat) (j : Nat) (Gc : jG) (lr : Int32), (s_s S i).2.length - j = n9 → j ≤ (s_s S i).2.length → jMo D s0 b0 th (s_mvI S ch.2.1 ch.1 i j) ad T Gc → jFm 31 60 T G T Gc → Gc it0 = some (jo 1 [.int (nI (i + 1)), .int (nI i), .int mo0, .ref (ad 32 1 0)]) → jLS D s0 b0 Gc (ad 32 1 0) (s_rg 3 (fun v => ad 35 v 0)) mo0 cap0 ea0 → Gc it = some (jo 1 [.int (nI j), .int lr, .int mo, .ref (ad 36 i 0)]) → jLS D s0 b0 Gc (ad 36 i 0) (s_rg (s_s S i).2.length (fun q => ad 38 i q)) mo cap ea → Jg p l e (jR 6 155 620) s m args below meth c (MQ below (jQ D A (fun w G1 => w = none ∧ ∃ (ad1 : jN) (T1 : jT), jMo D s0 b0 th (s_tke (sw_q S rq) ci ch) ad1 T1 G1 ∧ jFm 31 60 T G T1 G1 ∧ ∀ k i j, k ≠ 47 → ad1 k i j = ad k i j)) args s 155 620 A) D A 7 Gc (151 + (2 - i)) (604 + 4 * (2 - i)) 44 [(5, .ref it), (3, .ref it0), (2, .int (nI (s_to S ch.2.1))), (0, .ref (ad 31 0 0)), (1, .ref (ad 48 ci 0))] [] := by
        intro n9
        induction n9 using Nat.strongRecOn with
        | ind n9 ih0 =>
        intro j Gc lr hn9 hjl hRc hFc hit0 hL0 hit hL
        have ih : ∀ m9, m9 < n9 → ∀ (j : Nat) (Gc : jG) (lr : Int32), (s_s S i).2.length - j = m9 → j ≤ (s_s S i).2.length → jMo D s0 b0 th (s_mvI S ch.2.1 ch.1 i j) ad T Gc → jFm 31 60 T G T Gc → Gc it0 = some (jo 1 [.int (nI (i + 1)), .int (nI i), .int mo0, .ref (ad 32 1 0)]) → jLS D s0 b0 Gc (ad 32 1 0) (s_rg 3 (fun v => ad 35 v 0)) mo0 cap0 ea0 → Gc it = some (jo 1 [.int (nI j), .int lr, .int mo, .ref (ad 36 i 0)]) → jLS D s0 b0 Gc (ad 36 i 0) (s_rg (s_s S i).2.length (fun q => ad 38 i q)) mo cap ea → Jg p l e (jR 6 155 620) s m args below meth c (MQ below (jQ D A (fun w G1 => w = none ∧ ∃ (ad1 : jN) (T1 : jT), jMo D s0 b0 th (s_tke (sw_q S rq) ci ch) ad1 T1 G1 ∧ jFm 31 60 T G T1 G1 ∧ ∀ k i j, k ≠ 47 → ad1 k i j = ad k i j)) args s 155 620 A) D A 7 Gc (151 + (2 - i)) (604 + 4 * (2 - i)) 44 [(5, .ref it), (3, .ref it0), (2, .int (nI (s_to S ch.2.1))), (0, .ref (ad 31 0 0)), (1, .ref (ad 48 ci 0))] [] := fun m9 hm => ih0 m9 hm
        refine jr_aload hX rfl dX5_takesEffect_44 ?_
        refine jr_callF (As := []) (bc1 := (151 + (2 - i))) (bs1 := (604 + 4 * (2 - i))) hX (met_hasNext l D s0 b0 A _ (ad 36 i 0) (s_rg (s_s S i).2.length (fun q => ad 38 i q)) mo cap ea hL it (j) lr hit (by rw [hxl]; omega)) (va_cwF 0 hX.ts (lw_F q1939 q882 q884 q96 q886) rfl rfl rfl (hX.S.fw ⟨by decide +kernel, by decide +kernel⟩ q880 q879 q885 q883 q881) (by decide +kernel) ⟨Nat.le_of_ble_eq_true rfl, Nat.le_of_ble_eq_true rfl⟩) hit rfl rfl (Nat.le_of_ble_eq_true rfl) (by first | omega | (dsimp only; omega) | (show _ ≤ _; simp only []; omega)) (by first | omega | (dsimp only; omega) | (show _ ≤ _; simp only []; omega)) rfl dX5_takesEffect_46 (fun v_46 G_46 hp_46 => ?_)
        obtain ⟨rfl, e9⟩ := hp_46
        rw [e9, hxl]
        refine jr_if_eq hX (tgt := 85) (by decide) dX5_takesEffect_51 (fun c_51 => ?_) (fun c_51 => ?_)
        · have hj2 : ¬ j < (s_s S i).2.length := of_decide_eq_false (jbz_0 c_51)
          rw [show j = (s_s S i).2.length by omega, mvI_n] at hRc
          refine jr_goto hX (tgt := 14) (by decide) dX5_takesEffect_85 ?_
          refine jr_lvm [(3, .ref it0), (2, .int (nI (s_to S ch.2.1))), (0, .ref (ad 31 0 0)), (1, .ref (ad 48 ci 0))] rfl ?_
          exact jr_wk (by omega) (by omega) (cont _ _ hRc hFc hit0 hL0)
        · have hj2 : j < (s_s S i).2.length := of_decide_eq_true (jbz_1 c_51)
          obtain ⟨x, hx⟩ : ∃ x, (s_s S i).2[j]? = some x := ⟨_, List.getElem?_eq_getElem hj2⟩
          refine jr_aload hX rfl dX5_takesEffect_54 ?_
          refine jr_callF (As := []) (bc1 := (151 + (2 - i))) (bs1 := (604 + 4 * (2 - i))) hX (met_next l D s0 b0 A _ (ad 36 i 0) (s_rg (s_s S i).2.length (fun q => ad 38 i q)) mo cap ea hL it (j) lr hit (ad 38 i j) (rg_at hj2)) (va_cwF 0 hX.ts (lw_F q1941 q891 q893 q96 q895) rfl rfl rfl (hX.S.fw ⟨by decide +kernel, by decide +kernel⟩ q890 q889 q894 q892 q881) (by decide +kernel) ⟨Nat.le_of_ble_eq_true rfl, Nat.le_of_ble_eq_true rfl⟩) hit rfl rfl (Nat.le_of_ble_eq_true rfl) (by first | omega | (dsimp only; omega) | (show _ ≤ _; simp only []; omega)) (by first | omega | (dsimp only; omega) | (show _ ≤ _; simp only []; omega)) rfl dX5_takesEffect_56 (fun v_56 G_56 hp_56 => ?_)
          obtain ⟨rfl, e9⟩ := hp_56
          rw [e9]
          have hR2 := jRep.lo hRc hTit (jo 1 [.int (nI (j + 1)), .int (nI j), .int mo, .ref (ad 36 i 0)])
          have hF := mo_fr hR2 hi3 (mvI_at hx)
          have hC := mo_ch hR2 hch
          have hFi := hFc.fr hnit (c := jo 1 [.int (nI (j + 1)), .int (nI j), .int mo, .ref (ad 36 i 0)])
          have hL0i := hL0.los hit (c := jo 1 [.int (nI (j + 1)), .int (nI j), .int mo, .ref (ad 36 i 0)]) (by simp)
          have hLi := hL.los hit (c := jo 1 [.int (nI (j + 1)), .int (nI j), .int mo, .ref (ad 36 i 0)]) (by simp)
          refine jr_castS hX hF rfl q1889 dX5_takesEffect_61 ?_
          refine jr_astore hX (by decide) rfl dX5_takesEffect_64 ?_
          refine jr_aload_n (i := 1) hX rfl rfl dX5_takesEffect_66 ?_
          refine jr_getN (ci := 17) (k := 1) hX hC rfl in_X18 (by decide) q2053 rfl dX5_takesEffect_67 ?_
          refine jr_bipush (v := 111) hX (by decide) dX5_takesEffect_70 ?_
          refine jr_icmp_eq hX (tgt := 82) (by decide) dX5_takesEffect_72 (fun c_72 => ?_) (fun c_72 => ?_)
          · refine jr_goto hX (tgt := 44) (by decide) dX5_takesEffect_82 ?_
            refine jr_lvm [(5, .ref it), (3, .ref it0), (2, .int (nI (s_to S ch.2.1))), (0, .ref (ad 31 0 0)), (1, .ref (ad 48 ci 0))] rfl ?_
            refine ih _ (by omega) (j + 1) _ _ rfl (by omega) ?_ hFi ((jup_n hne).trans hit0) hL0i jup_s hLi
            rw [← mvI_s hx, show s_mvF S ch.2.1 ch.1 x = x from if_neg (fun q => q.2 ((nI_eq (b := 111) (by omega) (by omega)).mp c_72)), s_fw_id (mvI_at hx)]
            exact hR2
          · have h111 : ch.1 ≠ 111 := fun z => c_72 (by rw [z]; rfl)
            refine jr_aload_n (i := 0) hX rfl rfl dX5_takesEffect_75 ?_
            refine jr_aload hX rfl dX5_takesEffect_76 ?_
            refine jr_iload_n (i := 2) hX rfl rfl dX5_takesEffect_78 ?_
            refine jr_callV (As := [.ref (ad 38 i j), .int (nI (s_to S ch.2.1))]) (bc1 := (151 + (2 - i))) (bs1 := (604 + 4 * (2 - i))) hX (mm_moves l D s0 b0 A _ (s_mvI S ch.2.1 ch.1 i j) th ad T hR2 ch.2.1 ch.1 h111 hi hv hp hl i j x hi3 (mvI_at hx) (mvI_ws hv hp hl hs hfr) (fun q1 q2 => hfr i j x hi3 hx q1 h111 q2)) (cwV 2 hX.ts (lw_V q1955 q1957 qs49 q78 q1958) rfl rfl rfl (by decide +kernel) ⟨Nat.le_of_ble_eq_true rfl, Nat.le_of_ble_eq_true rfl⟩) (mo_x hR2) rfl rfl (Nat.le_of_ble_eq_true rfl) (by first | omega | (dsimp only; omega) | (show _ ≤ _; simp only []; omega)) (by first | omega | (dsimp only; omega) | (show _ ≤ _; simp only []; omega)) rfl dX5_takesEffect_79 (fun v_79 G_79 hp_79 => ?_)
            obtain ⟨rfl, h1, h2⟩ := hp_79
            rw [mvF_I, mvI_s hx] at h1
            have hit2 := (h2.k0 (b := it) hTit (by decide) jup_s).2
            have hit02 := (h2.k0 (b := it0) hTit0 (by decide) ((jup_n hne).trans hit0)).2
            obtain ⟨hL2, -⟩ := jLS.fm hLi h2 (mo_t36 hRc hi3) hea (by decide) (by decide)
            obtain ⟨hL02, -⟩ := jLS.fm hL0i h2 (mo_t32 hRc (by decide)) hea0 (by decide) (by decide)
            have hF2 := hFi.trans (h2.wide (by decide) (by decide))
            refine jr_goto hX (tgt := 44) (by decide) dX5_takesEffect_82 ?_
            refine jr_lvm [(5, .ref it), (3, .ref it0), (2, .int (nI (s_to S ch.2.1))), (0, .ref (ad 31 0 0)), (1, .ref (ad 48 ci 0))] rfl ?_
            exact ih _ (by omega) (j + 1) _ _ rfl (by omega) h1 hF2 hit02 hL02 hit2 hL2
      refine jr_lvm [(5, .ref it), (3, .ref it0), (2, .int (nI (s_to S ch.2.1))), (0, .ref (ad 31 0 0)), (1, .ref (ad 48 ci 0))] rfl ?_
      exact jr_wk (by omega) (by omega) (loopI _ 0 _ (-1) rfl (Nat.zero_le _) (hR1.lo hTit _) (hF1.fr hnit) ((jup_n hne).trans jup_s) ((jNw.new hn).jLS hL01) jup_s ((jNw.new hn).jLS hL))
  refine jr_lvm [(3, .ref it0), (2, .int (nI (s_to S ch.2.1))), (0, .ref (ad 31 0 0)), (1, .ref (ad 48 ci 0))] rfl ?_
  refine loopO _ 0 _ (-1) rfl (by omega) ?_ (jFm.new hn) jup_s ((jNw.new hn).jLS hLL0)
  rw [mvI_0]
  exact hR.lo hTit0 _
