/-! takeEffect -/
theorem jFm.pt {T : jT} {G : jG} {lo hi n k i j : Nat} {c : jE} (ht : T n = (k, i, j)) (h : lo ≤ k % 100 ∧ k % 100 < hi) : jFm lo hi T G T (jup G n c) := jFm.put (by rw [ht]; exact h)
section
variable {D : va_G} {s0 : State} {b0 : Nat} {S : sSt} {ad : jN} {T : jT} {G : jG}
theorem co_t1 (h : jCo D s0 b0 S ad T G) : T (ad 1 0 0) = (1, 0, 0) := h.t (k := 1) (i := 0) (j := 0) rfl
theorem co_t2 (h : jCo D s0 b0 S ad T G) {i : Nat} (hi : i < 5) : T (ad 2 i 0) = (2, i, 0) := by
  rcases i with _ | _ | _ | _ | _ | i
  · exact h.t (k := 2) (i := 0) (j := 0) rfl
  · exact h.t (k := 2) (i := 1) (j := 0) rfl
  · exact h.t (k := 2) (i := 2) (j := 0) rfl
  · exact h.t (k := 2) (i := 3) (j := 0) rfl
  · exact h.t (k := 2) (i := 4) (j := 0) rfl
  · omega
theorem co_t6 (h : jCo D s0 b0 S ad T G) {i : Nat} (hi : i < 3) : T (ad 6 i 0) = (6, i, 0) := h.t (k := 6) (i := i) (j := 0) (s := .inr (s_rg (s_s S i).2.length (fun q => ad 8 i q), 0, 200)) (by show (if i < 3 ∧ 0 = 0 then _ else none) = _; rw [if_pos ⟨hi, rfl⟩])
theorem co_t18 (h : jCo D s0 b0 S ad T G) {ci : Nat} {ch : sCh} (hch : (s_c S)[ci]? = some ch) : T (ad 18 ci 0) = (18, ci, 0) := h.t (k := 18) (i := ci) (j := 0) (s := .inl (jo 8 [.int (nI ch.1), .int (jbz ch.2.1), .int (jbz ch.2.2.1), .long (lN ch.2.2.2.1), .int (nI ch.2.2.2.2)])) (by show (if 0 = 0 then Option.map _ ((s_c S)[ci]?) else none) = _; rw [if_pos rfl, hch]; rfl)
end

theorem jLS.los {D : va_G} {s0 : State} {b0 : Nat} {G : jG} {a n cap ea : Nat} {xs : List Nat} {mo : Int32} {ci : Nat} {fs : List Value} {c : jE} (hL : jLS D s0 b0 G a xs mo cap ea) (hn : G n = some (jo ci fs)) (h0 : ci ≠ 0) : jLS D s0 b0 (jup G n c) a xs mo cap ea := by
  obtain ⟨h1, h2, h3, h4⟩ := hL
  refine ⟨jup_o h1 hn (by simp; intro z; exact absurd z.symm h0), h2, h3, ?_⟩
  rcases h4 with h4 | ⟨h4, f, h5, h6⟩
  · exact Or.inl h4
  · exact Or.inr ⟨h4, f, jup_o h5 hn (by simp), h6⟩

set_option maxHeartbeats 4000000 in
set_option maxRecDepth 100000 in
theorem met_takeEffect (l : Launch) (D : va_G) (s0 : State) (b0 : Nat) (A : Nat → Prop) (G : jG) (S : sSt) (ad : jN) (T : jT) (hR : jCo D s0 b0 S ad T G) (ci : Nat) (ch : sCh) (hch : (s_c S)[ci]? = some ch) (hi : sWi S) (hv : sWv S) (hp : s_p S < s_m S) (hl : s_lead S ch.2.1 = true) (hs : sWs S) (ho : sWo S) (hfr : s_free S ch.2.1 ch.1) (hcm : ch.1 < 1000) : jM l yX1_takeEffect (ws_ yX1_takeEffect cX1_takeEffect 9 none) (jR 8 178 712) D s0 b0 A G [.ref (ad 1 0 0), .ref (ad 18 ci 0)] (fun w G1 => w = none ∧ ∃ (ad1 : jN) (T1 : jT), jCo D s0 b0 (s_tke S ci ch) ad1 T1 G1 ∧ jFm 1 30 T G T1 G1 ∧ ∀ k i j, k ≠ 17 → ad1 k i j = ad k i j) := by
  have hxx := co_x hR
  have hC := co_ch hR hch
  have hto := (s_lt hl hp).2
  have hol := ho.1
  refine jM.of (by decide +kernel) (own := RX1) rfl (Nat.le_of_ble_eq_true rfl) ?_
  intro p e s m args below meth c hX hr hlk hnm
  refine jr_aload_n (i := 1) hX rfl rfl dX1_takeEffect_0 ?_
  refine jr_aload_n (i := 0) hX rfl rfl dX1_takeEffect_1 ?_
  refine jr_get (ci := 2) (k := 8) hX hxx rfl in_X1 (by decide) q371 rfl dX1_takeEffect_2 ?_
  refine jr_callV (As := [.int (nI (s_p S))]) (bc1 := (178)) (bs1 := (712)) hX (met_target l D s0 b0 A _ (ad 18 ci 0) ch.2.1 _ _ _ _ hC (nI (s_p S))) (cwV 1 hX.ts (lw_V q1004 q1005 q1006 q102 q1007) rfl rfl rfl (by decide +kernel) ⟨Nat.le_of_ble_eq_true rfl, Nat.le_of_ble_eq_true rfl⟩) hC rfl rfl (Nat.le_of_ble_eq_true rfl) (by first | omega | (dsimp only; omega) | (show _ ≤ _; simp only []; omega)) (by first | omega | (dsimp only; omega) | (show _ ≤ _; simp only []; omega)) rfl dX1_takeEffect_5 (fun v_5 G_5 hp_5 => ?_)
  obtain ⟨rfl, e9⟩ := hp_5
  rw [e9, s_tgt hl]
  refine jr_istore_n (i := 2) hX rfl (by decide) rfl dX1_takeEffect_8 ?_
  refine jr_aload_n (i := 0) hX rfl rfl dX1_takeEffect_9 ?_
  refine jr_get (ci := 2) (k := 2) hX hxx rfl in_X1 (by decide) q365 rfl dX1_takeEffect_10 ?_
  refine jr_astore_n (i := 3) hX rfl (by decide) rfl dX1_takeEffect_13 ?_
  refine jr_aload_n (i := 3) hX rfl rfl dX1_takeEffect_14 ?_
  refine jr_alen (t := 2) hX (co_strs hR) rfl (v := 3) rfl dX1_takeEffect_15 ?_
  refine jr_istore hX (by decide) rfl dX1_takeEffect_16 ?_
  refine jr_iconst (v := 0) hX rfl dX1_takeEffect_18 ?_
  refine jr_istore hX (by decide) rfl dX1_takeEffect_19 ?_
  have rest : ∀ Gc : jG, jCo D s0 b0 (s_mvI S ch.2.1 ch.1 3 0) ad T Gc → jFm 1 30 T G T Gc → Jg p l e (jR 8 178 712) s m args below meth c (MQ below (jQ D A (fun w G1 => w = none ∧ ∃ (ad1 : jN) (T1 : jT), jCo D s0 b0 (s_tke S ci ch) ad1 T1 G1 ∧ jFm 1 30 T G T1 G1 ∧ ∀ k i j, k ≠ 17 → ad1 k i j = ad k i j)) args s 178 712 A) D A 9 Gc 151 604 85 [(2, .int (nI (s_to S ch.2.1))), (0, .ref (ad 1 0 0)), (1, .ref (ad 18 ci 0))] [] := by
    intro Gc hRc hFc
    refine jr_aload_n (i := 0) hX rfl rfl dX1_takeEffect_85 ?_
    refine jr_iload_n (i := 2) hX rfl rfl dX1_takeEffect_86 ?_
    refine jr_put (ci := 2) (k := 8) hX (co_x hRc) rfl in_X1 (by decide) tyX1 tyX1_ok nmX1 q371 rfl (by first | rfl | assumption) (by first | rfl | assumption) (Nat.le_of_ble_eq_true rfl) dX1_takeEffect_87 ?_
    have hR4 : jCo D s0 b0 (s_tk1 S ch) ad T _ := co_wp hRc (s_to S ch.2.1)
    have hF4 := hFc.trans (jFm.put (T := T) (G := Gc) (n := ad 1 0 0) (lo := 1) (hi := 30) (c := jo 2 [.ref (ad 2 0 0), .ref (ad 2 1 0), .ref (ad 3 0 0), .ref (ad 2 2 0), .ref (ad 2 3 0), .ref (ad 2 4 0), .ref (ad 4 0 0), .ref (ad 7 (s_m S) 0), .int (nI (s_to S ch.2.1)), .int (s_l S), .int (jbz (s_w S)), .long (lN (s_n S))]) (by rw [co_t1 hRc]; exact ⟨by decide, by decide⟩))
    refine jr_aload_n (i := 1) hX rfl rfl dX1_takeEffect_90 ?_
    refine jr_getN (ci := 8) (k := 2) hX (co_ch hR4 hch) rfl in_X16 (by decide) q1225 rfl dX1_takeEffect_91 ?_
    refine jr_if_eq hX (tgt := 143) (by decide) dX1_takeEffect_94 (fun c_94 => ?_) (fun c_94 => ?_)
    · refine jr_aload_n (i := 1) hX rfl rfl dX1_takeEffect_143 ?_
      refine jr_bipush (v := 101) hX (by decide) dX1_takeEffect_144 ?_
      refine jr_putN (ci := 8) (k := 4) hX (co_ch hR4 hch) rfl in_X16 (by decide) tyX16 tyX16_ok nmX16 q1229 rfl (by first | rfl | assumption) (by first | rfl | assumption) (Nat.le_of_ble_eq_true rfl) dX1_takeEffect_146 ?_
      refine jr_vret hX hlk hr ⟨rfl, ad, T, ?_, hF4.trans (jFm.pt (co_t18 hR4 hch) (by decide)), fun _ _ _ _ => rfl⟩ dX1_takeEffect_149
      rw [show s_tke S ci ch = s_cw (s_tk1 S ch) ci ch 101 from by unfold s_tke s_tk2; rw [if_neg (by rw [jbz_0 c_94]; simp)]]
      exact co_wch hR4 hch 101
    · obtain ⟨mo, cap, ea, hL0, -, -, hea⟩ := co_ths hR4
      have hL : jLS D s0 b0 _ (ad 2 1 0) (s_rg (s_o S).length (fun v => ad 16 v 0)) mo cap ea := hL0
      have hb := jbz_1 c_94
      refine jr_aload_n (i := 0) hX rfl rfl dX1_takeEffect_97 ?_
      refine jr_get (ci := 2) (k := 1) hX (co_x hR4) rfl in_X1 (by decide) q364 rfl dX1_takeEffect_98 ?_
      refine jr_callF (As := []) (bc1 := (150)) (bs1 := (600)) hX (met_iterator l D s0 b0 A _ (ad 2 1 0) (s_rg (s_o S).length (fun v => ad 16 v 0)) mo cap ea hL) (va_cwF 0 hX.ts (lw_F q1055 q853 q855 q68 q857) rfl rfl rfl (hX.S.fw ⟨by decide +kernel, by decide +kernel⟩ q852 q851 q856 q854 q183) (by decide +kernel) ⟨Nat.le_of_ble_eq_true rfl, Nat.le_of_ble_eq_true rfl⟩) hL.1 rfl rfl (Nat.le_of_ble_eq_true rfl) (by first | omega | (dsimp only; omega) | (show _ ≤ _; simp only []; omega)) (by first | omega | (dsimp only; omega) | (show _ ≤ _; simp only []; omega)) rfl dX1_takeEffect_101 (fun v_101 G_101 hp_101 => ?_)
      obtain ⟨it, rfl, hn, hA, e9⟩ := hp_101
      rw [e9]
      refine jr_astore_n (i := 3) hX rfl (by decide) rfl dX1_takeEffect_106 ?_
      have hTit := hR4.un hn
      have hnit := hF4.bk hTit (by decide) hn
      have hxl : (s_rg (s_o S).length (fun v => ad 16 v 0)).length = (s_o S).length := rg_len
      have loopT : ∀ (n9 : Nat) (k : Nat) (adc : jN) (Tc : jT) (Gc : jG) (lr : Int32), (s_o S).length - k = n9 → k ≤ (s_o S).length → jCo D s0 b0 (s_ctI (s_tk1 S ch) (s_to S ch.2.1) k) adc Tc Gc → (∀ k i j, k ≠ 17 → adc k i j = ad k i j) → jFm 1 30 T G Tc Gc → (Tc it).1 = 0 → G it = none → Gc it = some (jo 1 [.int (nI k), .int lr, .int mo, .ref (ad 2 1 0)]) → jLS D s0 b0 Gc (ad 2 1 0) (s_rg (s_o S).length (fun v => ad 16 v 0)) mo cap ea → (cap ≠ 0 → Tc ea = (102, 1, 0)) → Jg p l e (jR 8 178 712) s m args below meth c (MQ below (jQ D A (fun w G1 => w = none ∧ ∃ (ad1 : jN) (T1 : jT), jCo D s0 b0 (s_tke S ci ch) ad1 T1 G1 ∧ jFm 1 30 T G T1 G1 ∧ ∀ k i j, k ≠ 17 → ad1 k i j = ad k i j)) args s 178 712 A) D A 9 Gc (5 * (30 - k)) (20 * (30 - k)) 107 [(3, .ref it), (0, .ref (ad 1 0 0)), (1, .ref (ad 18 ci 0))] [] := by
        intro n9
        induction n9 using Nat.strongRecOn with
        | ind n9 ih0 =>
        intro k adc Tc Gc lr hn9 hkl hRc hAd hFc hTit hnit hit hL hea
        have ih : ∀ m9, m9 < n9 → ∀ (k : Nat) (adc : jN) (Tc : jT) (Gc : jG) (lr : Int32), (s_o S).length - k = m9 → k ≤ (s_o S).length → jCo D s0 b0 (s_ctI (s_tk1 S ch) (s_to S ch.2.1) k) adc Tc Gc → (∀ k i j, k ≠ 17 → adc k i j = ad k i j) → jFm 1 30 T G Tc Gc → (Tc it).1 = 0 → G it = none → Gc it = some (jo 1 [.int (nI k), .int lr, .int mo, .ref (ad 2 1 0)]) → jLS D s0 b0 Gc (ad 2 1 0) (s_rg (s_o S).length (fun v => ad 16 v 0)) mo cap ea → (cap ≠ 0 → Tc ea = (102, 1, 0)) → Jg p l e (jR 8 178 712) s m args below meth c (MQ below (jQ D A (fun w G1 => w = none ∧ ∃ (ad1 : jN) (T1 : jT), jCo D s0 b0 (s_tke S ci ch) ad1 T1 G1 ∧ jFm 1 30 T G T1 G1 ∧ ∀ k i j, k ≠ 17 → ad1 k i j = ad k i j)) args s 178 712 A) D A 9 Gc (5 * (30 - k)) (20 * (30 - k)) 107 [(3, .ref it), (0, .ref (ad 1 0 0)), (1, .ref (ad 18 ci 0))] [] := fun m9 hm => ih0 m9 hm
        refine jr_aload_n (i := 3) hX rfl rfl dX1_takeEffect_107 ?_
        refine jr_callF (As := []) (bc1 := (5 * (30 - k))) (bs1 := (20 * (30 - k))) hX (met_hasNext l D s0 b0 A _ (ad 2 1 0) (s_rg (s_o S).length (fun v => ad 16 v 0)) mo cap ea hL it (k) lr hit (by rw [hxl]; omega)) (va_cwF 0 hX.ts (lw_F q1057 q882 q884 q96 q886) rfl rfl rfl (hX.S.fw ⟨by decide +kernel, by decide +kernel⟩ q880 q879 q885 q883 q881) (by decide +kernel) ⟨Nat.le_of_ble_eq_true rfl, Nat.le_of_ble_eq_true rfl⟩) hit rfl rfl (Nat.le_of_ble_eq_true rfl) (by first | omega | (dsimp only; omega) | (show _ ≤ _; simp only []; omega)) (by first | omega | (dsimp only; omega) | (show _ ≤ _; simp only []; omega)) rfl dX1_takeEffect_108 (fun v_108 G_108 hp_108 => ?_)
        obtain ⟨rfl, e9⟩ := hp_108
        rw [e9, hxl]
        refine jr_if_eq hX (tgt := 143) (by decide) dX1_takeEffect_113 (fun c_113 => ?_) (fun c_113 => ?_)
        · have hk2 : ¬ k < (s_o S).length := of_decide_eq_false (jbz_0 c_113)
          have hC := co_ch hRc hch
          rw [hAd 18 ci 0 (by decide)] at hC
          refine jr_aload_n (i := 1) hX rfl rfl dX1_takeEffect_143 ?_
          refine jr_bipush (v := 101) hX (by decide) dX1_takeEffect_144 ?_
          refine jr_putN (ci := 8) (k := 4) hX hC rfl in_X16 (by decide) tyX16 tyX16_ok nmX16 q1229 rfl (by first | rfl | assumption) (by first | rfl | assumption) (Nat.le_of_ble_eq_true rfl) dX1_takeEffect_146 ?_
          have h9 := co_wch hRc hch 101
          rw [hAd 18 ci 0 (by decide)] at h9
          rw [show k = (s_o S).length by omega] at h9
          refine jr_vret hX hlk hr ⟨rfl, adc, Tc, ?_, hFc.trans (jFm.pt (k := 18) (i := ci) (j := 0) ((congrArg Tc (hAd 18 ci 0 (by decide)).symm).trans (co_t18 hRc hch)) (by decide)), hAd⟩ dX1_takeEffect_149
          rw [show s_tke S ci ch = s_cw (s_ctI (s_tk1 S ch) (s_to S ch.2.1) (s_o S).length) ci ch 101 from by unfold s_tke s_tk2; rw [if_pos hb]]
          exact h9
        · have hk2 : k < (s_o S).length := of_decide_eq_true (jbz_1 c_113)
          obtain ⟨t, ht⟩ : ∃ t, (s_o S)[k]? = some t := ⟨_, List.getElem?_eq_getElem hk2⟩
          refine jr_aload_n (i := 3) hX rfl rfl dX1_takeEffect_116 ?_
          refine jr_callF (As := []) (bc1 := (5 * (30 - k))) (bs1 := (20 * (30 - k))) hX (met_next l D s0 b0 A _ (ad 2 1 0) (s_rg (s_o S).length (fun v => ad 16 v 0)) mo cap ea hL it (k) lr hit (ad 16 k 0) (rg_at hk2)) (va_cwF 0 hX.ts (lw_F q1059 q891 q893 q96 q895) rfl rfl rfl (hX.S.fw ⟨by decide +kernel, by decide +kernel⟩ q890 q889 q894 q892 q881) (by decide +kernel) ⟨Nat.le_of_ble_eq_true rfl, Nat.le_of_ble_eq_true rfl⟩) hit rfl rfl (Nat.le_of_ble_eq_true rfl) (by first | omega | (dsimp only; omega) | (show _ ≤ _; simp only []; omega)) (by first | omega | (dsimp only; omega) | (show _ ≤ _; simp only []; omega)) rfl dX1_takeEffect_117 (fun v_117 G_117 hp_117 => ?_)
          obtain ⟨rfl, e9⟩ := hp_117
          rw [e9]
          have hR2 := jRep.lo hRc hTit (jo 1 [.int (nI (k + 1)), .int (nI k), .int mo, .ref (ad 2 1 0)])
          have hTh := co_th hR2 ((ctI_at (Nat.le_refl k)).trans ht)
          rw [hAd 16 k 0 (by decide)] at hTh
          have hxx := co_x hR2
          rw [hAd 1 0 0 (by decide)] at hxx
          refine jr_castS hX hTh rfl q1096 dX1_takeEffect_122 ?_
          refine jr_astore hX (by decide) rfl dX1_takeEffect_125 ?_
          refine jr_aload hX rfl dX1_takeEffect_127 ?_
          refine jr_aload_n (i := 0) hX rfl rfl dX1_takeEffect_129 ?_
          refine jr_get (ci := 2) (k := 8) hX hxx rfl in_X1 (by decide) q371 rfl dX1_takeEffect_130 ?_
          refine jr_aload_n (i := 0) hX rfl rfl dX1_takeEffect_133 ?_
          refine jr_get (ci := 2) (k := 0) hX hxx rfl in_X1 (by decide) q363 rfl dX1_takeEffect_134 ?_
          have h8 := met_carryTo l D s0 b0 A _ (s_ctI (s_tk1 S ch) (s_to S ch.2.1) k) adc Tc hR2 k t ((ctI_at (Nat.le_refl k)).trans ht) (ho.2 k t ht).2 (ho.2 k t ht).1 (s_to S ch.2.1) hto hv
          rw [hAd 16 k 0 (by decide)] at h8
          refine jr_callV (As := [.int (nI (s_to S ch.2.1)), .ref (adc 2 0 0)]) (bc1 := (5 * (30 - (k + 1)))) (bs1 := (20 * (30 - (k + 1)))) hX (h8) (cwV 2 hX.ts (lw_V q1097 q1098 q1099 q101 q1100) rfl rfl rfl (by decide +kernel) ⟨Nat.le_of_ble_eq_true rfl, Nat.le_of_ble_eq_true rfl⟩) hTh rfl rfl (Nat.le_of_ble_eq_true rfl) (by first | omega | (dsimp only; omega) | (show _ ≤ _; simp only []; omega)) (by first | omega | (dsimp only; omega) | (show _ ≤ _; simp only []; omega)) rfl dX1_takeEffect_137 (fun v_137 G_137 hp_137 => ?_)
          obtain ⟨rfl, ad1, T1, h1, h2, h3⟩ := hp_137
          rw [ctI_s (S := s_tk1 S ch) ht] at h1
          have hit2 := h2.k0 (b := it) hTit (by decide) jup_s
          obtain ⟨hL2, hea2⟩ := jLS.fm (hL.los hit (by simp)) h2 (by rw [← hAd 2 1 0 (by decide)]; exact co_t2 hRc (by decide)) hea (by decide) (by decide)
          have hF2 := (hFc.fr hnit (c := jo 1 [.int (nI (k + 1)), .int (nI k), .int mo, .ref (ad 2 1 0)])).trans (h2.wide (by decide) (by decide))
          refine jr_goto hX (tgt := 107) (by decide) dX1_takeEffect_140 ?_
          refine jr_lvm [(3, .ref it), (0, .ref (ad 1 0 0)), (1, .ref (ad 18 ci 0))] rfl ?_
          exact ih _ (by omega) (k + 1) ad1 T1 _ _ rfl (by omega) h1 (fun k i j h => (h3 k i j h).trans (hAd k i j h)) hF2 hit2.1 hnit hit2.2 hL2 hea2
      refine jr_lvm [(3, .ref it), (0, .ref (ad 1 0 0)), (1, .ref (ad 18 ci 0))] rfl ?_
      refine jr_wk (bc' := 5 * (30 - 0)) (bs' := 20 * (30 - 0)) (by omega) (by omega) (loopT _ 0 ad T _ (-1) rfl (Nat.zero_le _) ?_ (fun _ _ _ _ => rfl) (hF4.fr hnit) hTit hnit jup_s ((jNw.new hn).jLS hL) hea)
      rw [ctI_0]
      exact hR4.lo hTit _
  have loopO : ∀ (n9 : Nat) (i : Nat) (Gc : jG), 3 - i = n9 → i ≤ 3 → jCo D s0 b0 (s_mvI S ch.2.1 ch.1 i 0) ad T Gc → jFm 1 30 T G T Gc → Jg p l e (jR 8 178 712) s m args below meth c (MQ below (jQ D A (fun w G1 => w = none ∧ ∃ (ad1 : jN) (T1 : jT), jCo D s0 b0 (s_tke S ci ch) ad1 T1 G1 ∧ jFm 1 30 T G T1 G1 ∧ ∀ k i j, k ≠ 17 → ad1 k i j = ad k i j)) args s 178 712 A) D A 9 Gc (151 + 9 * (3 - (i))) (604 + 36 * (3 - (i))) 21 [(5, .int (nI (i))), (4, .int 3), (3, .ref (ad 3 0 0)), (2, .int (nI (s_to S ch.2.1))), (0, .ref (ad 1 0 0)), (1, .ref (ad 18 ci 0))] [] := by
    intro n9
    induction n9 using Nat.strongRecOn with
    | ind n9 ih0 =>
    intro i Gc hn9 hil hRc hFc
    have ih : ∀ m9, m9 < n9 → ∀ (i : Nat) (Gc : jG), 3 - i = m9 → i ≤ 3 → jCo D s0 b0 (s_mvI S ch.2.1 ch.1 i 0) ad T Gc → jFm 1 30 T G T Gc → Jg p l e (jR 8 178 712) s m args below meth c (MQ below (jQ D A (fun w G1 => w = none ∧ ∃ (ad1 : jN) (T1 : jT), jCo D s0 b0 (s_tke S ci ch) ad1 T1 G1 ∧ jFm 1 30 T G T1 G1 ∧ ∀ k i j, k ≠ 17 → ad1 k i j = ad k i j)) args s 178 712 A) D A 9 Gc (151 + 9 * (3 - (i))) (604 + 36 * (3 - (i))) 21 [(5, .int (nI (i))), (4, .int 3), (3, .ref (ad 3 0 0)), (2, .int (nI (s_to S ch.2.1))), (0, .ref (ad 1 0 0)), (1, .ref (ad 18 ci 0))] [] := fun m9 hm => ih0 m9 hm
    refine jr_iload hX rfl dX1_takeEffect_21 ?_
    refine jr_iload hX rfl dX1_takeEffect_23 ?_
    refine jr_icmp_ge hX (tgt := 85) (by decide) dX1_takeEffect_25 (fun c_25 => ?_) (fun c_25 => ?_)
    · have hi3 : 3 ≤ i := Nat.not_lt.mp fun z => absurd c_25 (nI_ge (b := 3) z (by omega))
      rw [show i = 3 by omega] at hRc
      refine jr_lvm [(2, .int (nI (s_to S ch.2.1))), (0, .ref (ad 1 0 0)), (1, .ref (ad 18 ci 0))] rfl ?_
      exact jr_wk (by omega) (by omega) (rest _ hRc hFc)
    · have hi3 : i < 3 := Nat.not_le.mp fun z => c_25 (nI_le (a := 3) z (by omega))
      obtain ⟨mo, cap, ea, hL0, -, -, hea⟩ := co_frl hRc hi3
      have hL : jLS D s0 b0 Gc (ad 6 i 0) (s_rg (s_s S i).2.length (fun q => ad 8 i q)) mo cap ea := by rw [mvI_len] at hL0; exact hL0
      have hl8 := (hs i hi3).2.1
      refine jr_aload_n (i := 3) hX rfl rfl dX1_takeEffect_28 ?_
      refine jr_iload hX rfl dX1_takeEffect_29 ?_
      refine jr_aald (t := 2) (v := .ref (ad 5 i 0)) hX (co_strs hRc) rfl rfl (nI3 hi3) (by rw [nI_clamp (by omega)]; rfl) dX1_takeEffect_31 ?_
      refine jr_astore hX (by decide) rfl dX1_takeEffect_32 ?_
      refine jr_aload hX rfl dX1_takeEffect_34 ?_
      refine jr_getN (ci := 3) (k := 0) hX (co_str hRc hi3) rfl in_X2 (by decide) q159 rfl dX1_takeEffect_36 ?_
      refine jr_callF (As := []) (bc1 := (151 + 9 * (2 - i) + 8)) (bs1 := (604 + 36 * (2 - i) + 32)) hX (met_iterator l D s0 b0 A _ (ad 6 i 0) (s_rg (s_s S i).2.length (fun q => ad 8 i q)) mo cap ea hL) (va_cwF 0 hX.ts (lw_F q1055 q853 q855 q68 q857) rfl rfl rfl (hX.S.fw ⟨by decide +kernel, by decide +kernel⟩ q852 q851 q856 q854 q183) (by decide +kernel) ⟨Nat.le_of_ble_eq_true rfl, Nat.le_of_ble_eq_true rfl⟩) hL.1 rfl rfl (Nat.le_of_ble_eq_true rfl) (by first | omega | (dsimp only; omega) | (show _ ≤ _; simp only []; omega)) (by first | omega | (dsimp only; omega) | (show _ ≤ _; simp only []; omega)) rfl dX1_takeEffect_39 (fun v_39 G_39 hp_39 => ?_)
      obtain ⟨it, rfl, hn, hA, e9⟩ := hp_39
      rw [e9]
      refine jr_astore hX (by decide) rfl dX1_takeEffect_44 ?_
      have cont : ∀ Gc : jG, jCo D s0 b0 (s_mvI S ch.2.1 ch.1 (i + 1) 0) ad T Gc → jFm 1 30 T G T Gc → Jg p l e (jR 8 178 712) s m args below meth c (MQ below (jQ D A (fun w G1 => w = none ∧ ∃ (ad1 : jN) (T1 : jT), jCo D s0 b0 (s_tke S ci ch) ad1 T1 G1 ∧ jFm 1 30 T G T1 G1 ∧ ∀ k i j, k ≠ 17 → ad1 k i j = ad k i j)) args s 178 712 A) D A 9 Gc (151 + 9 * (3 - (i + 1))) (604 + 36 * (3 - (i + 1))) 21 [(5, .int (nI (i + 1))), (4, .int 3), (3, .ref (ad 3 0 0)), (2, .int (nI (s_to S ch.2.1))), (0, .ref (ad 1 0 0)), (1, .ref (ad 18 ci 0))] [] := fun Gc z1 z2 => ih _ (by omega) (i + 1) Gc rfl (by omega) z1 z2
      have hTit := hRc.un hn
      have hnit := hFc.bk hTit (by decide) hn
      have hxl : (s_rg (s_s S i).2.length (fun q => ad 8 i q)).length = (s_s S i).2.length := rg_len
      have loopI : ∀ (n9 : Nat) (j : Nat) (Gc : jG) (lr : Int32), (s_s S i).2.length - j = n9 → j ≤ (s_s S i).2.length → jCo D s0 b0 (s_mvI S ch.2.1 ch.1 i j) ad T Gc → jFm 1 30 T G T Gc → Gc it = some (jo 1 [.int (nI j), .int lr, .int mo, .ref (ad 6 i 0)]) → jLS D s0 b0 Gc (ad 6 i 0) (s_rg (s_s S i).2.length (fun q => ad 8 i q)) mo cap ea → Jg p l e (jR 8 178 712) s m args below meth c (MQ below (jQ D A (fun w G1 => w = none ∧ ∃ (ad1 : jN) (T1 : jT), jCo D s0 b0 (s_tke S ci ch) ad1 T1 G1 ∧ jFm 1 30 T G T1 G1 ∧ ∀ k i j, k ≠ 17 → ad1 k i j = ad k i j)) args s 178 712 A) D A 9 Gc (151 + 9 * (2 - i) + (8 - j)) (604 + 36 * (2 - i) + 4 * (8 - j)) 46 [(7, .ref it), (5, .int (nI i)), (4, .int 3), (3, .ref (ad 3 0 0)), (2, .int (nI (s_to S ch.2.1))), (0, .ref (ad 1 0 0)), (1, .ref (ad 18 ci 0))] [] := by
        intro n9
        induction n9 using Nat.strongRecOn with
        | ind n9 ih0 =>
        intro j Gc lr hn9 hjl hRc hFc hit hL
        have ih : ∀ m9, m9 < n9 → ∀ (j : Nat) (Gc : jG) (lr : Int32), (s_s S i).2.length - j = m9 → j ≤ (s_s S i).2.length → jCo D s0 b0 (s_mvI S ch.2.1 ch.1 i j) ad T Gc → jFm 1 30 T G T Gc → Gc it = some (jo 1 [.int (nI j), .int lr, .int mo, .ref (ad 6 i 0)]) → jLS D s0 b0 Gc (ad 6 i 0) (s_rg (s_s S i).2.length (fun q => ad 8 i q)) mo cap ea → Jg p l e (jR 8 178 712) s m args below meth c (MQ below (jQ D A (fun w G1 => w = none ∧ ∃ (ad1 : jN) (T1 : jT), jCo D s0 b0 (s_tke S ci ch) ad1 T1 G1 ∧ jFm 1 30 T G T1 G1 ∧ ∀ k i j, k ≠ 17 → ad1 k i j = ad k i j)) args s 178 712 A) D A 9 Gc (151 + 9 * (2 - i) + (8 - j)) (604 + 36 * (2 - i) + 4 * (8 - j)) 46 [(7, .ref it), (5, .int (nI i)), (4, .int 3), (3, .ref (ad 3 0 0)), (2, .int (nI (s_to S ch.2.1))), (0, .ref (ad 1 0 0)), (1, .ref (ad 18 ci 0))] [] := fun m9 hm => ih0 m9 hm
        refine jr_aload hX rfl dX1_takeEffect_46 ?_
        refine jr_callF (As := []) (bc1 := (151 + 9 * (2 - i) + (8 - j))) (bs1 := (604 + 36 * (2 - i) + 4 * (8 - j))) hX (met_hasNext l D s0 b0 A _ (ad 6 i 0) (s_rg (s_s S i).2.length (fun q => ad 8 i q)) mo cap ea hL it (j) lr hit (by rw [hxl]; omega)) (va_cwF 0 hX.ts (lw_F q1057 q882 q884 q96 q886) rfl rfl rfl (hX.S.fw ⟨by decide +kernel, by decide +kernel⟩ q880 q879 q885 q883 q881) (by decide +kernel) ⟨Nat.le_of_ble_eq_true rfl, Nat.le_of_ble_eq_true rfl⟩) hit rfl rfl (Nat.le_of_ble_eq_true rfl) (by first | omega | (dsimp only; omega) | (show _ ≤ _; simp only []; omega)) (by first | omega | (dsimp only; omega) | (show _ ≤ _; simp only []; omega)) rfl dX1_takeEffect_48 (fun v_48 G_48 hp_48 => ?_)
        obtain ⟨rfl, e9⟩ := hp_48
        rw [e9, hxl]
        refine jr_if_eq hX (tgt := 79) (by decide) dX1_takeEffect_53 (fun c_53 => ?_) (fun c_53 => ?_)
        · have hj2 : ¬ j < (s_s S i).2.length := of_decide_eq_false (jbz_0 c_53)
          rw [show j = (s_s S i).2.length by omega, mvI_n] at hRc
          refine jr_iinc (w := 1) hX rfl rfl (by decide) rfl dX1_takeEffect_79 ?_
          rw [show nI i + 1 = nI (i + 1) from nI_1 i]
          refine jr_goto hX (tgt := 21) (by decide) dX1_takeEffect_82 ?_
          refine jr_lvm [(5, .int (nI (i + 1))), (4, .int 3), (3, .ref (ad 3 0 0)), (2, .int (nI (s_to S ch.2.1))), (0, .ref (ad 1 0 0)), (1, .ref (ad 18 ci 0))] rfl ?_
          exact jr_wk (by omega) (by omega) (cont _ hRc hFc)
        · have hj2 : j < (s_s S i).2.length := of_decide_eq_true (jbz_1 c_53)
          obtain ⟨x, hx⟩ : ∃ x, (s_s S i).2[j]? = some x := ⟨_, List.getElem?_eq_getElem hj2⟩
          refine jr_aload hX rfl dX1_takeEffect_56 ?_
          refine jr_callF (As := []) (bc1 := (151 + 9 * (2 - i) + (8 - j))) (bs1 := (604 + 36 * (2 - i) + 4 * (8 - j))) hX (met_next l D s0 b0 A _ (ad 6 i 0) (s_rg (s_s S i).2.length (fun q => ad 8 i q)) mo cap ea hL it (j) lr hit (ad 8 i j) (rg_at hj2)) (va_cwF 0 hX.ts (lw_F q1059 q891 q893 q96 q895) rfl rfl rfl (hX.S.fw ⟨by decide +kernel, by decide +kernel⟩ q890 q889 q894 q892 q881) (by decide +kernel) ⟨Nat.le_of_ble_eq_true rfl, Nat.le_of_ble_eq_true rfl⟩) hit rfl rfl (Nat.le_of_ble_eq_true rfl) (by first | omega | (dsimp only; omega) | (show _ ≤ _; simp only []; omega)) (by first | omega | (dsimp only; omega) | (show _ ≤ _; simp only []; omega)) rfl dX1_takeEffect_58 (fun v_58 G_58 hp_58 => ?_)
          obtain ⟨rfl, e9⟩ := hp_58
          rw [e9]
          have hR2 := jRep.lo hRc hTit (jo 1 [.int (nI (j + 1)), .int (nI j), .int mo, .ref (ad 6 i 0)])
          have hF := co_fr hR2 hi3 (mvI_at hx)
          refine jr_castS hX hF rfl q957 dX1_takeEffect_63 ?_
          refine jr_astore hX (by decide) rfl dX1_takeEffect_66 ?_
          refine jr_aload_n (i := 0) hX rfl rfl dX1_takeEffect_68 ?_
          refine jr_aload_n (i := 1) hX rfl rfl dX1_takeEffect_69 ?_
          refine jr_aload hX rfl dX1_takeEffect_70 ?_
          refine jr_iload_n (i := 2) hX rfl rfl dX1_takeEffect_72 ?_
          refine jr_callV (As := [.ref (ad 18 ci 0), .ref (ad 8 i j), .int (nI (s_to S ch.2.1))]) (bc1 := (151 + 9 * (2 - i) + (8 - (j + 1)))) (bs1 := (604 + 36 * (2 - i) + 4 * (8 - (j + 1)))) hX (met_move l D s0 b0 A _ (s_mvI S ch.2.1 ch.1 i j) ad T hR2 ci ch hch hi hv hp hl i j x hi3 (mvI_at hx) (mvI_ws hv hp hl hs hfr) (fun q1 q2 q3 => hfr i j x hi3 hx q1 q2 q3) hcm) (cwV 3 hX.ts (lw_V q1081 q1083 qs21 q65 q1084) rfl rfl rfl (by decide +kernel) ⟨Nat.le_of_ble_eq_true rfl, Nat.le_of_ble_eq_true rfl⟩) (co_x hR2) rfl rfl (Nat.le_of_ble_eq_true rfl) (by first | omega | (dsimp only; omega) | (show _ ≤ _; simp only []; omega)) (by first | omega | (dsimp only; omega) | (show _ ≤ _; simp only []; omega)) rfl dX1_takeEffect_73 (fun v_73 G_73 hp_73 => ?_)
          obtain ⟨rfl, h1, h2⟩ := hp_73
          rw [mvF_I, mvI_s hx] at h1
          have hit2 := h2.k0 (b := it) hTit (by decide) jup_s
          obtain ⟨hL2, -⟩ := jLS.fm (hL.los hit (by simp)) h2 (co_t6 hRc hi3) hea (by decide) (by decide)
          have hF2 := (hFc.fr hnit (c := jo 1 [.int (nI (j + 1)), .int (nI j), .int mo, .ref (ad 6 i 0)])).trans (h2.wide (by decide) (by decide))
          refine jr_goto hX (tgt := 46) (by decide) dX1_takeEffect_76 ?_
          refine jr_lvm [(7, .ref it), (5, .int (nI i)), (4, .int 3), (3, .ref (ad 3 0 0)), (2, .int (nI (s_to S ch.2.1))), (0, .ref (ad 1 0 0)), (1, .ref (ad 18 ci 0))] rfl ?_
          exact ih _ (by omega) (j + 1) _ _ rfl (by omega) h1 hF2 hit2.2 hL2
      refine jr_lvm [(7, .ref it), (5, .int (nI i)), (4, .int 3), (3, .ref (ad 3 0 0)), (2, .int (nI (s_to S ch.2.1))), (0, .ref (ad 1 0 0)), (1, .ref (ad 18 ci 0))] rfl ?_
      exact jr_wk (by omega) (by omega) (loopI _ 0 _ (-1) rfl (Nat.zero_le _) (hRc.lo hTit _) (hFc.fr hnit) jup_s ((jNw.new hn).jLS hL))
  refine jr_lvm [(5, .int (nI 0)), (4, .int 3), (3, .ref (ad 3 0 0)), (2, .int (nI (s_to S ch.2.1))), (0, .ref (ad 1 0 0)), (1, .ref (ad 18 ci 0))] rfl ?_
  refine jr_wk (bc' := 151 + 9 * (3 - 0)) (bs' := 604 + 36 * (3 - 0)) (by omega) (by omega) (loopO _ 0 G rfl (by omega) ?_ jFm.refl)
  rw [mvI_0]
  exact hR

/-- the first change goes: it takes effect, or is dropped where there is no version to go to -/
def s_endC (S : sSt) (ci : Nat) (ch : sCh) : sSt := if s_lead S ch.2.1 = true then s_tke S ci ch else s_cw S ci ch 100

set_option maxHeartbeats 4000000 in
set_option maxRecDepth 100000 in
theorem met_endC (l : Launch) (D : va_G) (s0 : State) (b0 : Nat) (A : Nat → Prop) (G : jG) (S : sSt) (ad : jN) (T : jT) (hR : jCo D s0 b0 S ad T G) (ci : Nat) (ch : sCh) (hch : (s_c S)[ci]? = some ch) (hi : sWi S) (hv : sWv S) (hp : s_p S < s_m S) (hs : sWs S) (ho : sWo S) (hfr : s_lead S ch.2.1 = true → s_free S ch.2.1 ch.1) (hcm : ch.1 < 1000) : jM l yX1_end (ws_ yX1_end cX1_end 2 none) (jR 9 178 712) D s0 b0 A G [.ref (ad 1 0 0), .ref (ad 18 ci 0)] (fun w G1 => w = none ∧ ∃ (ad1 : jN) (T1 : jT), jCo D s0 b0 (s_endC S ci ch) ad1 T1 G1 ∧ jFm 1 30 T G T1 G1 ∧ ∀ k i j, k ≠ 17 → ad1 k i j = ad k i j) := by
  have hxx := co_x hR
  have hC := co_ch hR hch
  refine jM.of (by decide +kernel) (own := RX1) rfl (Nat.le_of_ble_eq_true rfl) ?_
  intro p e s m args below meth c hX hr hlk hnm
  refine jr_aload_n (i := 0) hX rfl rfl dX1_end_0 ?_
  refine jr_aload_n (i := 1) hX rfl rfl dX1_end_1 ?_
  refine jr_callV (As := [.ref (ad 18 ci 0)]) (bc1 := (178)) (bs1 := (712)) hX (met_canLead l D s0 b0 A _ S ad T hR ci ch hch hi hv hp) (cwV 1 hX.ts (lw_V q1000 q1002 qs10 q65 q1003) rfl rfl rfl (by decide +kernel) ⟨Nat.le_of_ble_eq_true rfl, Nat.le_of_ble_eq_true rfl⟩) hxx rfl rfl (Nat.le_of_ble_eq_true rfl) (by first | omega | (dsimp only; omega) | (show _ ≤ _; simp only []; omega)) (by first | omega | (dsimp only; omega) | (show _ ≤ _; simp only []; omega)) rfl dX1_end_2 (fun v_2 G_2 hp_2 => ?_)
  obtain ⟨rfl, e9⟩ := hp_2
  rw [e9]
  refine jr_if_eq hX (tgt := 16) (by decide) dX1_end_5 (fun c_5 => ?_) (fun c_5 => ?_)
  · refine jr_aload_n (i := 1) hX rfl rfl dX1_end_16 ?_
    refine jr_bipush (v := 100) hX (by decide) dX1_end_17 ?_
    refine jr_putN (ci := 8) (k := 4) hX hC rfl in_X16 (by decide) tyX16 tyX16_ok nmX16 q1229 rfl (by first | rfl | assumption) (by first | rfl | assumption) (Nat.le_of_ble_eq_true rfl) dX1_end_19 ?_
    exact jr_vret hX hlk hr ⟨rfl, ad, T, by rw [show s_endC S ci ch = s_cw S ci ch 100 from if_neg (by rw [jbz_0 c_5]; simp)]; exact co_wch hR hch 100, jFm.pt (co_t18 hR hch) (by decide), fun _ _ _ _ => rfl⟩ dX1_end_22
  · refine jr_aload_n (i := 0) hX rfl rfl dX1_end_8 ?_
    refine jr_aload_n (i := 1) hX rfl rfl dX1_end_9 ?_
    refine jr_callV (As := [.ref (ad 18 ci 0)]) (bc1 := (0)) (bs1 := (0)) hX (met_takeEffect l D s0 b0 A _ S ad T hR ci ch hch hi hv hp (jbz_1 c_5) hs ho (hfr (jbz_1 c_5)) hcm) (cwV 1 hX.ts (lw_V q1077 q1079 qs20 q65 q1080) rfl rfl rfl (by decide +kernel) ⟨Nat.le_of_ble_eq_true rfl, Nat.le_of_ble_eq_true rfl⟩) hxx rfl rfl (Nat.le_of_ble_eq_true rfl) (by first | omega | (dsimp only; omega) | (show _ ≤ _; simp only []; omega)) (by first | omega | (dsimp only; omega) | (show _ ≤ _; simp only []; omega)) rfl dX1_end_10 (fun v_10 G_10 hp_10 => ?_)
    obtain ⟨rfl, ad1, T1, h1, h2, h3⟩ := hp_10
    refine jr_goto hX (tgt := 22) (by decide) dX1_end_13 ?_
    exact jr_vret hX hlk hr ⟨rfl, ad1, T1, by rw [show s_endC S ci ch = s_tke S ci ch from if_pos (jbz_1 c_5)]; exact h1, h2, h3⟩ dX1_end_22
