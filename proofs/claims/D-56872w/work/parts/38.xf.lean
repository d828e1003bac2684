/-! the thing that a frame reaches -/
set_option maxHeartbeats 4000000 in
set_option maxRecDepth 100000 in
theorem met_tkind (l : Launch) (D : va_G) (s0 : State) (b0 : Nat) (A : Nat → Prop) (G : jG) (a : Nat) (k : Int32) (x0 x2 : Value) (ha : G a = some (jo 7 [x0, .int k, x2])) : jM l yX15_kind (ws_ yX15_kind cX15_kind 1 (some .int)) (jR 0 0 0) D s0 b0 A G [.ref a] (fun w G1 => w = some (.int k) ∧ G1 = G) := by
  refine jM.of (by decide +kernel) (own := RX15) rfl (Nat.le_of_ble_eq_true rfl) ?_
  intro p e s m args below meth c hX hr hlk hnm
  refine jr_aload_n (i := 0) hX rfl rfl dX15_kind_0 ?_
  refine jr_get (ci := 7) (k := 1) hX (by first | assumption | exact jup_s) rfl in_X15 (by decide) q1176 rfl dX15_kind_1 ?_
  exact jr_iret hX hlk hr ⟨rfl, rfl⟩ dX15_kind_4

set_option maxHeartbeats 4000000 in
set_option maxRecDepth 100000 in
theorem met_thingFor (l : Launch) (D : va_G) (s0 : State) (b0 : Nat) (A : Nat → Prop) (G : jG) (S : sSt) (ad : jN) (T : jT) (hR : jCo D s0 b0 S ad T G) (hv : sWv S) (hs : sWs S) (ho : sWo S) (i j : Nat) (x : sFr) (hi3 : i < 3) (hx : (s_s S i).2[j]? = some x) (b : Int32) (kk ff : Nat) (hb1 : b / 10 = nI kk) (hb2 : b - b / 10 * 10 = nI ff) (hkk : kk < 3) (hff : ff < 4) (o : Nat) (t : sTh) (ht : (s_o S)[o]? = some t) (hk9 : t.2.1 = kk) (hfn : ff < (s_ver S x.1).2.1 kk) : jM l yX1_thingFor (ws_ yX1_thingFor cX1_thingFor 6 (some (.object "SwapWhile$Thing"))) (jR 5 5 20) D s0 b0 A G [.ref (ad 1 0 0), .ref (ad 8 i j), .int (nI o), .int b] (fun w G1 => w = some (.ref (ad 16 o 0)) ∧ ∃ (ad1 : jN) (T1 : jT), jCo D s0 b0 (s_cto S o x.1) ad1 T1 G1 ∧ jFm 1 30 T G T1 G1 ∧ ∀ k i j, k ≠ 17 → ad1 k i j = ad k i j) := by
  have hxx := co_x hR
  have hF := co_fr hR hi3 hx
  have hfx := (hs i hi3).2.2 j x hx
  have hmm : s_m S = (s_v S).length - 1 := rfl
  have hvl := hv.1
  have hvu := hv.2.1
  have hnf := (hv.2.2 x.1 (by omega)).2.1 kk hkk
  have hVV := co_ver hR (v := x.1) (by omega)
  have hNF := co_nf hR (v := x.1) (by omega)
  obtain ⟨hol, hoe⟩ := ho
  obtain ⟨moV, capV, eaV, hVL, -, hVc, -⟩ := co_vs hR
  obtain ⟨moO, capO, eaO, hOL, -, hOc, -⟩ := co_ths hR
  obtain ⟨ht1, ht2⟩ := hoe o t ht
  have hT := co_th hR ht
  refine jM.of (by decide +kernel) (own := RX1) rfl (Nat.le_of_ble_eq_true rfl) ?_
  intro p e s m args below meth c hX hr hlk hnm
  refine jr_iload_n (i := 2) hX rfl rfl dX1_thingFor_0 ?_
  refine jr_iconst (v := 0) hX rfl dX1_thingFor_1 ?_
  refine jr_aload_n (i := 0) hX rfl rfl dX1_thingFor_2 ?_
  refine jr_get (ci := 2) (k := 1) hX (by first | assumption | exact jup_s) rfl in_X1 (by decide) q364 rfl dX1_thingFor_3 ?_
  refine jr_callF (As := []) (bc1 := (5)) (bs1 := (20)) hX (met_size l D s0 b0 A _ (ad 2 1 0) (s_rg (s_o S).length (fun v => ad 16 v 0)) moO capO eaO hOL) (va_cwF 0 hX.ts (lw_F q405 q408 q410 q68 q412) rfl rfl rfl (hX.S.fw ⟨by decide +kernel, by decide +kernel⟩ q407 q406 q411 q409 q183) (by decide +kernel) ⟨Nat.le_of_ble_eq_true rfl, Nat.le_of_ble_eq_true rfl⟩) hOL.1 rfl rfl (Nat.le_of_ble_eq_true rfl) (by first | omega | (dsimp only; omega) | (show _ ≤ _; simp only []; omega)) (by first | omega | (dsimp only; omega) | (show _ ≤ _; simp only []; omega)) rfl dX1_thingFor_6 (fun v_6 G_6 hp_6 => ?_)
  obtain ⟨rfl, e9⟩ := hp_6
  rw [e9, rg_len]
  refine jr_iconst (v := 1) hX rfl dX1_thingFor_11 ?_
  refine jr_isub hX dX1_thingFor_12 ?_
  rw [nI_s1 (by have := lt_ofl ht; omega)]
  refine jr_callS (As := [.int (nI o), .int 0, .int (nI ((s_o S).length - 1))]) (bc1 := (5)) (bs1 := (20)) hX (met_isIn l D s0 b0 A _ _ _ _) (va_cwS 3 hX.ts (lw_S q453 q454 q65 q455) rfl rfl rfl (by decide +kernel) ⟨Nat.le_of_ble_eq_true rfl, Nat.le_of_ble_eq_true rfl⟩) rfl (Nat.le_of_ble_eq_true rfl) (by first | omega | (dsimp only; omega) | (show _ ≤ _; simp only []; omega)) (by first | omega | (dsimp only; omega) | (show _ ≤ _; simp only []; omega)) rfl dX1_thingFor_13 (fun v_13 G_13 hp_13 => ?_)
  obtain ⟨rfl, e9⟩ := hp_13
  rw [e9, jdt (p := (0 : Int32) ≤ nI o ∧ nI o ≤ nI ((s_o S).length - 1)) ⟨nI_pos' (by have := lt_ofl ht; omega), nI_le (by have := lt_ofl ht; omega) (by omega)⟩]
  refine jr_if_eq hX (tgt := 46) (by decide) dX1_thingFor_16 (fun z => absurd z (by decide)) (fun _ => ?_)
  refine jr_aload_n (i := 0) hX rfl rfl dX1_thingFor_19 ?_
  refine jr_get (ci := 2) (k := 1) hX (by first | assumption | exact jup_s) rfl in_X1 (by decide) q364 rfl dX1_thingFor_20 ?_
  refine jr_iload_n (i := 2) hX rfl rfl dX1_thingFor_23 ?_
  refine jr_callF (As := [.int (nI (o))]) (bc1 := (5)) (bs1 := (20)) hX (met_get l D s0 b0 A _ (ad 2 1 0) (s_rg (s_o S).length (fun v => ad 16 v 0)) moO capO eaO hOL (o) (ad 16 o 0) (rg_at (lt_ofl ht))) (va_cwF 1 hX.ts (lw_F q299 q302 q304 q68 q306) rfl rfl rfl (hX.S.fw ⟨by decide +kernel, by decide +kernel⟩ q301 q300 q305 q303 q183) (by decide +kernel) ⟨Nat.le_of_ble_eq_true rfl, Nat.le_of_ble_eq_true rfl⟩) hOL.1 rfl rfl (Nat.le_of_ble_eq_true rfl) (by first | omega | (dsimp only; omega) | (show _ ≤ _; simp only []; omega)) (by first | omega | (dsimp only; omega) | (show _ ≤ _; simp only []; omega)) rfl dX1_thingFor_24 (fun v_24 G_24 hp_24 => ?_)
  obtain ⟨rfl, e9⟩ := hp_24
  rw [e9]
  refine jr_castS hX hT rfl q1096 dX1_thingFor_29 ?_
  refine jr_callV (As := []) (bc1 := (5)) (bs1 := (20)) hX (met_tkind l D s0 b0 A _ (ad 16 o 0) _ _ _ hT) (cwV 0 hX.ts (lw_V q1193 q1194 q1195 q101 q1196) rfl rfl rfl (by decide +kernel) ⟨Nat.le_of_ble_eq_true rfl, Nat.le_of_ble_eq_true rfl⟩) hT rfl rfl (Nat.le_of_ble_eq_true rfl) (by first | omega | (dsimp only; omega) | (show _ ≤ _; simp only []; omega)) (by first | omega | (dsimp only; omega) | (show _ ≤ _; simp only []; omega)) rfl dX1_thingFor_32 (fun v_32 G_32 hp_32 => ?_)
  obtain ⟨rfl, e9⟩ := hp_32
  rw [e9]
  refine jr_iload_n (i := 3) hX rfl rfl dX1_thingFor_35 ?_
  refine jr_bipush (v := 10) hX (by decide) dX1_thingFor_36 ?_
  refine jr_idiv hX (by decide) dX1_thingFor_38 ?_
  rw [hb1]
  refine jr_icmp_ne hX (tgt := 46) (by decide) dX1_thingFor_39 (fun z => absurd (by rw [hk9]) z) (fun _ => ?_)
  refine jr_iconst (v := 1) hX rfl dX1_thingFor_42 ?_
  refine jr_goto hX (tgt := 47) (by decide) dX1_thingFor_43 ?_
  refine jr_istore hX (by decide) rfl dX1_thingFor_47 ?_
  refine jr_iload hX rfl dX1_thingFor_49 ?_
  refine jr_if_eq hX (tgt := 85) (by decide) dX1_thingFor_51 (fun z => absurd z (by decide)) (fun _ => ?_)
  refine jr_iload_n (i := 3) hX rfl rfl dX1_thingFor_54 ?_
  refine jr_bipush (v := 10) hX (by decide) dX1_thingFor_55 ?_
  refine jr_irem hX (by decide) dX1_thingFor_57 ?_
  rw [hb2]
  refine jr_aload_n (i := 0) hX rfl rfl dX1_thingFor_58 ?_
  refine jr_get (ci := 2) (k := 0) hX (by first | assumption | exact jup_s) rfl in_X1 (by decide) q363 rfl dX1_thingFor_59 ?_
  refine jr_aload_n (i := 1) hX rfl rfl dX1_thingFor_62 ?_
  refine jr_callU (As := []) (bc1 := (5)) (bs1 := (20)) hX (met_version_f l D s0 b0 A _ (ad 8 i j) _ _ _ _ _ hF) (va_cwU 0 hX.ts (lw_U q1147 q1148 q1149 q1109 q98 q1110) rfl rfl rfl rfl (by decide +kernel) ⟨Nat.le_of_ble_eq_true rfl, Nat.le_of_ble_eq_true rfl⟩) hF rfl rfl (Nat.le_of_ble_eq_true rfl) (by first | omega | (dsimp only; omega) | (show _ ≤ _; simp only []; omega)) (by first | omega | (dsimp only; omega) | (show _ ≤ _; simp only []; omega)) rfl dX1_thingFor_63 (fun v_63 G_63 hp_63 => ?_)
  obtain ⟨rfl, e9⟩ := hp_63
  rw [e9]
  refine jr_callF (As := [.int (nI (x.1))]) (bc1 := (5)) (bs1 := (20)) hX (met_get l D s0 b0 A _ (ad 2 0 0) (s_rg (s_m S) (fun v => ad 7 v 0)) moV capV eaV hVL (x.1) (ad 7 x.1 0) (rg_at (by omega))) (va_cwF 1 hX.ts (lw_F q299 q302 q304 q68 q306) rfl rfl rfl (hX.S.fw ⟨by decide +kernel, by decide +kernel⟩ q301 q300 q305 q303 q183) (by decide +kernel) ⟨Nat.le_of_ble_eq_true rfl, Nat.le_of_ble_eq_true rfl⟩) hVL.1 rfl rfl (Nat.le_of_ble_eq_true rfl) (by first | omega | (dsimp only; omega) | (show _ ≤ _; simp only []; omega)) (by first | omega | (dsimp only; omega) | (show _ ≤ _; simp only []; omega)) rfl dX1_thingFor_66 (fun v_66 G_66 hp_66 => ?_)
  obtain ⟨rfl, e9⟩ := hp_66
  rw [e9]
  refine jr_castS hX hVV rfl q167 dX1_thingFor_71 ?_
  refine jr_getN (ci := 4) (k := 1) hX hVV rfl in_X3 (by decide) q275 rfl dX1_thingFor_74 ?_
  refine jr_iload_n (i := 3) hX rfl rfl dX1_thingFor_77 ?_
  refine jr_bipush (v := 10) hX (by decide) dX1_thingFor_78 ?_
  refine jr_idiv hX (by decide) dX1_thingFor_80 ?_
  rw [hb1]
  refine jr_iald hX hNF (vp_in_nI hkk (by omega)) dX1_thingFor_81 ?_
  rw [nI_clamp (by omega)]
  refine jr_icmp_lt hX (tgt := 87) (by decide) dX1_thingFor_82 (fun _ => ?_) (fun z => absurd (nI_lt hfn (by omega)) z)
  refine jr_aload_n (i := 0) hX rfl rfl dX1_thingFor_87 ?_
  refine jr_get (ci := 2) (k := 1) hX (by first | assumption | exact jup_s) rfl in_X1 (by decide) q364 rfl dX1_thingFor_88 ?_
  refine jr_iload_n (i := 2) hX rfl rfl dX1_thingFor_91 ?_
  refine jr_callF (As := [.int (nI (o))]) (bc1 := (5)) (bs1 := (20)) hX (met_get l D s0 b0 A _ (ad 2 1 0) (s_rg (s_o S).length (fun v => ad 16 v 0)) moO capO eaO hOL (o) (ad 16 o 0) (rg_at (lt_ofl ht))) (va_cwF 1 hX.ts (lw_F q299 q302 q304 q68 q306) rfl rfl rfl (hX.S.fw ⟨by decide +kernel, by decide +kernel⟩ q301 q300 q305 q303 q183) (by decide +kernel) ⟨Nat.le_of_ble_eq_true rfl, Nat.le_of_ble_eq_true rfl⟩) hOL.1 rfl rfl (Nat.le_of_ble_eq_true rfl) (by first | omega | (dsimp only; omega) | (show _ ≤ _; simp only []; omega)) (by first | omega | (dsimp only; omega) | (show _ ≤ _; simp only []; omega)) rfl dX1_thingFor_92 (fun v_92 G_92 hp_92 => ?_)
  obtain ⟨rfl, e9⟩ := hp_92
  rw [e9]
  refine jr_castS hX hT rfl q1096 dX1_thingFor_97 ?_
  refine jr_astore hX (by decide) rfl dX1_thingFor_100 ?_
  refine jr_aload hX rfl dX1_thingFor_102 ?_
  refine jr_aload_n (i := 1) hX rfl rfl dX1_thingFor_104 ?_
  refine jr_callU (As := []) (bc1 := (5)) (bs1 := (20)) hX (met_version_f l D s0 b0 A _ (ad 8 i j) _ _ _ _ _ hF) (va_cwU 0 hX.ts (lw_U q1147 q1148 q1149 q1109 q98 q1110) rfl rfl rfl rfl (by decide +kernel) ⟨Nat.le_of_ble_eq_true rfl, Nat.le_of_ble_eq_true rfl⟩) hF rfl rfl (Nat.le_of_ble_eq_true rfl) (by first | omega | (dsimp only; omega) | (show _ ≤ _; simp only []; omega)) (by first | omega | (dsimp only; omega) | (show _ ≤ _; simp only []; omega)) rfl dX1_thingFor_105 (fun v_105 G_105 hp_105 => ?_)
  obtain ⟨rfl, e9⟩ := hp_105
  rw [e9]
  refine jr_aload_n (i := 0) hX rfl rfl dX1_thingFor_108 ?_
  refine jr_get (ci := 2) (k := 0) hX (by first | assumption | exact jup_s) rfl in_X1 (by decide) q363 rfl dX1_thingFor_109 ?_
  refine jr_callV (As := [.int (nI x.1), .ref (ad 2 0 0)]) (bc1 := (0)) (bs1 := (0)) hX (met_carryTo l D s0 b0 A _ S ad T hR o t ht ht2 ht1 x.1 hfx.1 hv) (cwV 2 hX.ts (lw_V q1097 q1098 q1099 q101 q1100) rfl rfl rfl (by decide +kernel) ⟨Nat.le_of_ble_eq_true rfl, Nat.le_of_ble_eq_true rfl⟩) hT rfl rfl (Nat.le_of_ble_eq_true rfl) (by first | omega | (dsimp only; omega) | (show _ ≤ _; simp only []; omega)) (by first | omega | (dsimp only; omega) | (show _ ≤ _; simp only []; omega)) rfl dX1_thingFor_112 (fun v_112 G_112 hp_112 => ?_)
  obtain ⟨rfl, adp, Tp, hp1, hp2, hp3⟩ := hp_112
  have hpost := And.intro hp1 (And.intro (hp2.wide (lo2 := 1) (hi2 := 30) (by omega) (by omega)) hp3)
  refine jr_aload hX rfl dX1_thingFor_115 ?_
  exact jr_aret hX hlk hr (Or.inl ⟨_, rfl⟩) (Or.inr ⟨_, rfl⟩) ⟨rfl, adp, Tp, hpost⟩ dX1_thingFor_117

set_option maxHeartbeats 4000000 in
set_option maxRecDepth 100000 in
theorem met_thingNo (l : Launch) (D : va_G) (s0 : State) (b0 : Nat) (A : Nat → Prop) (G : jG) (S : sSt) (ad : jN) (T : jT) (hR : jCo D s0 b0 S ad T G) (hv : sWv S) (hs : sWs S) (ho : sWo S) (i j : Nat) (x : sFr) (hi3 : i < 3) (hx : (s_s S i).2[j]? = some x) (b : Int32) (kk ff : Nat) (hb1 : b / 10 = nI kk) (hb2 : b - b / 10 * 10 = nI ff) (hkk : kk < 3) (hff : ff < 4) (num : Int32) (hno : ¬ ∃ o t, num = nI o ∧ (s_o S)[o]? = some t ∧ t.2.1 = kk ∧ ff < (s_ver S x.1).2.1 kk) : jM l yX1_thingFor (ws_ yX1_thingFor cX1_thingFor 6 (some (.object "SwapWhile$Thing"))) (jR 3 0 0) D s0 b0 A G [.ref (ad 1 0 0), .ref (ad 8 i j), .int num, .int b] (fun w G1 => w = some .null ∧ G1 = G) := by
  have hxx := co_x hR
  have hF := co_fr hR hi3 hx
  have hfx := (hs i hi3).2.2 j x hx
  have hmm : s_m S = (s_v S).length - 1 := rfl
  have hvl := hv.1
  have hvu := hv.2.1
  have hnf := (hv.2.2 x.1 (by omega)).2.1 kk hkk
  have hVV := co_ver hR (v := x.1) (by omega)
  have hNF := co_nf hR (v := x.1) (by omega)
  obtain ⟨hol, hoe⟩ := ho
  obtain ⟨moV, capV, eaV, hVL, -, hVc, -⟩ := co_vs hR
  obtain ⟨moO, capO, eaO, hOL, -, hOc, -⟩ := co_ths hR
  refine jM.of (by decide +kernel) (own := RX1) rfl (Nat.le_of_ble_eq_true rfl) ?_
  intro p e s m args below meth c hX hr hlk hnm
  refine jr_iload_n (i := 2) hX rfl rfl dX1_thingFor_0 ?_
  refine jr_iconst (v := 0) hX rfl dX1_thingFor_1 ?_
  refine jr_aload_n (i := 0) hX rfl rfl dX1_thingFor_2 ?_
  refine jr_get (ci := 2) (k := 1) hX (by first | assumption | exact jup_s) rfl in_X1 (by decide) q364 rfl dX1_thingFor_3 ?_
  refine jr_callF (As := []) (bc1 := (0)) (bs1 := (0)) hX (met_size l D s0 b0 A _ (ad 2 1 0) (s_rg (s_o S).length (fun v => ad 16 v 0)) moO capO eaO hOL) (va_cwF 0 hX.ts (lw_F q405 q408 q410 q68 q412) rfl rfl rfl (hX.S.fw ⟨by decide +kernel, by decide +kernel⟩ q407 q406 q411 q409 q183) (by decide +kernel) ⟨Nat.le_of_ble_eq_true rfl, Nat.le_of_ble_eq_true rfl⟩) hOL.1 rfl rfl (Nat.le_of_ble_eq_true rfl) (by first | omega | (dsimp only; omega) | (show _ ≤ _; simp only []; omega)) (by first | omega | (dsimp only; omega) | (show _ ≤ _; simp only []; omega)) rfl dX1_thingFor_6 (fun v_6 G_6 hp_6 => ?_)
  obtain ⟨rfl, e9⟩ := hp_6
  rw [e9, rg_len]
  refine jr_iconst (v := 1) hX rfl dX1_thingFor_11 ?_
  refine jr_isub hX dX1_thingFor_12 ?_
  refine jr_callS (As := [.int num, .int 0, .int (nI (s_o S).length - 1)]) (bc1 := (0)) (bs1 := (0)) hX (met_isIn l D s0 b0 A _ _ _ _) (va_cwS 3 hX.ts (lw_S q453 q454 q65 q455) rfl rfl rfl (by decide +kernel) ⟨Nat.le_of_ble_eq_true rfl, Nat.le_of_ble_eq_true rfl⟩) rfl (Nat.le_of_ble_eq_true rfl) (by first | omega | (dsimp only; omega) | (show _ ≤ _; simp only []; omega)) (by first | omega | (dsimp only; omega) | (show _ ≤ _; simp only []; omega)) rfl dX1_thingFor_13 (fun v_13 G_13 hp_13 => ?_)
  obtain ⟨rfl, e9⟩ := hp_13
  rw [e9]
  refine jr_if_eq hX (tgt := 46) (by decide) dX1_thingFor_16 (fun c_16 => ?_) (fun c_16 => ?_)
  · refine jr_iconst (v := 0) hX rfl dX1_thingFor_46 ?_
    refine jr_istore hX (by decide) rfl dX1_thingFor_47 ?_
    refine jr_iload hX rfl dX1_thingFor_49 ?_
    refine jr_if_eq hX (tgt := 85) (by decide) dX1_thingFor_51 (fun _ => ?_) (fun z => absurd rfl z)
    refine jr_null hX dX1_thingFor_85 ?_
    exact jr_aret hX hlk hr (Or.inl ⟨_, rfl⟩) (Or.inl rfl) ⟨rfl, rfl⟩ dX1_thingFor_86
  · have hin := of_decide_eq_true (jbz_1 c_16)
    have hl0 : 0 < (s_o S).length := Nat.pos_of_ne_zero fun z => by
      rw [z] at hin
      exact absurd (Int32.le_trans hin.1 hin.2) (by decide)
    obtain ⟨o, ho1, hno9⟩ : ∃ o, o ≤ (s_o S).length - 1 ∧ num = nI o := nI_of2 (by rw [nI_s1 hl0]; exact nI_toInt (by omega)) (Int32.not_lt.mpr hin.1) hin.2
    subst hno9
    have hno9 : nI o = nI o := rfl
    obtain ⟨t, ht⟩ : ∃ t, (s_o S)[o]? = some t := ⟨_, List.getElem?_eq_getElem (by omega)⟩
    have hT := co_th hR ht
    obtain ⟨ht1, ht2⟩ := hoe o t ht
    refine jr_aload_n (i := 0) hX rfl rfl dX1_thingFor_19 ?_
    refine jr_get (ci := 2) (k := 1) hX (by first | assumption | exact jup_s) rfl in_X1 (by decide) q364 rfl dX1_thingFor_20 ?_
    refine jr_iload_n (i := 2) hX rfl rfl dX1_thingFor_23 ?_
    refine jr_callF (As := [.int (nI (o))]) (bc1 := (0)) (bs1 := (0)) hX (met_get l D s0 b0 A _ (ad 2 1 0) (s_rg (s_o S).length (fun v => ad 16 v 0)) moO capO eaO hOL (o) (ad 16 o 0) (rg_at (lt_ofl ht))) (va_cwF 1 hX.ts (lw_F q299 q302 q304 q68 q306) rfl rfl rfl (hX.S.fw ⟨by decide +kernel, by decide +kernel⟩ q301 q300 q305 q303 q183) (by decide +kernel) ⟨Nat.le_of_ble_eq_true rfl, Nat.le_of_ble_eq_true rfl⟩) hOL.1 rfl rfl (Nat.le_of_ble_eq_true rfl) (by first | omega | (dsimp only; omega) | (show _ ≤ _; simp only []; omega)) (by first | omega | (dsimp only; omega) | (show _ ≤ _; simp only []; omega)) rfl dX1_thingFor_24 (fun v_24 G_24 hp_24 => ?_)
    obtain ⟨rfl, e9⟩ := hp_24
    rw [e9]
    refine jr_castS hX hT rfl q1096 dX1_thingFor_29 ?_
    refine jr_callV (As := []) (bc1 := (0)) (bs1 := (0)) hX (met_tkind l D s0 b0 A _ (ad 16 o 0) _ _ _ hT) (cwV 0 hX.ts (lw_V q1193 q1194 q1195 q101 q1196) rfl rfl rfl (by decide +kernel) ⟨Nat.le_of_ble_eq_true rfl, Nat.le_of_ble_eq_true rfl⟩) hT rfl rfl (Nat.le_of_ble_eq_true rfl) (by first | omega | (dsimp only; omega) | (show _ ≤ _; simp only []; omega)) (by first | omega | (dsimp only; omega) | (show _ ≤ _; simp only []; omega)) rfl dX1_thingFor_32 (fun v_32 G_32 hp_32 => ?_)
    obtain ⟨rfl, e9⟩ := hp_32
    rw [e9]
    refine jr_iload_n (i := 3) hX rfl rfl dX1_thingFor_35 ?_
    refine jr_bipush (v := 10) hX (by decide) dX1_thingFor_36 ?_
    refine jr_idiv hX (by decide) dX1_thingFor_38 ?_
    rw [hb1]
    refine jr_icmp_ne hX (tgt := 46) (by decide) dX1_thingFor_39 (fun c_39 => ?_) (fun c_39 => ?_)
    · refine jr_iconst (v := 0) hX rfl dX1_thingFor_46 ?_
      refine jr_istore hX (by decide) rfl dX1_thingFor_47 ?_
      refine jr_iload hX rfl dX1_thingFor_49 ?_
      refine jr_if_eq hX (tgt := 85) (by decide) dX1_thingFor_51 (fun _ => ?_) (fun z => absurd rfl z)
      refine jr_null hX dX1_thingFor_85 ?_
      exact jr_aret hX hlk hr (Or.inl ⟨_, rfl⟩) (Or.inl rfl) ⟨rfl, rfl⟩ dX1_thingFor_86
    · refine jr_iconst (v := 1) hX rfl dX1_thingFor_42 ?_
      refine jr_goto hX (tgt := 47) (by decide) dX1_thingFor_43 ?_
      refine jr_istore hX (by decide) rfl dX1_thingFor_47 ?_
      refine jr_iload hX rfl dX1_thingFor_49 ?_
      refine jr_if_eq hX (tgt := 85) (by decide) dX1_thingFor_51 (fun z => absurd z (by decide)) (fun _ => ?_)
      refine jr_iload_n (i := 3) hX rfl rfl dX1_thingFor_54 ?_
      refine jr_bipush (v := 10) hX (by decide) dX1_thingFor_55 ?_
      refine jr_irem hX (by decide) dX1_thingFor_57 ?_
      rw [hb2]
      refine jr_aload_n (i := 0) hX rfl rfl dX1_thingFor_58 ?_
      refine jr_get (ci := 2) (k := 0) hX (by first | assumption | exact jup_s) rfl in_X1 (by decide) q363 rfl dX1_thingFor_59 ?_
      refine jr_aload_n (i := 1) hX rfl rfl dX1_thingFor_62 ?_
      refine jr_callU (As := []) (bc1 := (0)) (bs1 := (0)) hX (met_version_f l D s0 b0 A _ (ad 8 i j) _ _ _ _ _ hF) (va_cwU 0 hX.ts (lw_U q1147 q1148 q1149 q1109 q98 q1110) rfl rfl rfl rfl (by decide +kernel) ⟨Nat.le_of_ble_eq_true rfl, Nat.le_of_ble_eq_true rfl⟩) hF rfl rfl (Nat.le_of_ble_eq_true rfl) (by first | omega | (dsimp only; omega) | (show _ ≤ _; simp only []; omega)) (by first | omega | (dsimp only; omega) | (show _ ≤ _; simp only []; omega)) rfl dX1_thingFor_63 (fun v_63 G_63 hp_63 => ?_)
      obtain ⟨rfl, e9⟩ := hp_63
      rw [e9]
      refine jr_callF (As := [.int (nI (x.1))]) (bc1 := (0)) (bs1 := (0)) hX (met_get l D s0 b0 A _ (ad 2 0 0) (s_rg (s_m S) (fun v => ad 7 v 0)) moV capV eaV hVL (x.1) (ad 7 x.1 0) (rg_at (by omega))) (va_cwF 1 hX.ts (lw_F q299 q302 q304 q68 q306) rfl rfl rfl (hX.S.fw ⟨by decide +kernel, by decide +kernel⟩ q301 q300 q305 q303 q183) (by decide +kernel) ⟨Nat.le_of_ble_eq_true rfl, Nat.le_of_ble_eq_true rfl⟩) hVL.1 rfl rfl (Nat.le_of_ble_eq_true rfl) (by first | omega | (dsimp only; omega) | (show _ ≤ _; simp only []; omega)) (by first | omega | (dsimp only; omega) | (show _ ≤ _; simp only []; omega)) rfl dX1_thingFor_66 (fun v_66 G_66 hp_66 => ?_)
      obtain ⟨rfl, e9⟩ := hp_66
      rw [e9]
      refine jr_castS hX hVV rfl q167 dX1_thingFor_71 ?_
      refine jr_getN (ci := 4) (k := 1) hX hVV rfl in_X3 (by decide) q275 rfl dX1_thingFor_74 ?_
      refine jr_iload_n (i := 3) hX rfl rfl dX1_thingFor_77 ?_
      refine jr_bipush (v := 10) hX (by decide) dX1_thingFor_78 ?_
      refine jr_idiv hX (by decide) dX1_thingFor_80 ?_
      rw [hb1]
      refine jr_iald hX hNF (vp_in_nI hkk (by omega)) dX1_thingFor_81 ?_
      rw [nI_clamp (by omega)]
      refine jr_icmp_lt hX (tgt := 87) (by decide) dX1_thingFor_82 (fun z => absurd ⟨o, t, hno9, ht, (nI_eq (by omega) (by omega)).mp c_39, (nI_ltI (by omega) (by omega)).mp z⟩ hno) (fun _ => ?_)
      refine jr_null hX dX1_thingFor_85 ?_
      exact jr_aret hX hlk hr (Or.inl ⟨_, rfl⟩) (Or.inl rfl) ⟨rfl, rfl⟩ dX1_thingFor_86
