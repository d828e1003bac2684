/-! leading instructions -/
theorem upd_sup {f : Nat → Nat} {k x : Nat} : upd (fun q => nI (f q)) k (nI x) = fun q => nI (sup f k x q) := by
  funext q
  unfold upd sup
  split <;> rfl

set_option maxHeartbeats 4000000 in
set_option maxRecDepth 100000 in
theorem met_lead6 (l : Launch) (D : va_G) (s0 : State) (b0 : Nat) (A : Nat → Prop) (G : jG) (S : sSt) (ad : jN) (T : jT) (hR : jCo D s0 b0 S ad T G) (hs : sWs S) (i j : Nat) (x : sFr) (hi3 : i < 3) (hx : (s_s S i).2[j]? = some x) (q : Nat) (hq : q < (s_i S).length) (hcode : (s_ins S q).1 = 6) (aa : Nat) (haa : (s_ins S q).2.1 = nI aa) (ha4 : aa < 5) (bb : Nat) (hbb : (s_ins S q).2.2.1 = nI bb) (hb4 : bb < 4) (cy : Nat) (hcy : (s_ins S q).2.2.2 = nI cy) (hc4 : cy < 4) : jM l yX1_lead (ws_ yX1_lead cX1_lead 5 none) (jR 8 3 19) D s0 b0 A G [.ref (ad 1 0 0), .ref (ad 5 i 0), .ref (ad 8 i j), .ref (ad 20 q 0)] (fun w G1 => w = none ∧ ∃ (ad1 : jN) (T1 : jT), jCo D s0 b0 (s_cal S i aa (x.2.2.2.1 bb) cy) ad1 T1 G1 ∧ jFm 1 30 T G T1 G1 ∧ ∀ k i' j', ¬ ((k = 8 ∨ k = 9) ∧ i' = i ∧ j' = (s_s S i).2.length) → ad1 k i' j' = ad k i' j') := by
  have hxx := co_x hR
  have hF := co_fr hR hi3 hx
  have hLo := co_loc hR hi3 hx
  have hst := co_str hR hi3
  have hTb := co_tbl hR
  have hI : G (ad 20 q 0) = some (jo 9 [.ref (jCd s0 b0 6), .int (nI aa), .int (nI bb), .int (nI cy)]) := by
    rw [co_ins hR hq]
    unfold jIn
    rw [hcode, haa, hbb, hcy]
    rfl
  refine jM.of (by decide +kernel) (own := RX1) rfl (Nat.le_of_ble_eq_true rfl) ?_
  intro p e s m args below meth c hX hr hlk hnm
  refine jr_aload_n (i := 2) hX rfl rfl dX1_lead_0 ?_
  refine jr_getN (ci := 6) (k := 3) hX hF rfl in_X13 (by decide) q971 rfl dX1_lead_1 ?_
  refine jr_astore hX (by decide) rfl dX1_lead_4 ?_
  refine jr_aload_n (i := 3) hX rfl rfl dX1_lead_6 ?_
  refine jr_getN (ci := 9) (k := 0) hX hI rfl in_X10 (by decide) q614 rfl dX1_lead_7 ?_
  refine jr_ord hX (q := 6) (by omega) (by decide) dX1_lead_10 ?_
  refine jr_tableIn (off := 35) (tgt := 48) hX (by decide) (by decide) rfl (by decide) dX1_lead_13 ?_
  refine jr_aload_n (i := 0) hX rfl rfl dX1_lead_48 ?_
  refine jr_aload_n (i := 1) hX rfl rfl dX1_lead_49 ?_
  refine jr_aload_n (i := 3) hX rfl rfl dX1_lead_50 ?_
  refine jr_getN (ci := 9) (k := 1) hX hI rfl in_X10 (by decide) q616 rfl dX1_lead_51 ?_
  refine jr_aload hX rfl dX1_lead_54 ?_
  refine jr_aload_n (i := 3) hX rfl rfl dX1_lead_56 ?_
  refine jr_getN (ci := 9) (k := 2) hX hI rfl in_X10 (by decide) q621 rfl dX1_lead_57 ?_
  refine jr_iald hX hLo (vp_in_nI hb4 (by omega)) dX1_lead_60 ?_
  rw [nI_clamp (by omega)]
  refine jr_aload_n (i := 3) hX rfl rfl dX1_lead_61 ?_
  refine jr_getN (ci := 9) (k := 3) hX hI rfl in_X10 (by decide) q623 rfl dX1_lead_62 ?_
  refine jr_callV (As := [.ref (ad 5 i 0), .int (nI aa), .int (x.2.2.2.1 bb), .int (nI cy)]) (bc1 := (0)) (bs1 := (0)) hX (met_callC l D s0 b0 A _ S ad T hR hs i hi3 aa (x.2.2.2.1 bb) cy) (cwV 4 hX.ts (lw_V q1203 q1205 qs29 q65 q1206) rfl rfl rfl (by decide +kernel) ⟨Nat.le_of_ble_eq_true rfl, Nat.le_of_ble_eq_true rfl⟩) hxx rfl rfl (Nat.le_of_ble_eq_true rfl) (by first | omega | (dsimp only; omega) | (show _ ≤ _; simp only []; omega)) (by first | omega | (dsimp only; omega) | (show _ ≤ _; simp only []; omega)) rfl dX1_lead_65 (fun v_65 G_65 hp_65 => ?_)
  obtain ⟨rfl, hpost⟩ := hp_65
  refine jr_goto hX (tgt := 151) (by decide) dX1_lead_68 ?_
  exact jr_vret hX hlk hr ⟨rfl, hpost⟩ dX1_lead_151

set_option maxHeartbeats 4000000 in
set_option maxRecDepth 100000 in
theorem met_act6 (l : Launch) (D : va_G) (s0 : State) (b0 : Nat) (A : Nat → Prop) (G : jG) (S : sSt) (ad : jN) (T : jT) (hR : jCo D s0 b0 S ad T G) (hs : sWs S) (i j : Nat) (x : sFr) (hi3 : i < 3) (hx : (s_s S i).2[j]? = some x) (q : Nat) (hq : q < (s_i S).length) (hcode : (s_ins S q).1 = 6) (aa : Nat) (haa : (s_ins S q).2.1 = nI aa) (ha4 : aa < 5) (bb : Nat) (hbb : (s_ins S q).2.2.1 = nI bb) (hb4 : bb < 4) (cy : Nat) (hcy : (s_ins S q).2.2.2 = nI cy) (hc4 : cy < 4) : jM l yX1_act (ws_ yX1_act cX1_act 5 none) (jR 9 3 19) D s0 b0 A G [.ref (ad 1 0 0), .ref (ad 5 i 0), .ref (ad 8 i j), .ref (ad 20 q 0)] (fun w G1 => w = none ∧ ∃ (ad1 : jN) (T1 : jT), jCo D s0 b0 (s_cal S i aa (x.2.2.2.1 bb) cy) ad1 T1 G1 ∧ jFm 1 30 T G T1 G1 ∧ ∀ k i' j', ¬ ((k = 8 ∨ k = 9) ∧ i' = i ∧ j' = (s_s S i).2.length) → ad1 k i' j' = ad k i' j') := by
  have hxx := co_x hR
  have hF := co_fr hR hi3 hx
  have hLo := co_loc hR hi3 hx
  have hst := co_str hR hi3
  have hTb := co_tbl hR
  have hI : G (ad 20 q 0) = some (jo 9 [.ref (jCd s0 b0 6), .int (nI aa), .int (nI bb), .int (nI cy)]) := by
    rw [co_ins hR hq]
    unfold jIn
    rw [hcode, haa, hbb, hcy]
    rfl
  refine jM.of (by decide +kernel) (own := RX1) rfl (Nat.le_of_ble_eq_true rfl) ?_
  intro p e s m args below meth c hX hr hlk hnm
  refine jr_aload_n (i := 2) hX rfl rfl dX1_act_0 ?_
  refine jr_getN (ci := 6) (k := 3) hX hF rfl in_X13 (by decide) q971 rfl dX1_act_1 ?_
  refine jr_astore hX (by decide) rfl dX1_act_4 ?_
  refine jr_aload_n (i := 3) hX rfl rfl dX1_act_6 ?_
  refine jr_getN (ci := 9) (k := 0) hX hI rfl in_X10 (by decide) q614 rfl dX1_act_7 ?_
  refine jr_ord hX (q := 6) (by omega) (by decide) dX1_act_10 ?_
  refine jr_tableOut (tgt := 134) hX (Or.inr (by decide)) (by decide) dX1_act_13 ?_
  refine jr_aload_n (i := 0) hX rfl rfl dX1_act_134 ?_
  refine jr_aload_n (i := 1) hX rfl rfl dX1_act_135 ?_
  refine jr_aload_n (i := 2) hX rfl rfl dX1_act_136 ?_
  refine jr_aload_n (i := 3) hX rfl rfl dX1_act_137 ?_
  refine jr_callV (As := [.ref (ad 5 i 0), .ref (ad 8 i j), .ref (ad 20 q 0)]) (bc1 := (0)) (bs1 := (0)) hX (met_lead6 l D s0 b0 A _ S ad T hR hs i j x hi3 hx q hq hcode aa haa ha4 bb hbb hb4 cy hcy hc4) (cwV 3 hX.ts (lw_V q1199 q1201 qs28 q65 q1202) rfl rfl rfl (by decide +kernel) ⟨Nat.le_of_ble_eq_true rfl, Nat.le_of_ble_eq_true rfl⟩) hxx rfl rfl (Nat.le_of_ble_eq_true rfl) (by first | omega | (dsimp only; omega) | (show _ ≤ _; simp only []; omega)) (by first | omega | (dsimp only; omega) | (show _ ≤ _; simp only []; omega)) rfl dX1_act_138 (fun v_138 G_138 hp_138 => ?_)
  obtain ⟨rfl, hpost⟩ := hp_138
  exact jr_vret hX hlk hr ⟨rfl, hpost⟩ dX1_act_141

set_option maxHeartbeats 4000000 in
set_option maxRecDepth 100000 in
theorem met_lead7 (l : Launch) (D : va_G) (s0 : State) (b0 : Nat) (A : Nat → Prop) (G : jG) (S : sSt) (ad : jN) (T : jT) (hR : jCo D s0 b0 S ad T G) (hs : sWs S) (i j : Nat) (x : sFr) (hi3 : i < 3) (hx : (s_s S i).2[j]? = some x) (q : Nat) (hq : q < (s_i S).length) (hcode : (s_ins S q).1 = 7) (aa : Nat) (haa : (s_ins S q).2.1 = nI aa) (ha4 : aa < 4) (bb : Nat) (hbb : (s_ins S q).2.2.1 = nI bb) (hb4 : bb < 4) (cy : Nat) (hcy : (s_ins S q).2.2.2 = nI cy) (hc4 : cy < 4) : jM l yX1_lead (ws_ yX1_lead cX1_lead 5 none) (jR 8 3 19) D s0 b0 A G [.ref (ad 1 0 0), .ref (ad 5 i 0), .ref (ad 8 i j), .ref (ad 20 q 0)] (fun w G1 => w = none ∧ ∃ (ad1 : jN) (T1 : jT), jCo D s0 b0 (s_cal S i (s_t S aa) (x.2.2.2.1 bb) cy) ad1 T1 G1 ∧ jFm 1 30 T G T1 G1 ∧ ∀ k i' j', ¬ ((k = 8 ∨ k = 9) ∧ i' = i ∧ j' = (s_s S i).2.length) → ad1 k i' j' = ad k i' j') := by
  have hxx := co_x hR
  have hF := co_fr hR hi3 hx
  have hLo := co_loc hR hi3 hx
  have hst := co_str hR hi3
  have hTb := co_tbl hR
  have hI : G (ad 20 q 0) = some (jo 9 [.ref (jCd s0 b0 7), .int (nI aa), .int (nI bb), .int (nI cy)]) := by
    rw [co_ins hR hq]
    unfold jIn
    rw [hcode, haa, hbb, hcy]
    rfl
  refine jM.of (by decide +kernel) (own := RX1) rfl (Nat.le_of_ble_eq_true rfl) ?_
  intro p e s m args below meth c hX hr hlk hnm
  refine jr_aload_n (i := 2) hX rfl rfl dX1_lead_0 ?_
  refine jr_getN (ci := 6) (k := 3) hX hF rfl in_X13 (by decide) q971 rfl dX1_lead_1 ?_
  refine jr_astore hX (by decide) rfl dX1_lead_4 ?_
  refine jr_aload_n (i := 3) hX rfl rfl dX1_lead_6 ?_
  refine jr_getN (ci := 9) (k := 0) hX hI rfl in_X10 (by decide) q614 rfl dX1_lead_7 ?_
  refine jr_ord hX (q := 7) (by omega) (by decide) dX1_lead_10 ?_
  refine jr_tableIn (off := 58) (tgt := 71) hX (by decide) (by decide) rfl (by decide) dX1_lead_13 ?_
  refine jr_aload_n (i := 0) hX rfl rfl dX1_lead_71 ?_
  refine jr_aload_n (i := 1) hX rfl rfl dX1_lead_72 ?_
  refine jr_aload_n (i := 0) hX rfl rfl dX1_lead_73 ?_
  refine jr_get (ci := 2) (k := 6) hX hxx rfl in_X1 (by decide) q369 rfl dX1_lead_74 ?_
  refine jr_aload_n (i := 3) hX rfl rfl dX1_lead_77 ?_
  refine jr_getN (ci := 9) (k := 1) hX hI rfl in_X10 (by decide) q616 rfl dX1_lead_78 ?_
  refine jr_iald hX hTb (vp_in_nI ha4 (by omega)) dX1_lead_81 ?_
  rw [nI_clamp (by omega)]
  refine jr_aload hX rfl dX1_lead_82 ?_
  refine jr_aload_n (i := 3) hX rfl rfl dX1_lead_84 ?_
  refine jr_getN (ci := 9) (k := 2) hX hI rfl in_X10 (by decide) q621 rfl dX1_lead_85 ?_
  refine jr_iald hX hLo (vp_in_nI hb4 (by omega)) dX1_lead_88 ?_
  rw [nI_clamp (by omega)]
  refine jr_aload_n (i := 3) hX rfl rfl dX1_lead_89 ?_
  refine jr_getN (ci := 9) (k := 3) hX hI rfl in_X10 (by decide) q623 rfl dX1_lead_90 ?_
  refine jr_callV (As := [.ref (ad 5 i 0), .int (nI (s_t S aa)), .int (x.2.2.2.1 bb), .int (nI cy)]) (bc1 := (0)) (bs1 := (0)) hX (met_callC l D s0 b0 A _ S ad T hR hs i hi3 (s_t S aa) (x.2.2.2.1 bb) cy) (cwV 4 hX.ts (lw_V q1203 q1205 qs29 q65 q1206) rfl rfl rfl (by decide +kernel) ⟨Nat.le_of_ble_eq_true rfl, Nat.le_of_ble_eq_true rfl⟩) hxx rfl rfl (Nat.le_of_ble_eq_true rfl) (by first | omega | (dsimp only; omega) | (show _ ≤ _; simp only []; omega)) (by first | omega | (dsimp only; omega) | (show _ ≤ _; simp only []; omega)) rfl dX1_lead_93 (fun v_93 G_93 hp_93 => ?_)
  obtain ⟨rfl, hpost⟩ := hp_93
  refine jr_goto hX (tgt := 151) (by decide) dX1_lead_96 ?_
  exact jr_vret hX hlk hr ⟨rfl, hpost⟩ dX1_lead_151

set_option maxHeartbeats 4000000 in
set_option maxRecDepth 100000 in
theorem met_act7 (l : Launch) (D : va_G) (s0 : State) (b0 : Nat) (A : Nat → Prop) (G : jG) (S : sSt) (ad : jN) (T : jT) (hR : jCo D s0 b0 S ad T G) (hs : sWs S) (i j : Nat) (x : sFr) (hi3 : i < 3) (hx : (s_s S i).2[j]? = some x) (q : Nat) (hq : q < (s_i S).length) (hcode : (s_ins S q).1 = 7) (aa : Nat) (haa : (s_ins S q).2.1 = nI aa) (ha4 : aa < 4) (bb : Nat) (hbb : (s_ins S q).2.2.1 = nI bb) (hb4 : bb < 4) (cy : Nat) (hcy : (s_ins S q).2.2.2 = nI cy) (hc4 : cy < 4) : jM l yX1_act (ws_ yX1_act cX1_act 5 none) (jR 9 3 19) D s0 b0 A G [.ref (ad 1 0 0), .ref (ad 5 i 0), .ref (ad 8 i j), .ref (ad 20 q 0)] (fun w G1 => w = none ∧ ∃ (ad1 : jN) (T1 : jT), jCo D s0 b0 (s_cal S i (s_t S aa) (x.2.2.2.1 bb) cy) ad1 T1 G1 ∧ jFm 1 30 T G T1 G1 ∧ ∀ k i' j', ¬ ((k = 8 ∨ k = 9) ∧ i' = i ∧ j' = (s_s S i).2.length) → ad1 k i' j' = ad k i' j') := by
  have hxx := co_x hR
  have hF := co_fr hR hi3 hx
  have hLo := co_loc hR hi3 hx
  have hst := co_str hR hi3
  have hTb := co_tbl hR
  have hI : G (ad 20 q 0) = some (jo 9 [.ref (jCd s0 b0 7), .int (nI aa), .int (nI bb), .int (nI cy)]) := by
    rw [co_ins hR hq]
    unfold jIn
    rw [hcode, haa, hbb, hcy]
    rfl
  refine jM.of (by decide +kernel) (own := RX1) rfl (Nat.le_of_ble_eq_true rfl) ?_
  intro p e s m args below meth c hX hr hlk hnm
  refine jr_aload_n (i := 2) hX rfl rfl dX1_act_0 ?_
  refine jr_getN (ci := 6) (k := 3) hX hF rfl in_X13 (by decide) q971 rfl dX1_act_1 ?_
  refine jr_astore hX (by decide) rfl dX1_act_4 ?_
  refine jr_aload_n (i := 3) hX rfl rfl dX1_act_6 ?_
  refine jr_getN (ci := 9) (k := 0) hX hI rfl in_X10 (by decide) q614 rfl dX1_act_7 ?_
  refine jr_ord hX (q := 7) (by omega) (by decide) dX1_act_10 ?_
  refine jr_tableOut (tgt := 134) hX (Or.inr (by decide)) (by decide) dX1_act_13 ?_
  refine jr_aload_n (i := 0) hX rfl rfl dX1_act_134 ?_
  refine jr_aload_n (i := 1) hX rfl rfl dX1_act_135 ?_
  refine jr_aload_n (i := 2) hX rfl rfl dX1_act_136 ?_
  refine jr_aload_n (i := 3) hX rfl rfl dX1_act_137 ?_
  refine jr_callV (As := [.ref (ad 5 i 0), .ref (ad 8 i j), .ref (ad 20 q 0)]) (bc1 := (0)) (bs1 := (0)) hX (met_lead7 l D s0 b0 A _ S ad T hR hs i j x hi3 hx q hq hcode aa haa ha4 bb hbb hb4 cy hcy hc4) (cwV 3 hX.ts (lw_V q1199 q1201 qs28 q65 q1202) rfl rfl rfl (by decide +kernel) ⟨Nat.le_of_ble_eq_true rfl, Nat.le_of_ble_eq_true rfl⟩) hxx rfl rfl (Nat.le_of_ble_eq_true rfl) (by first | omega | (dsimp only; omega) | (show _ ≤ _; simp only []; omega)) (by first | omega | (dsimp only; omega) | (show _ ≤ _; simp only []; omega)) rfl dX1_act_138 (fun v_138 G_138 hp_138 => ?_)
  obtain ⟨rfl, hpost⟩ := hp_138
  exact jr_vret hX hlk hr ⟨rfl, hpost⟩ dX1_act_141

set_option maxHeartbeats 4000000 in
set_option maxRecDepth 100000 in
theorem met_lead8 (l : Launch) (D : va_G) (s0 : State) (b0 : Nat) (A : Nat → Prop) (G : jG) (S : sSt) (ad : jN) (T : jT) (hR : jCo D s0 b0 S ad T G) (i j : Nat) (x : sFr) (hi3 : i < 3) (hx : (s_s S i).2[j]? = some x) (q : Nat) (hq : q < (s_i S).length) (hcode : (s_ins S q).1 = 8) (aa : Nat) (haa : (s_ins S q).2.1 = nI aa) (ha4 : aa < 4) (bb : Nat) (hbb : (s_ins S q).2.2.1 = nI bb) (hb4 : bb < 5) : jM l yX1_lead (ws_ yX1_lead cX1_lead 5 none) (jR 1 0 0) D s0 b0 A G [.ref (ad 1 0 0), .ref (ad 5 i 0), .ref (ad 8 i j), .ref (ad 20 q 0)] (fun w G1 => w = none ∧ jCo D s0 b0 (sw_t S (sup (s_t S) aa bb)) ad T G1 ∧ jFm 1 30 T G T G1) := by
  have hxx := co_x hR
  have hF := co_fr hR hi3 hx
  have hLo := co_loc hR hi3 hx
  have hst := co_str hR hi3
  have hTb := co_tbl hR
  have hI : G (ad 20 q 0) = some (jo 9 [.ref (jCd s0 b0 8), .int (nI aa), .int (nI bb), .int (s_nc 8 (s_ins S q).2.2.2)]) := by
    rw [co_ins hR hq]
    unfold jIn
    rw [hcode, haa, hbb]
    rfl
  refine jM.of (by decide +kernel) (own := RX1) rfl (Nat.le_of_ble_eq_true rfl) ?_
  intro p e s m args below meth c hX hr hlk hnm
  refine jr_aload_n (i := 2) hX rfl rfl dX1_lead_0 ?_
  refine jr_getN (ci := 6) (k := 3) hX hF rfl in_X13 (by decide) q971 rfl dX1_lead_1 ?_
  refine jr_astore hX (by decide) rfl dX1_lead_4 ?_
  refine jr_aload_n (i := 3) hX rfl rfl dX1_lead_6 ?_
  refine jr_getN (ci := 9) (k := 0) hX hI rfl in_X10 (by decide) q614 rfl dX1_lead_7 ?_
  refine jr_ord hX (q := 8) (by omega) (by decide) dX1_lead_10 ?_
  refine jr_tableIn (off := 86) (tgt := 99) hX (by decide) (by decide) rfl (by decide) dX1_lead_13 ?_
  refine jr_aload_n (i := 0) hX rfl rfl dX1_lead_99 ?_
  refine jr_get (ci := 2) (k := 6) hX hxx rfl in_X1 (by decide) q369 rfl dX1_lead_100 ?_
  refine jr_aload_n (i := 3) hX rfl rfl dX1_lead_103 ?_
  refine jr_getN (ci := 9) (k := 1) hX hI rfl in_X10 (by decide) q616 rfl dX1_lead_104 ?_
  refine jr_aload_n (i := 3) hX rfl rfl dX1_lead_107 ?_
  refine jr_getN (ci := 9) (k := 2) hX hI rfl in_X10 (by decide) q621 rfl dX1_lead_108 ?_
  refine jr_iast hX hTb (vp_in_nI ha4 (by omega)) dX1_lead_111 ?_
  rw [nI_clamp (by omega), upd_sup]
  have hpost := And.intro (co_wtb hR (sup (s_t S) aa bb)) (show jFm 1 30 T G T (jup G (ad 4 0 0) (ji D 4 (fun q => nI (sup (s_t S) aa bb q)))) from jFm.put (by rw [hR.t (k := 4) (i := 0) (j := 0) rfl]; exact ⟨(by show 1 ≤ 4 % 100; omega), (by show 4 % 100 < 30; omega)⟩))
  refine jr_goto hX (tgt := 151) (by decide) dX1_lead_112 ?_
  exact jr_vret hX hlk hr ⟨rfl, hpost⟩ dX1_lead_151

set_option maxHeartbeats 4000000 in
set_option maxRecDepth 100000 in
theorem met_act8 (l : Launch) (D : va_G) (s0 : State) (b0 : Nat) (A : Nat → Prop) (G : jG) (S : sSt) (ad : jN) (T : jT) (hR : jCo D s0 b0 S ad T G) (i j : Nat) (x : sFr) (hi3 : i < 3) (hx : (s_s S i).2[j]? = some x) (q : Nat) (hq : q < (s_i S).length) (hcode : (s_ins S q).1 = 8) (aa : Nat) (haa : (s_ins S q).2.1 = nI aa) (ha4 : aa < 4) (bb : Nat) (hbb : (s_ins S q).2.2.1 = nI bb) (hb4 : bb < 5) : jM l yX1_act (ws_ yX1_act cX1_act 5 none) (jR 2 0 0) D s0 b0 A G [.ref (ad 1 0 0), .ref (ad 5 i 0), .ref (ad 8 i j), .ref (ad 20 q 0)] (fun w G1 => w = none ∧ jCo D s0 b0 (sw_t S (sup (s_t S) aa bb)) ad T G1 ∧ jFm 1 30 T G T G1) := by
  have hxx := co_x hR
  have hF := co_fr hR hi3 hx
  have hLo := co_loc hR hi3 hx
  have hst := co_str hR hi3
  have hTb := co_tbl hR
  have hI : G (ad 20 q 0) = some (jo 9 [.ref (jCd s0 b0 8), .int (nI aa), .int (nI bb), .int (s_nc 8 (s_ins S q).2.2.2)]) := by
    rw [co_ins hR hq]
    unfold jIn
    rw [hcode, haa, hbb]
    rfl
  refine jM.of (by decide +kernel) (own := RX1) rfl (Nat.le_of_ble_eq_true rfl) ?_
  intro p e s m args below meth c hX hr hlk hnm
  refine jr_aload_n (i := 2) hX rfl rfl dX1_act_0 ?_
  refine jr_getN (ci := 6) (k := 3) hX hF rfl in_X13 (by decide) q971 rfl dX1_act_1 ?_
  refine jr_astore hX (by decide) rfl dX1_act_4 ?_
  refine jr_aload_n (i := 3) hX rfl rfl dX1_act_6 ?_
  refine jr_getN (ci := 9) (k := 0) hX hI rfl in_X10 (by decide) q614 rfl dX1_act_7 ?_
  refine jr_ord hX (q := 8) (by omega) (by decide) dX1_act_10 ?_
  refine jr_tableOut (tgt := 134) hX (Or.inr (by decide)) (by decide) dX1_act_13 ?_
  refine jr_aload_n (i := 0) hX rfl rfl dX1_act_134 ?_
  refine jr_aload_n (i := 1) hX rfl rfl dX1_act_135 ?_
  refine jr_aload_n (i := 2) hX rfl rfl dX1_act_136 ?_
  refine jr_aload_n (i := 3) hX rfl rfl dX1_act_137 ?_
  refine jr_callV (As := [.ref (ad 5 i 0), .ref (ad 8 i j), .ref (ad 20 q 0)]) (bc1 := (0)) (bs1 := (0)) hX (met_lead8 l D s0 b0 A _ S ad T hR i j x hi3 hx q hq hcode aa haa ha4 bb hbb hb4) (cwV 3 hX.ts (lw_V q1199 q1201 qs28 q65 q1202) rfl rfl rfl (by decide +kernel) ⟨Nat.le_of_ble_eq_true rfl, Nat.le_of_ble_eq_true rfl⟩) hxx rfl rfl (Nat.le_of_ble_eq_true rfl) (by first | omega | (dsimp only; omega) | (show _ ≤ _; simp only []; omega)) (by first | omega | (dsimp only; omega) | (show _ ≤ _; simp only []; omega)) rfl dX1_act_138 (fun v_138 G_138 hp_138 => ?_)
  obtain ⟨rfl, hpost⟩ := hp_138
  exact jr_vret hX hlk hr ⟨rfl, hpost⟩ dX1_act_141

set_option maxHeartbeats 4000000 in
set_option maxRecDepth 100000 in
theorem met_lead9 (l : Launch) (D : va_G) (s0 : State) (b0 : Nat) (A : Nat → Prop) (G : jG) (S : sSt) (ad : jN) (T : jT) (hR : jCo D s0 b0 S ad T G) (hs : sWs S) (i j : Nat) (x : sFr) (hi3 : i < 3) (hx : (s_s S i).2[j]? = some x) (q : Nat) (hq : q < (s_i S).length) (hcode : (s_ins S q).1 = 9) (aa : Nat) (haa : (s_ins S q).2.1 = nI aa) (ha4 : aa < 4) (hne : 0 < (s_s S i).2.length) : jM l yX1_lead (ws_ yX1_lead cX1_lead 5 none) (jR 5 0 0) D s0 b0 A G [.ref (ad 1 0 0), .ref (ad 5 i 0), .ref (ad 8 i j), .ref (ad 20 q 0)] (fun w G1 => w = none ∧ ∃ T1 : jT, jCo D s0 b0 (s_gb S i (x.2.2.2.1 aa)) ad T1 G1 ∧ jFm 1 30 T G T1 G1) := by
  have hxx := co_x hR
  have hF := co_fr hR hi3 hx
  have hLo := co_loc hR hi3 hx
  have hst := co_str hR hi3
  have hTb := co_tbl hR
  have hI : G (ad 20 q 0) = some (jo 9 [.ref (jCd s0 b0 9), .int (nI aa), .int 0, .int (s_nc 9 (s_ins S q).2.2.2)]) := by
    rw [co_ins hR hq]
    unfold jIn
    rw [hcode, haa]
    rfl
  refine jM.of (by decide +kernel) (own := RX1) rfl (Nat.le_of_ble_eq_true rfl) ?_
  intro p e s m args below meth c hX hr hlk hnm
  refine jr_aload_n (i := 2) hX rfl rfl dX1_lead_0 ?_
  refine jr_getN (ci := 6) (k := 3) hX hF rfl in_X13 (by decide) q971 rfl dX1_lead_1 ?_
  refine jr_astore hX (by decide) rfl dX1_lead_4 ?_
  refine jr_aload_n (i := 3) hX rfl rfl dX1_lead_6 ?_
  refine jr_getN (ci := 9) (k := 0) hX hI rfl in_X10 (by decide) q614 rfl dX1_lead_7 ?_
  refine jr_ord hX (q := 9) (by omega) (by decide) dX1_lead_10 ?_
  refine jr_tableIn (off := 102) (tgt := 115) hX (by decide) (by decide) rfl (by decide) dX1_lead_13 ?_
  refine jr_aload_n (i := 0) hX rfl rfl dX1_lead_115 ?_
  refine jr_aload_n (i := 1) hX rfl rfl dX1_lead_116 ?_
  refine jr_aload hX rfl dX1_lead_117 ?_
  refine jr_aload_n (i := 3) hX rfl rfl dX1_lead_119 ?_
  refine jr_getN (ci := 9) (k := 1) hX hI rfl in_X10 (by decide) q616 rfl dX1_lead_120 ?_
  refine jr_iald hX hLo (vp_in_nI ha4 (by omega)) dX1_lead_123 ?_
  rw [nI_clamp (by omega)]
  refine jr_callV (As := [.ref (ad 5 i 0), .int (x.2.2.2.1 aa)]) (bc1 := (0)) (bs1 := (0)) hX (met_giveBack l D s0 b0 A _ S ad T hR hs i hi3 (x.2.2.2.1 aa) hne) (cwV 2 hX.ts (lw_V q1150 q1152 qs23 q65 q1153) rfl rfl rfl (by decide +kernel) ⟨Nat.le_of_ble_eq_true rfl, Nat.le_of_ble_eq_true rfl⟩) hxx rfl rfl (Nat.le_of_ble_eq_true rfl) (by first | omega | (dsimp only; omega) | (show _ ≤ _; simp only []; omega)) (by first | omega | (dsimp only; omega) | (show _ ≤ _; simp only []; omega)) rfl dX1_lead_124 (fun v_124 G_124 hp_124 => ?_)
  obtain ⟨rfl, hpost⟩ := hp_124
  refine jr_goto hX (tgt := 151) (by decide) dX1_lead_127 ?_
  exact jr_vret hX hlk hr ⟨rfl, hpost⟩ dX1_lead_151

set_option maxHeartbeats 4000000 in
set_option maxRecDepth 100000 in
theorem met_act9 (l : Launch) (D : va_G) (s0 : State) (b0 : Nat) (A : Nat → Prop) (G : jG) (S : sSt) (ad : jN) (T : jT) (hR : jCo D s0 b0 S ad T G) (hs : sWs S) (i j : Nat) (x : sFr) (hi3 : i < 3) (hx : (s_s S i).2[j]? = some x) (q : Nat) (hq : q < (s_i S).length) (hcode : (s_ins S q).1 = 9) (aa : Nat) (haa : (s_ins S q).2.1 = nI aa) (ha4 : aa < 4) (hne : 0 < (s_s S i).2.length) : jM l yX1_act (ws_ yX1_act cX1_act 5 none) (jR 6 0 0) D s0 b0 A G [.ref (ad 1 0 0), .ref (ad 5 i 0), .ref (ad 8 i j), .ref (ad 20 q 0)] (fun w G1 => w = none ∧ ∃ T1 : jT, jCo D s0 b0 (s_gb S i (x.2.2.2.1 aa)) ad T1 G1 ∧ jFm 1 30 T G T1 G1) := by
  have hxx := co_x hR
  have hF := co_fr hR hi3 hx
  have hLo := co_loc hR hi3 hx
  have hst := co_str hR hi3
  have hTb := co_tbl hR
  have hI : G (ad 20 q 0) = some (jo 9 [.ref (jCd s0 b0 9), .int (nI aa), .int 0, .int (s_nc 9 (s_ins S q).2.2.2)]) := by
    rw [co_ins hR hq]
    unfold jIn
    rw [hcode, haa]
    rfl
  refine jM.of (by decide +kernel) (own := RX1) rfl (Nat.le_of_ble_eq_true rfl) ?_
  intro p e s m args below meth c hX hr hlk hnm
  refine jr_aload_n (i := 2) hX rfl rfl dX1_act_0 ?_
  refine jr_getN (ci := 6) (k := 3) hX hF rfl in_X13 (by decide) q971 rfl dX1_act_1 ?_
  refine jr_astore hX (by decide) rfl dX1_act_4 ?_
  refine jr_aload_n (i := 3) hX rfl rfl dX1_act_6 ?_
  refine jr_getN (ci := 9) (k := 0) hX hI rfl in_X10 (by decide) q614 rfl dX1_act_7 ?_
  refine jr_ord hX (q := 9) (by omega) (by decide) dX1_act_10 ?_
  refine jr_tableOut (tgt := 134) hX (Or.inr (by decide)) (by decide) dX1_act_13 ?_
  refine jr_aload_n (i := 0) hX rfl rfl dX1_act_134 ?_
  refine jr_aload_n (i := 1) hX rfl rfl dX1_act_135 ?_
  refine jr_aload_n (i := 2) hX rfl rfl dX1_act_136 ?_
  refine jr_aload_n (i := 3) hX rfl rfl dX1_act_137 ?_
  refine jr_callV (As := [.ref (ad 5 i 0), .ref (ad 8 i j), .ref (ad 20 q 0)]) (bc1 := (0)) (bs1 := (0)) hX (met_lead9 l D s0 b0 A _ S ad T hR hs i j x hi3 hx q hq hcode aa haa ha4 hne) (cwV 3 hX.ts (lw_V q1199 q1201 qs28 q65 q1202) rfl rfl rfl (by decide +kernel) ⟨Nat.le_of_ble_eq_true rfl, Nat.le_of_ble_eq_true rfl⟩) hxx rfl rfl (Nat.le_of_ble_eq_true rfl) (by first | omega | (dsimp only; omega) | (show _ ≤ _; simp only []; omega)) (by first | omega | (dsimp only; omega) | (show _ ≤ _; simp only []; omega)) rfl dX1_act_138 (fun v_138 G_138 hp_138 => ?_)
  obtain ⟨rfl, hpost⟩ := hp_138
  exact jr_vret hX hlk hr ⟨rfl, hpost⟩ dX1_act_141

set_option maxHeartbeats 4000000 in
set_option maxRecDepth 100000 in
theorem met_lead10 (l : Launch) (D : va_G) (s0 : State) (b0 : Nat) (A : Nat → Prop) (G : jG) (S : sSt) (ad : jN) (T : jT) (hR : jCo D s0 b0 S ad T G) (i j : Nat) (x : sFr) (hi3 : i < 3) (hx : (s_s S i).2[j]? = some x) (q : Nat) (hq : q < (s_i S).length) (hcode : (s_ins S q).1 = 10) (aa : Nat) (haa : (s_ins S q).2.1 = nI aa) (ha4 : aa < 4) (hW : ∀ q ∈ s_q S, q < (s_c S).length) (hcl : (s_c S).length < 100) (hql : (s_q S).length < 100) (hpp : s_p S < 100) (hk13 : s_k S < 13000) (g mc ms : Nat) (hg : (s_u S).length = s_k S → jgw (s_k S) (s_k S + 1) ≤ g) (hmc0 : 2 ≤ mc) (hms0 : 2 + g ≤ ms) (hmc : (s_asks S (x.2.2.2.1 aa) && decide (0 < s_p S)) = true → 5 ≤ mc) (hms : (s_asks S (x.2.2.2.1 aa) && decide (0 < s_p S)) = true → 2 + g + 305 ≤ ms) : jM l yX1_lead (ws_ yX1_lead cX1_lead 5 none) (jR 9 (mc) (ms)) D s0 b0 A G [.ref (ad 1 0 0), .ref (ad 5 i 0), .ref (ad 8 i j), .ref (ad 20 q 0)] (fun w G1 => w = none ∧ ∃ (ad1 : jN) (T1 : jT), jCo D s0 b0 (s_out S x.1 (x.2.2.2.1 aa)) ad1 T1 G1 ∧ jFm 1 30 T G T1 G1 ∧ ∀ k i j, ¬ (k = 18 ∧ i = (s_c S).length ∧ j = 0) → ¬ (k = 19 ∧ i = (s_u S).length ∧ j = 0) → ad1 k i j = ad k i j) := by
  have hxx := co_x hR
  have hF := co_fr hR hi3 hx
  have hLo := co_loc hR hi3 hx
  have hst := co_str hR hi3
  have hTb := co_tbl hR
  have hI : G (ad 20 q 0) = some (jo 9 [.ref (jCd s0 b0 10), .int (nI aa), .int 0, .int (s_nc 10 (s_ins S q).2.2.2)]) := by
    rw [co_ins hR hq]
    unfold jIn
    rw [hcode, haa]
    rfl
  refine jM.of (by decide +kernel) (own := RX1) rfl (Nat.le_of_ble_eq_true rfl) ?_
  intro p e s m args below meth c hX hr hlk hnm
  refine jr_aload_n (i := 2) hX rfl rfl dX1_lead_0 ?_
  refine jr_getN (ci := 6) (k := 3) hX hF rfl in_X13 (by decide) q971 rfl dX1_lead_1 ?_
  refine jr_astore hX (by decide) rfl dX1_lead_4 ?_
  refine jr_aload_n (i := 3) hX rfl rfl dX1_lead_6 ?_
  refine jr_getN (ci := 9) (k := 0) hX hI rfl in_X10 (by decide) q614 rfl dX1_lead_7 ?_
  refine jr_ord hX (q := 10) (by omega) (by decide) dX1_lead_10 ?_
  refine jr_tableIn (off := 117) (tgt := 130) hX (by decide) (by decide) rfl (by decide) dX1_lead_13 ?_
  refine jr_aload_n (i := 0) hX rfl rfl dX1_lead_130 ?_
  refine jr_aload_n (i := 2) hX rfl rfl dX1_lead_131 ?_
  refine jr_aload hX rfl dX1_lead_132 ?_
  refine jr_aload_n (i := 3) hX rfl rfl dX1_lead_134 ?_
  refine jr_getN (ci := 9) (k := 1) hX hI rfl in_X10 (by decide) q616 rfl dX1_lead_135 ?_
  refine jr_iald hX hLo (vp_in_nI ha4 (by omega)) dX1_lead_138 ?_
  rw [nI_clamp (by omega)]
  refine jr_callV (As := [.ref (ad 8 i j), .int (x.2.2.2.1 aa)]) (bc1 := (0)) (bs1 := (0)) hX (met_putOut l D s0 b0 A _ S ad T hR hW hcl hql hpp i j x hi3 hx (x.2.2.2.1 aa) hk13 g mc ms hg hmc0 hms0 hmc hms) (cwV 2 hX.ts (lw_V q1207 q1209 qs30 q65 q1210) rfl rfl rfl (by decide +kernel) ⟨Nat.le_of_ble_eq_true rfl, Nat.le_of_ble_eq_true rfl⟩) hxx rfl rfl (Nat.le_of_ble_eq_true rfl) (by show 0 + mc ≤ mc; omega) (by show 0 + ms ≤ ms; omega) rfl dX1_lead_139 (fun v_139 G_139 hp_139 => ?_)
  obtain ⟨rfl, hpost⟩ := hp_139
  refine jr_goto hX (tgt := 151) (by decide) dX1_lead_142 ?_
  exact jr_vret hX hlk hr ⟨rfl, hpost⟩ dX1_lead_151

set_option maxHeartbeats 4000000 in
set_option maxRecDepth 100000 in
theorem met_act10 (l : Launch) (D : va_G) (s0 : State) (b0 : Nat) (A : Nat → Prop) (G : jG) (S : sSt) (ad : jN) (T : jT) (hR : jCo D s0 b0 S ad T G) (i j : Nat) (x : sFr) (hi3 : i < 3) (hx : (s_s S i).2[j]? = some x) (q : Nat) (hq : q < (s_i S).length) (hcode : (s_ins S q).1 = 10) (aa : Nat) (haa : (s_ins S q).2.1 = nI aa) (ha4 : aa < 4) (hW : ∀ q ∈ s_q S, q < (s_c S).length) (hcl : (s_c S).length < 100) (hql : (s_q S).length < 100) (hpp : s_p S < 100) (hk13 : s_k S < 13000) (g mc ms : Nat) (hg : (s_u S).length = s_k S → jgw (s_k S) (s_k S + 1) ≤ g) (hmc0 : 2 ≤ mc) (hms0 : 2 + g ≤ ms) (hmc : (s_asks S (x.2.2.2.1 aa) && decide (0 < s_p S)) = true → 5 ≤ mc) (hms : (s_asks S (x.2.2.2.1 aa) && decide (0 < s_p S)) = true → 2 + g + 305 ≤ ms) : jM l yX1_act (ws_ yX1_act cX1_act 5 none) (jR 10 (mc) (ms)) D s0 b0 A G [.ref (ad 1 0 0), .ref (ad 5 i 0), .ref (ad 8 i j), .ref (ad 20 q 0)] (fun w G1 => w = none ∧ ∃ (ad1 : jN) (T1 : jT), jCo D s0 b0 (s_out S x.1 (x.2.2.2.1 aa)) ad1 T1 G1 ∧ jFm 1 30 T G T1 G1 ∧ ∀ k i j, ¬ (k = 18 ∧ i = (s_c S).length ∧ j = 0) → ¬ (k = 19 ∧ i = (s_u S).length ∧ j = 0) → ad1 k i j = ad k i j) := by
  have hxx := co_x hR
  have hF := co_fr hR hi3 hx
  have hLo := co_loc hR hi3 hx
  have hst := co_str hR hi3
  have hTb := co_tbl hR
  have hI : G (ad 20 q 0) = some (jo 9 [.ref (jCd s0 b0 10), .int (nI aa), .int 0, .int (s_nc 10 (s_ins S q).2.2.2)]) := by
    rw [co_ins hR hq]
    unfold jIn
    rw [hcode, haa]
    rfl
  refine jM.of (by decide +kernel) (own := RX1) rfl (Nat.le_of_ble_eq_true rfl) ?_
  intro p e s m args below meth c hX hr hlk hnm
  refine jr_aload_n (i := 2) hX rfl rfl dX1_act_0 ?_
  refine jr_getN (ci := 6) (k := 3) hX hF rfl in_X13 (by decide) q971 rfl dX1_act_1 ?_
  refine jr_astore hX (by decide) rfl dX1_act_4 ?_
  refine jr_aload_n (i := 3) hX rfl rfl dX1_act_6 ?_
  refine jr_getN (ci := 9) (k := 0) hX hI rfl in_X10 (by decide) q614 rfl dX1_act_7 ?_
  refine jr_ord hX (q := 10) (by omega) (by decide) dX1_act_10 ?_
  refine jr_tableOut (tgt := 134) hX (Or.inr (by decide)) (by decide) dX1_act_13 ?_
  refine jr_aload_n (i := 0) hX rfl rfl dX1_act_134 ?_
  refine jr_aload_n (i := 1) hX rfl rfl dX1_act_135 ?_
  refine jr_aload_n (i := 2) hX rfl rfl dX1_act_136 ?_
  refine jr_aload_n (i := 3) hX rfl rfl dX1_act_137 ?_
  refine jr_callV (As := [.ref (ad 5 i 0), .ref (ad 8 i j), .ref (ad 20 q 0)]) (bc1 := (0)) (bs1 := (0)) hX (met_lead10 l D s0 b0 A _ S ad T hR i j x hi3 hx q hq hcode aa haa ha4 hW hcl hql hpp hk13 g mc ms hg hmc0 hms0 hmc hms) (cwV 3 hX.ts (lw_V q1199 q1201 qs28 q65 q1202) rfl rfl rfl (by decide +kernel) ⟨Nat.le_of_ble_eq_true rfl, Nat.le_of_ble_eq_true rfl⟩) hxx rfl rfl (Nat.le_of_ble_eq_true rfl) (by show 0 + mc ≤ mc; omega) (by show 0 + ms ≤ ms; omega) rfl dX1_act_138 (fun v_138 G_138 hp_138 => ?_)
  obtain ⟨rfl, hpost⟩ := hp_138
  exact jr_vret hX hlk hr ⟨rfl, hpost⟩ dX1_act_141

set_option maxHeartbeats 4000000 in
set_option maxRecDepth 100000 in
theorem met_lead11 (l : Launch) (D : va_G) (s0 : State) (b0 : Nat) (A : Nat → Prop) (G : jG) (S : sSt) (ad : jN) (T : jT) (hR : jCo D s0 b0 S ad T G) (i j : Nat) (x : sFr) (hi3 : i < 3) (hx : (s_s S i).2[j]? = some x) (q : Nat) (hq : q < (s_i S).length) (hcode : (s_ins S q).1 = 11) : jM l yX1_lead (ws_ yX1_lead cX1_lead 5 none) (jR 1 0 0) D s0 b0 A G [.ref (ad 1 0 0), .ref (ad 5 i 0), .ref (ad 8 i j), .ref (ad 20 q 0)] (fun w G1 => w = none ∧ jCo D s0 b0 (s_st S i 119) ad T G1 ∧ jFm 1 30 T G T G1) := by
  have hxx := co_x hR
  have hF := co_fr hR hi3 hx
  have hLo := co_loc hR hi3 hx
  have hst := co_str hR hi3
  have hTb := co_tbl hR
  have hI : G (ad 20 q 0) = some (jo 9 [.ref (jCd s0 b0 11), .int (s_ins S q).2.1, .int (s_nb 11 (s_ins S q).2.2.1), .int (s_nc 11 (s_ins S q).2.2.2)]) := by
    rw [co_ins hR hq]
    unfold jIn
    rw [hcode]
  refine jM.of (by decide +kernel) (own := RX1) rfl (Nat.le_of_ble_eq_true rfl) ?_
  intro p e s m args below meth c hX hr hlk hnm
  refine jr_aload_n (i := 2) hX rfl rfl dX1_lead_0 ?_
  refine jr_getN (ci := 6) (k := 3) hX hF rfl in_X13 (by decide) q971 rfl dX1_lead_1 ?_
  refine jr_astore hX (by decide) rfl dX1_lead_4 ?_
  refine jr_aload_n (i := 3) hX rfl rfl dX1_lead_6 ?_
  refine jr_getN (ci := 9) (k := 0) hX hI rfl in_X10 (by decide) q614 rfl dX1_lead_7 ?_
  refine jr_ord hX (q := 11) (by omega) (by decide) dX1_lead_10 ?_
  refine jr_tableOut (tgt := 145) hX (Or.inr (by decide)) (by decide) dX1_lead_13 ?_
  refine jr_aload_n (i := 1) hX rfl rfl dX1_lead_145 ?_
  refine jr_bipush (v := 119) hX (by decide) dX1_lead_146 ?_
  refine jr_putN (ci := 3) (k := 1) hX hst rfl in_X2 (by decide) tyX2 tyX2_ok nmX2 q161 rfl (by first | rfl | assumption) (by first | rfl | assumption) (Nat.le_of_ble_eq_true rfl) dX1_lead_148 ?_
  have hpost := And.intro (co_wst hR hi3 119) (show jFm 1 30 T G T (jup G (ad 5 i 0) (jo 3 [.ref (ad 6 i 0), .int (nI 119)])) from jFm.put (by rw [hR.t (k := 5) (i := i) (j := 0) (if_pos ⟨hi3, rfl⟩)]; exact ⟨(by show 1 ≤ 5 % 100; omega), (by show 5 % 100 < 30; omega)⟩))
  exact jr_vret hX hlk hr ⟨rfl, hpost⟩ dX1_lead_151

set_option maxHeartbeats 4000000 in
set_option maxRecDepth 100000 in
theorem met_act11 (l : Launch) (D : va_G) (s0 : State) (b0 : Nat) (A : Nat → Prop) (G : jG) (S : sSt) (ad : jN) (T : jT) (hR : jCo D s0 b0 S ad T G) (i j : Nat) (x : sFr) (hi3 : i < 3) (hx : (s_s S i).2[j]? = some x) (q : Nat) (hq : q < (s_i S).length) (hcode : (s_ins S q).1 = 11) : jM l yX1_act (ws_ yX1_act cX1_act 5 none) (jR 2 0 0) D s0 b0 A G [.ref (ad 1 0 0), .ref (ad 5 i 0), .ref (ad 8 i j), .ref (ad 20 q 0)] (fun w G1 => w = none ∧ jCo D s0 b0 (s_st S i 119) ad T G1 ∧ jFm 1 30 T G T G1) := by
  have hxx := co_x hR
  have hF := co_fr hR hi3 hx
  have hLo := co_loc hR hi3 hx
  have hst := co_str hR hi3
  have hTb := co_tbl hR
  have hI : G (ad 20 q 0) = some (jo 9 [.ref (jCd s0 b0 11), .int (s_ins S q).2.1, .int (s_nb 11 (s_ins S q).2.2.1), .int (s_nc 11 (s_ins S q).2.2.2)]) := by
    rw [co_ins hR hq]
    unfold jIn
    rw [hcode]
  refine jM.of (by decide +kernel) (own := RX1) rfl (Nat.le_of_ble_eq_true rfl) ?_
  intro p e s m args below meth c hX hr hlk hnm
  refine jr_aload_n (i := 2) hX rfl rfl dX1_act_0 ?_
  refine jr_getN (ci := 6) (k := 3) hX hF rfl in_X13 (by decide) q971 rfl dX1_act_1 ?_
  refine jr_astore hX (by decide) rfl dX1_act_4 ?_
  refine jr_aload_n (i := 3) hX rfl rfl dX1_act_6 ?_
  refine jr_getN (ci := 9) (k := 0) hX hI rfl in_X10 (by decide) q614 rfl dX1_act_7 ?_
  refine jr_ord hX (q := 11) (by omega) (by decide) dX1_act_10 ?_
  refine jr_tableOut (tgt := 134) hX (Or.inr (by decide)) (by decide) dX1_act_13 ?_
  refine jr_aload_n (i := 0) hX rfl rfl dX1_act_134 ?_
  refine jr_aload_n (i := 1) hX rfl rfl dX1_act_135 ?_
  refine jr_aload_n (i := 2) hX rfl rfl dX1_act_136 ?_
  refine jr_aload_n (i := 3) hX rfl rfl dX1_act_137 ?_
  refine jr_callV (As := [.ref (ad 5 i 0), .ref (ad 8 i j), .ref (ad 20 q 0)]) (bc1 := (0)) (bs1 := (0)) hX (met_lead11 l D s0 b0 A _ S ad T hR i j x hi3 hx q hq hcode) (cwV 3 hX.ts (lw_V q1199 q1201 qs28 q65 q1202) rfl rfl rfl (by decide +kernel) ⟨Nat.le_of_ble_eq_true rfl, Nat.le_of_ble_eq_true rfl⟩) hxx rfl rfl (Nat.le_of_ble_eq_true rfl) (by first | omega | (dsimp only; omega) | (show _ ≤ _; simp only []; omega)) (by first | omega | (dsimp only; omega) | (show _ ≤ _; simp only []; omega)) rfl dX1_act_138 (fun v_138 G_138 hp_138 => ?_)
  obtain ⟨rfl, hpost⟩ := hp_138
  exact jr_vret hX hlk hr ⟨rfl, hpost⟩ dX1_act_141
