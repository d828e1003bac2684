/-! act: making, reaching -/
set_option maxHeartbeats 4000000 in
set_option maxRecDepth 100000 in
theorem met_act2 (l : Launch) (D : va_G) (s0 : State) (b0 : Nat) (A : Nat → Prop) (G : jG) (S : sSt) (ad : jN) (T : jT) (hR : jCo D s0 b0 S ad T G) (hv : sWv S) (hs : sWs S) (ho : sWo S) (i j : Nat) (x : sFr) (hi3 : i < 3) (hx : (s_s S i).2[j]? = some x) (q : Nat) (hq : q < (s_i S).length) (hcode : (s_ins S q).1 = 2) (aa kk : Nat) (haa : (s_ins S q).2.1 = nI aa) (hbb : (s_ins S q).2.2.1 = nI kk) (ha4 : aa < 4) (hkk : kk < 3) : jM l yX1_act (ws_ yX1_act cX1_act 5 none) (jR 8 3 50) D s0 b0 A G [.ref (ad 1 0 0), .ref (ad 5 i 0), .ref (ad 8 i j), .ref (ad 20 q 0)] (fun w G1 => w = none ∧ ∃ (ad1 : jN) (T1 : jT), jCo D s0 b0 (s_mk S i j x kk aa) ad1 T1 G1 ∧ jFm 1 30 T G T1 G1 ∧ ∀ k i j, ¬ ((k = 16 ∨ k = 17) ∧ i = (s_o S).length ∧ j = 0) → ad1 k i j = ad k i j) := by
  have hxx := co_x hR
  have hF := co_fr hR hi3 hx
  have hI := co_ins hR hq
  unfold jIn at hI
  rw [hcode] at hI
  refine jM.of (by decide +kernel) (own := RX1) rfl (Nat.le_of_ble_eq_true rfl) ?_
  intro p e s m args below meth c hX hr hlk hnm
  refine jr_aload_n (i := 2) hX rfl rfl dX1_act_0 ?_
  refine jr_getN (ci := 6) (k := 3) hX hF rfl in_X13 (by decide) q971 rfl dX1_act_1 ?_
  refine jr_astore hX (by decide) rfl dX1_act_4 ?_
  refine jr_aload_n (i := 3) hX rfl rfl dX1_act_6 ?_
  refine jr_getN (ci := 9) (k := 0) hX hI rfl in_X10 (by decide) q614 rfl dX1_act_7 ?_
  refine jr_ord hX (q := 2) (by omega) (by decide) dX1_act_10 ?_
  refine jr_tableIn (off := 73) (tgt := 86) hX (by decide) (by decide) rfl (by decide) dX1_act_13 ?_
  refine jr_aload_n (i := 0) hX rfl rfl dX1_act_86 ?_
  refine jr_aload_n (i := 1) hX rfl rfl dX1_act_87 ?_
  refine jr_aload_n (i := 2) hX rfl rfl dX1_act_88 ?_
  refine jr_aload_n (i := 3) hX rfl rfl dX1_act_89 ?_
  refine jr_callV (As := [.ref (ad 5 i 0), .ref (ad 8 i j), .ref (ad 20 q 0)]) (bc1 := (0)) (bs1 := (0)) hX (met_make l D s0 b0 A _ S ad T hR hv hs ho i j x hi3 hx q hq hcode aa kk haa hbb ha4 hkk) (cwV 3 hX.ts (lw_V q1167 q1169 qs25 q65 q1170) rfl rfl rfl (by decide +kernel) ⟨Nat.le_of_ble_eq_true rfl, Nat.le_of_ble_eq_true rfl⟩) hxx rfl rfl (Nat.le_of_ble_eq_true rfl) (by first | omega | (dsimp only; omega) | (show _ ≤ _; simp only []; omega)) (by first | omega | (dsimp only; omega) | (show _ ≤ _; simp only []; omega)) rfl dX1_act_90 (fun v_90 G_90 hp_90 => ?_)
  obtain ⟨rfl, hpost⟩ := hp_90
  refine jr_goto hX (tgt := 141) (by decide) dX1_act_93 ?_
  exact jr_vret hX hlk hr ⟨rfl, hpost⟩ dX1_act_141

set_option maxHeartbeats 4000000 in
set_option maxRecDepth 100000 in
theorem met_act3 (l : Launch) (D : va_G) (s0 : State) (b0 : Nat) (A : Nat → Prop) (G : jG) (S : sSt) (ad : jN) (T : jT) (hR : jCo D s0 b0 S ad T G) (hv : sWv S) (hs : sWs S) (ho : sWo S) (i j : Nat) (x : sFr) (hi3 : i < 3) (hx : (s_s S i).2[j]? = some x) (q : Nat) (hq : q < (s_i S).length) (hcode : (s_ins S q).1 = 3) (aa cy kk ff : Nat) (haa : (s_ins S q).2.1 = nI aa) (hcy : (s_ins S q).2.2.2 = nI cy) (ha4 : aa < 4) (hc4 : cy < 4) (hb1 : (s_ins S q).2.2.1 / 10 = nI kk) (hb2 : (s_ins S q).2.2.1 - (s_ins S q).2.2.1 / 10 * 10 = nI ff) (hkk : kk < 3) (hff : ff < 4) (o : Nat) (t : sTh) (hnum : x.2.2.2.1 cy = nI o) (ht : (s_o S)[o]? = some t) (hk9 : t.2.1 = kk) (hfn : ff < (s_ver S x.1).2.1 kk) : jM l yX1_act (ws_ yX1_act cX1_act 5 none) (jR 7 5 20) D s0 b0 A G [.ref (ad 1 0 0), .ref (ad 5 i 0), .ref (ad 8 i j), .ref (ad 20 q 0)] (fun w G1 => w = none ∧ ∃ (ad1 : jN) (T1 : jT), jCo D s0 b0 (s_rch S i j x (decide ((s_ins S q).1 = 3)) aa ff o) ad1 T1 G1 ∧ jFm 1 30 T G T1 G1 ∧ ∀ k i j, k ≠ 17 → ad1 k i j = ad k i j) := by
  have hxx := co_x hR
  have hF := co_fr hR hi3 hx
  have hI := co_ins hR hq
  unfold jIn at hI
  rw [hcode] at hI
  refine jM.of (by decide +kernel) (own := RX1) rfl (Nat.le_of_ble_eq_true rfl) ?_
  intro p e s m args below meth c hX hr hlk hnm
  refine jr_aload_n (i := 2) hX rfl rfl dX1_act_0 ?_
  refine jr_getN (ci := 6) (k := 3) hX hF rfl in_X13 (by decide) q971 rfl dX1_act_1 ?_
  refine jr_astore hX (by decide) rfl dX1_act_4 ?_
  refine jr_aload_n (i := 3) hX rfl rfl dX1_act_6 ?_
  refine jr_getN (ci := 9) (k := 0) hX hI rfl in_X10 (by decide) q614 rfl dX1_act_7 ?_
  refine jr_ord hX (q := 3) (by omega) (by decide) dX1_act_10 ?_
  refine jr_tableIn (off := 83) (tgt := 96) hX (by decide) (by decide) rfl (by decide) dX1_act_13 ?_
  refine jr_aload_n (i := 0) hX rfl rfl dX1_act_96 ?_
  refine jr_aload_n (i := 1) hX rfl rfl dX1_act_97 ?_
  refine jr_aload_n (i := 2) hX rfl rfl dX1_act_98 ?_
  refine jr_aload_n (i := 3) hX rfl rfl dX1_act_99 ?_
  refine jr_callV (As := [.ref (ad 5 i 0), .ref (ad 8 i j), .ref (ad 20 q 0)]) (bc1 := (0)) (bs1 := (0)) hX (met_reach l D s0 b0 A _ S ad T hR hv hs ho i j x hi3 hx q hq (Or.inl hcode) aa cy kk ff haa hcy ha4 hc4 hb1 hb2 hkk hff o t hnum ht hk9 hfn) (cwV 3 hX.ts (lw_V q1185 q1187 qs26 q65 q1188) rfl rfl rfl (by decide +kernel) ⟨Nat.le_of_ble_eq_true rfl, Nat.le_of_ble_eq_true rfl⟩) hxx rfl rfl (Nat.le_of_ble_eq_true rfl) (by first | omega | (dsimp only; omega) | (show _ ≤ _; simp only []; omega)) (by first | omega | (dsimp only; omega) | (show _ ≤ _; simp only []; omega)) rfl dX1_act_100 (fun v_100 G_100 hp_100 => ?_)
  obtain ⟨rfl, hpost⟩ := hp_100
  refine jr_goto hX (tgt := 141) (by decide) dX1_act_103 ?_
  exact jr_vret hX hlk hr ⟨rfl, hpost⟩ dX1_act_141

set_option maxHeartbeats 4000000 in
set_option maxRecDepth 100000 in
theorem met_act3No (l : Launch) (D : va_G) (s0 : State) (b0 : Nat) (A : Nat → Prop) (G : jG) (S : sSt) (ad : jN) (T : jT) (hR : jCo D s0 b0 S ad T G) (hv : sWv S) (hs : sWs S) (ho : sWo S) (i j : Nat) (x : sFr) (hi3 : i < 3) (hx : (s_s S i).2[j]? = some x) (q : Nat) (hq : q < (s_i S).length) (hcode : (s_ins S q).1 = 3) (aa cy kk ff : Nat) (haa : (s_ins S q).2.1 = nI aa) (hcy : (s_ins S q).2.2.2 = nI cy) (ha4 : aa < 4) (hc4 : cy < 4) (hb1 : (s_ins S q).2.2.1 / 10 = nI kk) (hb2 : (s_ins S q).2.2.1 - (s_ins S q).2.2.1 / 10 * 10 = nI ff) (hkk : kk < 3) (hff : ff < 4) (hno : ¬ ∃ o t, x.2.2.2.1 cy = nI o ∧ (s_o S)[o]? = some t ∧ t.2.1 = kk ∧ ff < (s_ver S x.1).2.1 kk) : jM l yX1_act (ws_ yX1_act cX1_act 5 none) (jR 5 0 0) D s0 b0 A G [.ref (ad 1 0 0), .ref (ad 5 i 0), .ref (ad 8 i j), .ref (ad 20 q 0)] (fun w G1 => w = none ∧ ∃ T1 : jT, jCo D s0 b0 (s_end S i 102) ad T1 G1 ∧ jFm 1 30 T G T1 G1) := by
  have hxx := co_x hR
  have hF := co_fr hR hi3 hx
  have hI := co_ins hR hq
  unfold jIn at hI
  rw [hcode] at hI
  refine jM.of (by decide +kernel) (own := RX1) rfl (Nat.le_of_ble_eq_true rfl) ?_
  intro p e s m args below meth c hX hr hlk hnm
  refine jr_aload_n (i := 2) hX rfl rfl dX1_act_0 ?_
  refine jr_getN (ci := 6) (k := 3) hX hF rfl in_X13 (by decide) q971 rfl dX1_act_1 ?_
  refine jr_astore hX (by decide) rfl dX1_act_4 ?_
  refine jr_aload_n (i := 3) hX rfl rfl dX1_act_6 ?_
  refine jr_getN (ci := 9) (k := 0) hX hI rfl in_X10 (by decide) q614 rfl dX1_act_7 ?_
  refine jr_ord hX (q := 3) (by omega) (by decide) dX1_act_10 ?_
  refine jr_tableIn (off := 83) (tgt := 96) hX (by decide) (by decide) rfl (by decide) dX1_act_13 ?_
  refine jr_aload_n (i := 0) hX rfl rfl dX1_act_96 ?_
  refine jr_aload_n (i := 1) hX rfl rfl dX1_act_97 ?_
  refine jr_aload_n (i := 2) hX rfl rfl dX1_act_98 ?_
  refine jr_aload_n (i := 3) hX rfl rfl dX1_act_99 ?_
  refine jr_callV (As := [.ref (ad 5 i 0), .ref (ad 8 i j), .ref (ad 20 q 0)]) (bc1 := (0)) (bs1 := (0)) hX (met_reachNo l D s0 b0 A _ S ad T hR hv hs ho i j x hi3 hx q hq (Or.inl hcode) aa cy kk ff haa hcy ha4 hc4 hb1 hb2 hkk hff hno) (cwV 3 hX.ts (lw_V q1185 q1187 qs26 q65 q1188) rfl rfl rfl (by decide +kernel) ⟨Nat.le_of_ble_eq_true rfl, Nat.le_of_ble_eq_true rfl⟩) hxx rfl rfl (Nat.le_of_ble_eq_true rfl) (by first | omega | (dsimp only; omega) | (show _ ≤ _; simp only []; omega)) (by first | omega | (dsimp only; omega) | (show _ ≤ _; simp only []; omega)) rfl dX1_act_100 (fun v_100 G_100 hp_100 => ?_)
  obtain ⟨rfl, hpost⟩ := hp_100
  refine jr_goto hX (tgt := 141) (by decide) dX1_act_103 ?_
  exact jr_vret hX hlk hr ⟨rfl, hpost⟩ dX1_act_141

set_option maxHeartbeats 4000000 in
set_option maxRecDepth 100000 in
theorem met_act4 (l : Launch) (D : va_G) (s0 : State) (b0 : Nat) (A : Nat → Prop) (G : jG) (S : sSt) (ad : jN) (T : jT) (hR : jCo D s0 b0 S ad T G) (hv : sWv S) (hs : sWs S) (ho : sWo S) (i j : Nat) (x : sFr) (hi3 : i < 3) (hx : (s_s S i).2[j]? = some x) (q : Nat) (hq : q < (s_i S).length) (hcode : (s_ins S q).1 = 4) (aa cy kk ff : Nat) (haa : (s_ins S q).2.1 = nI aa) (hcy : (s_ins S q).2.2.2 = nI cy) (ha4 : aa < 4) (hc4 : cy < 4) (hb1 : (s_ins S q).2.2.1 / 10 = nI kk) (hb2 : (s_ins S q).2.2.1 - (s_ins S q).2.2.1 / 10 * 10 = nI ff) (hkk : kk < 3) (hff : ff < 4) (o : Nat) (t : sTh) (hnum : x.2.2.2.1 cy = nI o) (ht : (s_o S)[o]? = some t) (hk9 : t.2.1 = kk) (hfn : ff < (s_ver S x.1).2.1 kk) : jM l yX1_act (ws_ yX1_act cX1_act 5 none) (jR 7 5 20) D s0 b0 A G [.ref (ad 1 0 0), .ref (ad 5 i 0), .ref (ad 8 i j), .ref (ad 20 q 0)] (fun w G1 => w = none ∧ ∃ (ad1 : jN) (T1 : jT), jCo D s0 b0 (s_rch S i j x (decide ((s_ins S q).1 = 3)) aa ff o) ad1 T1 G1 ∧ jFm 1 30 T G T1 G1 ∧ ∀ k i j, k ≠ 17 → ad1 k i j = ad k i j) := by
  have hxx := co_x hR
  have hF := co_fr hR hi3 hx
  have hI := co_ins hR hq
  unfold jIn at hI
  rw [hcode] at hI
  refine jM.of (by decide +kernel) (own := RX1) rfl (Nat.le_of_ble_eq_true rfl) ?_
  intro p e s m args below meth c hX hr hlk hnm
  refine jr_aload_n (i := 2) hX rfl rfl dX1_act_0 ?_
  refine jr_getN (ci := 6) (k := 3) hX hF rfl in_X13 (by decide) q971 rfl dX1_act_1 ?_
  refine jr_astore hX (by decide) rfl dX1_act_4 ?_
  refine jr_aload_n (i := 3) hX rfl rfl dX1_act_6 ?_
  refine jr_getN (ci := 9) (k := 0) hX hI rfl in_X10 (by decide) q614 rfl dX1_act_7 ?_
  refine jr_ord hX (q := 4) (by omega) (by decide) dX1_act_10 ?_
  refine jr_tableIn (off := 83) (tgt := 96) hX (by decide) (by decide) rfl (by decide) dX1_act_13 ?_
  refine jr_aload_n (i := 0) hX rfl rfl dX1_act_96 ?_
  refine jr_aload_n (i := 1) hX rfl rfl dX1_act_97 ?_
  refine jr_aload_n (i := 2) hX rfl rfl dX1_act_98 ?_
  refine jr_aload_n (i := 3) hX rfl rfl dX1_act_99 ?_
  refine jr_callV (As := [.ref (ad 5 i 0), .ref (ad 8 i j), .ref (ad 20 q 0)]) (bc1 := (0)) (bs1 := (0)) hX (met_reach l D s0 b0 A _ S ad T hR hv hs ho i j x hi3 hx q hq (Or.inr hcode) aa cy kk ff haa hcy ha4 hc4 hb1 hb2 hkk hff o t hnum ht hk9 hfn) (cwV 3 hX.ts (lw_V q1185 q1187 qs26 q65 q1188) rfl rfl rfl (by decide +kernel) ⟨Nat.le_of_ble_eq_true rfl, Nat.le_of_ble_eq_true rfl⟩) hxx rfl rfl (Nat.le_of_ble_eq_true rfl) (by first | omega | (dsimp only; omega) | (show _ ≤ _; simp only []; omega)) (by first | omega | (dsimp only; omega) | (show _ ≤ _; simp only []; omega)) rfl dX1_act_100 (fun v_100 G_100 hp_100 => ?_)
  obtain ⟨rfl, hpost⟩ := hp_100
  refine jr_goto hX (tgt := 141) (by decide) dX1_act_103 ?_
  exact jr_vret hX hlk hr ⟨rfl, hpost⟩ dX1_act_141

set_option maxHeartbeats 4000000 in
set_option maxRecDepth 100000 in
theorem met_act4No (l : Launch) (D : va_G) (s0 : State) (b0 : Nat) (A : Nat → Prop) (G : jG) (S : sSt) (ad : jN) (T : jT) (hR : jCo D s0 b0 S ad T G) (hv : sWv S) (hs : sWs S) (ho : sWo S) (i j : Nat) (x : sFr) (hi3 : i < 3) (hx : (s_s S i).2[j]? = some x) (q : Nat) (hq : q < (s_i S).length) (hcode : (s_ins S q).1 = 4) (aa cy kk ff : Nat) (haa : (s_ins S q).2.1 = nI aa) (hcy : (s_ins S q).2.2.2 = nI cy) (ha4 : aa < 4) (hc4 : cy < 4) (hb1 : (s_ins S q).2.2.1 / 10 = nI kk) (hb2 : (s_ins S q).2.2.1 - (s_ins S q).2.2.1 / 10 * 10 = nI ff) (hkk : kk < 3) (hff : ff < 4) (hno : ¬ ∃ o t, x.2.2.2.1 cy = nI o ∧ (s_o S)[o]? = some t ∧ t.2.1 = kk ∧ ff < (s_ver S x.1).2.1 kk) : jM l yX1_act (ws_ yX1_act cX1_act 5 none) (jR 5 0 0) D s0 b0 A G [.ref (ad 1 0 0), .ref (ad 5 i 0), .ref (ad 8 i j), .ref (ad 20 q 0)] (fun w G1 => w = none ∧ ∃ T1 : jT, jCo D s0 b0 (s_end S i 102) ad T1 G1 ∧ jFm 1 30 T G T1 G1) := by
  have hxx := co_x hR
  have hF := co_fr hR hi3 hx
  have hI := co_ins hR hq
  unfold jIn at hI
  rw [hcode] at hI
  refine jM.of (by decide +kernel) (own := RX1) rfl (Nat.le_of_ble_eq_true rfl) ?_
  intro p e s m args below meth c hX hr hlk hnm
  refine jr_aload_n (i := 2) hX rfl rfl dX1_act_0 ?_
  refine jr_getN (ci := 6) (k := 3) hX hF rfl in_X13 (by decide) q971 rfl dX1_act_1 ?_
  refine jr_astore hX (by decide) rfl dX1_act_4 ?_
  refine jr_aload_n (i := 3) hX rfl rfl dX1_act_6 ?_
  refine jr_getN (ci := 9) (k := 0) hX hI rfl in_X10 (by decide) q614 rfl dX1_act_7 ?_
  refine jr_ord hX (q := 4) (by omega) (by decide) dX1_act_10 ?_
  refine jr_tableIn (off := 83) (tgt := 96) hX (by decide) (by decide) rfl (by decide) dX1_act_13 ?_
  refine jr_aload_n (i := 0) hX rfl rfl dX1_act_96 ?_
  refine jr_aload_n (i := 1) hX rfl rfl dX1_act_97 ?_
  refine jr_aload_n (i := 2) hX rfl rfl dX1_act_98 ?_
  refine jr_aload_n (i := 3) hX rfl rfl dX1_act_99 ?_
  refine jr_callV (As := [.ref (ad 5 i 0), .ref (ad 8 i j), .ref (ad 20 q 0)]) (bc1 := (0)) (bs1 := (0)) hX (met_reachNo l D s0 b0 A _ S ad T hR hv hs ho i j x hi3 hx q hq (Or.inr hcode) aa cy kk ff haa hcy ha4 hc4 hb1 hb2 hkk hff hno) (cwV 3 hX.ts (lw_V q1185 q1187 qs26 q65 q1188) rfl rfl rfl (by decide +kernel) ⟨Nat.le_of_ble_eq_true rfl, Nat.le_of_ble_eq_true rfl⟩) hxx rfl rfl (Nat.le_of_ble_eq_true rfl) (by first | omega | (dsimp only; omega) | (show _ ≤ _; simp only []; omega)) (by first | omega | (dsimp only; omega) | (show _ ≤ _; simp only []; omega)) rfl dX1_act_100 (fun v_100 G_100 hp_100 => ?_)
  obtain ⟨rfl, hpost⟩ := hp_100
  refine jr_goto hX (tgt := 141) (by decide) dX1_act_103 ?_
  exact jr_vret hX hlk hr ⟨rfl, hpost⟩ dX1_act_141
