/-! a strand's end; giving back -/
theorem sup_sup {α : Type} {f : Nat → α} {k : Nat} {x y : α} : sup (sup f k x) k y = sup f k y := by
  funext j
  by_cases e : j = k
  · subst e; rw [sup_s, sup_s]
  · rw [sup_n e, sup_n e, sup_n e]
theorem fits_nc {n : Nat} (h : n < 1000) : fits .char (.int (nI n)) = true := (by decide +kernel : ∀ n, n < 1000 → fits .char (.int (nI n)) = true) n h
def s_end (S : sSt) (i c : Nat) : sSt := sw_s S (sup (s_s S) i (c, []))
theorem co_fm {s0 : State} {b0 : Nat} {T T1 : jT} {G G1 : jG} {k i j : Nat} (hk : 0 < k ∧ k < 30) (hE : G (jEE s0 b0) = none) (h : ∀ b, G b ≠ none → T b ≠ (k, i, j) → T b ≠ (k + 100, i, j) → b ≠ jEE s0 b0 → T1 b = T b ∧ G1 b = G b) : jFm 1 30 T G T1 G1 := fun b hb hn => by
  refine h b hb (fun z => hn ?_) (fun z => hn ?_) (fun z => hb (by rw [z]; exact hE))
  · rw [z]; show 1 ≤ k % 100 ∧ k % 100 < 30; omega
  · rw [z]; show 1 ≤ (k + 100) % 100 ∧ (k + 100) % 100 < 30; omega
theorem ob_o {D : va_G} {s0 : State} {b0 : Nat} {G : jG} {y ci : Nat} {vs : List Value} {r : vw_C} (h : G y = some (jo ci vs)) (hc : jcl[ci]? = some r) (hq : Cond.castable r.1 "java/lang/Object" ∈ lw_tbl) : jOb s0 b0 D G y := Or.inl ⟨ci, vs, r, h, hc, hq⟩
theorem ob_fr {D : va_G} {s0 : State} {b0 : Nat} {S : sSt} {ad : jN} {T : jT} {G : jG} {i : Nat} (h : jCo D s0 b0 S ad T G) (hi : i < 3) : ∀ y ∈ s_rg (s_s S i).2.length (fun q => ad 8 i q), jOb s0 b0 D G y := fun y hy => by
  obtain ⟨q, hq, rfl⟩ := List.mem_map.mp hy
  exact ob_o (co_fr h hi (List.getElem?_eq_getElem (List.mem_range.mp hq))) (r := (RX13, TX13, 5)) rfl q2235

set_option maxHeartbeats 4000000 in
set_option maxRecDepth 100000 in
theorem met_slatest (l : Launch) (D : va_G) (s0 : State) (b0 : Nat) (A : Nat → Prop) (G : jG) (S : sSt) (ad : jN) (T : jT) (hR : jCo D s0 b0 S ad T G) (i : Nat) (hi3 : i < 3) (x : sFr) (hx : (s_s S i).2[(s_s S i).2.length - 1]? = some x) (hl8 : (s_s S i).2.length ≤ 8) : jM l yX2_latest (ws_ yX2_latest cX2_latest 1 (some (.object "SwapWhile$Frame"))) (jR 3 0 0) D s0 b0 A G [.ref (ad 5 i 0)] (fun w G1 => w = some (.ref (ad 8 i ((s_s S i).2.length - 1))) ∧ G1 = G) := by
  have hst := co_str hR hi3
  obtain ⟨moF, capF, eaF, hFL, -, hFc, hFt⟩ := co_frl hR hi3
  have hF := co_fr hR hi3 hx
  have hj := lt_ofl hx
  refine jM.of (by decide +kernel) (own := RX2) rfl (Nat.le_of_ble_eq_true rfl) ?_
  intro p e s m args below meth c hX hr hlk hnm
  refine jr_aload_n (i := 0) hX rfl rfl dX2_latest_0 ?_
  refine jr_get (ci := 3) (k := 0) hX (by first | assumption | exact jup_s) rfl in_X2 (by decide) q158 rfl dX2_latest_1 ?_
  refine jr_aload_n (i := 0) hX rfl rfl dX2_latest_4 ?_
  refine jr_get (ci := 3) (k := 0) hX (by first | assumption | exact jup_s) rfl in_X2 (by decide) q158 rfl dX2_latest_5 ?_
  refine jr_callF (As := []) (bc1 := (0)) (bs1 := (0)) hX (met_size l D s0 b0 A _ (ad 6 i 0) (s_rg (s_s S i).2.length (fun q => ad 8 i q)) moF capF eaF hFL) (va_cwF 0 hX.ts (lw_F q1143 q408 q410 q68 q412) rfl rfl rfl (hX.S.fw ⟨by decide +kernel, by decide +kernel⟩ q407 q406 q411 q409 q183) (by decide +kernel) ⟨Nat.le_of_ble_eq_true rfl, Nat.le_of_ble_eq_true rfl⟩) hFL.1 rfl rfl (Nat.le_of_ble_eq_true rfl) (by first | omega | (dsimp only; omega) | (show _ ≤ _; simp only []; omega)) (by first | omega | (dsimp only; omega) | (show _ ≤ _; simp only []; omega)) rfl dX2_latest_8 (fun v_8 G_8 hp_8 => ?_)
  obtain ⟨rfl, e9⟩ := hp_8
  rw [e9, rg_len]
  refine jr_iconst (v := 1) hX rfl dX2_latest_13 ?_
  refine jr_isub hX dX2_latest_14 ?_
  rw [nI_s1 (by omega)]
  refine jr_callF (As := [.int (nI ((s_s S i).2.length - 1))]) (bc1 := (0)) (bs1 := (0)) hX (met_get l D s0 b0 A _ (ad 6 i 0) (s_rg (s_s S i).2.length (fun q => ad 8 i q)) moF capF eaF hFL ((s_s S i).2.length - 1) (ad 8 i ((s_s S i).2.length - 1)) (rg_at hj)) (va_cwF 1 hX.ts (lw_F q1145 q302 q304 q68 q306) rfl rfl rfl (hX.S.fw ⟨by decide +kernel, by decide +kernel⟩ q301 q300 q305 q303 q183) (by decide +kernel) ⟨Nat.le_of_ble_eq_true rfl, Nat.le_of_ble_eq_true rfl⟩) hFL.1 rfl rfl (Nat.le_of_ble_eq_true rfl) (by first | omega | (dsimp only; omega) | (show _ ≤ _; simp only []; omega)) (by first | omega | (dsimp only; omega) | (show _ ≤ _; simp only []; omega)) rfl dX2_latest_15 (fun v_15 G_15 hp_15 => ?_)
  obtain ⟨rfl, e9⟩ := hp_15
  rw [e9]
  refine jr_castS hX hF rfl q1146 dX2_latest_20 ?_
  exact jr_aret hX hlk hr (by first | exact Or.inl ⟨_, rfl⟩ | exact Or.inr ⟨_, rfl⟩) (Or.inr ⟨_, rfl⟩) ⟨rfl, rfl⟩ dX2_latest_23

set_option maxHeartbeats 4000000 in
set_option maxRecDepth 100000 in
theorem met_send (l : Launch) (D : va_G) (s0 : State) (b0 : Nat) (A : Nat → Prop) (G : jG) (S : sSt) (ad : jN) (T : jT) (hR : jCo D s0 b0 S ad T G) (i : Nat) (hi3 : i < 3) (cc9 : Nat) (hcc : cc9 < 1000) : jM l yX2_end (ws_ yX2_end cX2_end 2 none) (jR 2 0 0) D s0 b0 A G [.ref (ad 5 i 0), .int (nI cc9)] (fun w G1 => w = none ∧ ∃ T1 : jT, jCo D s0 b0 (s_end S i cc9) ad T1 G1 ∧ jFm 1 30 T G T1 G1) := by
  have hst := co_str hR hi3
  obtain ⟨moF, capF, eaF, hFL, -, hFc, hFt⟩ := co_frl hR hi3
  have hnc := nI_nc hcc
  refine jM.of (by decide +kernel) (own := RX2) rfl (Nat.le_of_ble_eq_true rfl) ?_
  intro p e s m args below meth c hX hr hlk hnm
  refine jr_aload_n (i := 0) hX rfl rfl dX2_end_0 ?_
  refine jr_get (ci := 3) (k := 0) hX (by first | assumption | exact jup_s) rfl in_X2 (by decide) q158 rfl dX2_end_1 ?_
  refine jr_ee hX (fun hE0 => ?_)
  refine jr_callF (As := []) (bc1 := (0)) (bs1 := (0)) hX (met_clear l D s0 b0 A _ (ad 6 i 0) (s_rg (s_s S i).2.length (fun q => ad 8 i q)) moF capF eaF hFL) (va_cwF 0 hX.ts (lw_F q956 q644 q646 q68 q648) rfl rfl rfl (hX.S.fw ⟨by decide +kernel, by decide +kernel⟩ q643 q642 q647 q645 q183) (by decide +kernel) ⟨Nat.le_of_ble_eq_true rfl, Nat.le_of_ble_eq_true rfl⟩) hFL.1 rfl rfl (Nat.le_of_ble_eq_true rfl) (by first | omega | (dsimp only; omega) | (show _ ≤ _; simp only []; omega)) (by first | omega | (dsimp only; omega) | (show _ ≤ _; simp only []; omega)) rfl dX2_end_4 (fun v_4 G_4 hp_4 => ?_)
  obtain ⟨rfl, hU⟩ := hp_4
  refine jr_ee hX (fun hE1 => ?_)
  obtain ⟨T1, hR1, hfm⟩ := co_frs hR hi3 hE1 hFL hFt (fs := []) hU hFc (fun j x hx => by cases hx)
  have hst1 := co_str hR1 hi3
  refine jr_aload_n (i := 0) hX rfl rfl dX2_end_9 ?_
  refine jr_iload_n (i := 1) hX rfl rfl dX2_end_10 ?_
  refine jr_put (ci := 3) (k := 1) hX hst1 rfl in_X2 (by decide) tyX2 tyX2_ok nmX2 q160 rfl hnc (fits_nc hcc) (Nat.le_of_ble_eq_true rfl) dX2_end_11 ?_
  refine jr_vret hX hlk hr ⟨rfl, T1, ?_, ?_⟩ dX2_end_14
  · have h9 := co_wst hR1 hi3 cc9
    have e : s_st (sw_s S (sup (s_s S) i ((s_s S i).1, []))) i cc9 = s_end S i cc9 := by
      show (S.1, S.2.1, sup (sup (s_s S) i ((s_s S i).1, [])) i (cc9, (sup (s_s S) i ((s_s S i).1, []) i).2), S.2.2.2) = (S.1, S.2.1, sup (s_s S) i (cc9, []), S.2.2.2)
      rw [sup_sup, sup_s]
    rw [e] at h9
    exact h9
  · refine jFm.trans (co_fm (by omega) hE0 hfm) (jFm.put ?_)
    rw [hR1.t (k := 5) (i := i) (j := 0) (if_pos ⟨hi3, rfl⟩)]
    exact ⟨(by show 1 ≤ 5 % 100; omega), (by show 5 % 100 < 30; omega)⟩

def s_pop (S : sSt) (i : Nat) : sSt := sw_s S (sup (s_s S) i ((s_s S i).1, (s_s S i).2.eraseIdx ((s_s S i).2.length - 1)))
def s_gb (S : sSt) (i : Nat) (r : Int32) : sSt := if (s_s S i).2.length ≤ 1 then s_end S i 100 else match (s_s S i).2[(s_s S i).2.length - 1]?, (s_s S i).2[(s_s S i).2.length - 2]? with
  | some o, some x => s_lw (s_pop S i) i ((s_s S i).2.length - 2) x (upd x.2.2.2.1 o.2.2.1 r)
  | _, _ => S
theorem rg_er {n : Nat} {f : Nat → Nat} : (s_rg n f).eraseIdx (n - 1) = s_rg (n - 1) f := by
  cases n with
  | zero => rfl
  | succ k =>
    show (s_rg (k + 1) f).eraseIdx k = s_rg k f
    rw [s_rg, List.range_succ, List.map_append, List.eraseIdx_append_of_length_le (by simp), show k - (List.map f (List.range k)).length = 0 by simp]
    simp
theorem er_at {α : Type} {xs : List α} {j : Nat} {x : α} (h : (xs.eraseIdx (xs.length - 1))[j]? = some x) : xs[j]? = some x := by
  have hj := lt_ofl h
  rw [List.length_eraseIdx] at hj
  rw [List.getElem?_eraseIdx] at h
  split at h
  · exact h
  · split at hj <;> omega

set_option maxHeartbeats 4000000 in
set_option maxRecDepth 100000 in
theorem met_giveBack (l : Launch) (D : va_G) (s0 : State) (b0 : Nat) (A : Nat → Prop) (G : jG) (S : sSt) (ad : jN) (T : jT) (hR : jCo D s0 b0 S ad T G) (hs : sWs S) (i : Nat) (hi3 : i < 3) (r : Int32) (hne : 0 < (s_s S i).2.length) : jM l yX1_giveBack (ws_ yX1_giveBack cX1_giveBack 4 none) (jR 4 0 0) D s0 b0 A G [.ref (ad 1 0 0), .ref (ad 5 i 0), .int r] (fun w G1 => w = none ∧ ∃ T1 : jT, jCo D s0 b0 (s_gb S i r) ad T1 G1 ∧ jFm 1 30 T G T1 G1) := by
  have hst := co_str hR hi3
  obtain ⟨moF, capF, eaF, hFL, -, hFc, hFt⟩ := co_frl hR hi3
  obtain ⟨hs1, hs2, hs3⟩ := hs i hi3
  obtain ⟨o, ho⟩ : ∃ o, (s_s S i).2[(s_s S i).2.length - 1]? = some o := ⟨_, List.getElem?_eq_getElem (by omega)⟩
  have hO := co_fr hR hi3 ho
  have hle : ((s_s S i).2.eraseIdx ((s_s S i).2.length - 1)).length = (s_s S i).2.length - 1 := by rw [List.length_eraseIdx, if_pos (by omega)]
  refine jM.of (by decide +kernel) (own := RX1) rfl (Nat.le_of_ble_eq_true rfl) ?_
  intro p e s m args below meth c hX hr hlk hnm
  refine jr_aload_n (i := 1) hX rfl rfl dX1_giveBack_0 ?_
  refine jr_getN (ci := 3) (k := 0) hX (by first | assumption | exact jup_s) rfl in_X2 (by decide) q159 rfl dX1_giveBack_1 ?_
  refine jr_aload_n (i := 1) hX rfl rfl dX1_giveBack_4 ?_
  refine jr_getN (ci := 3) (k := 0) hX (by first | assumption | exact jup_s) rfl in_X2 (by decide) q159 rfl dX1_giveBack_5 ?_
  refine jr_callF (As := []) (bc1 := (0)) (bs1 := (0)) hX (met_size l D s0 b0 A _ (ad 6 i 0) (s_rg (s_s S i).2.length (fun q => ad 8 i q)) moF capF eaF hFL) (va_cwF 0 hX.ts (lw_F q405 q408 q410 q68 q412) rfl rfl rfl (hX.S.fw ⟨by decide +kernel, by decide +kernel⟩ q407 q406 q411 q409 q183) (by decide +kernel) ⟨Nat.le_of_ble_eq_true rfl, Nat.le_of_ble_eq_true rfl⟩) hFL.1 rfl rfl (Nat.le_of_ble_eq_true rfl) (by first | omega | (dsimp only; omega) | (show _ ≤ _; simp only []; omega)) (by first | omega | (dsimp only; omega) | (show _ ≤ _; simp only []; omega)) rfl dX1_giveBack_8 (fun v_8 G_8 hp_8 => ?_)
  obtain ⟨rfl, e9⟩ := hp_8
  rw [e9, rg_len]
  refine jr_iconst (v := 1) hX rfl dX1_giveBack_13 ?_
  refine jr_isub hX dX1_giveBack_14 ?_
  rw [nI_s1 hne]
  refine jr_ee hX (fun hE0 => ?_)
  refine jr_callF (As := [.int (nI ((s_s S i).2.length - 1))]) (bc1 := (0)) (bs1 := (0)) hX (met_remove l D s0 b0 A _ (ad 6 i 0) (s_rg (s_s S i).2.length (fun q => ad 8 i q)) moF capF eaF hFL (ob_fr hR hi3) ((s_s S i).2.length - 1) (ad 8 i ((s_s S i).2.length - 1)) (rg_at (by omega))) (va_cwF 1 hX.ts (lw_F q1061 q1064 q1066 q68 q1068) rfl rfl rfl (hX.S.fw ⟨by decide +kernel, by decide +kernel⟩ q1063 q1062 q1067 q1065 q183) (by decide +kernel) ⟨Nat.le_of_ble_eq_true rfl, Nat.le_of_ble_eq_true rfl⟩) hFL.1 rfl rfl (Nat.le_of_ble_eq_true rfl) (by first | omega | (dsimp only; omega) | (show _ ≤ _; simp only []; omega)) (by first | omega | (dsimp only; omega) | (show _ ≤ _; simp only []; omega)) rfl dX1_giveBack_15 (fun v_15 G_15 hp_15 => ?_)
  obtain ⟨rfl, hU⟩ := hp_15
  refine jr_ee hX (fun hE1 => ?_)
  rw [rg_er, ← hle] at hU
  obtain ⟨T1, hR1, hfm⟩ := co_frs hR hi3 hE1 hFL hFt (fs := (s_s S i).2.eraseIdx ((s_s S i).2.length - 1)) hU hFc (fun j x hx => Or.inl (er_at hx))
  have hO1 := (hfm _ (by rw [hO]; simp) (by rw [hR.t (k := 8) (i := i) (j := (s_s S i).2.length - 1) (s := .inl _) (by show (if i < 3 then Option.map _ ((s_s S i).2[_]?) else none) = _; rw [if_pos hi3, ho]; rfl)]; simp) (by rw [hR.t (k := 8) (i := i) (j := (s_s S i).2.length - 1) (s := .inl _) (by show (if i < 3 then Option.map _ ((s_s S i).2[_]?) else none) = _; rw [if_pos hi3, ho]; rfl)]; simp) (fun z => by rw [z, hE0] at hO; cases hO)).2.trans hO
  have hst1 := co_str hR1 hi3
  have hfm1 := co_fm (by omega) hE0 hfm
  obtain ⟨moF1, capF1, eaF1, hF1L, -, hF1c, -⟩ := co_frl hR1 hi3
  have hpl : (s_s (s_pop S i) i).2.length = (s_s S i).2.length - 1 := by rw [← hle]; show ((sup (s_s S) i _) i).2.length = _; rw [sup_s]
  refine jr_castS hX hO1 rfl q957 dX1_giveBack_20 ?_
  refine jr_astore_n (i := 3) hX rfl (by decide) rfl dX1_giveBack_23 ?_
  refine jr_aload_n (i := 1) hX rfl rfl dX1_giveBack_24 ?_
  refine jr_getN (ci := 3) (k := 0) hX hst1 rfl in_X2 (by decide) q159 rfl dX1_giveBack_25 ?_
  refine jr_callF (As := []) (bc1 := (0)) (bs1 := (0)) hX (met_isEmpty l D s0 b0 A _ (ad 6 i 0) _ moF1 capF1 eaF1 hF1L) (va_cwF 0 hX.ts (lw_F q991 q994 q996 q68 q998) rfl rfl rfl (hX.S.fw ⟨by decide +kernel, by decide +kernel⟩ q993 q992 q997 q995 q183) (by decide +kernel) ⟨Nat.le_of_ble_eq_true rfl, Nat.le_of_ble_eq_true rfl⟩) hF1L.1 rfl rfl (Nat.le_of_ble_eq_true rfl) (by first | omega | (dsimp only; omega) | (show _ ≤ _; simp only []; omega)) (by first | omega | (dsimp only; omega) | (show _ ≤ _; simp only []; omega)) rfl dX1_giveBack_28 (fun v_28 G_28 hp_28 => ?_)
  obtain ⟨rfl, e9⟩ := hp_28
  rw [e9]
  refine jr_if_eq hX (tgt := 45) (by decide) dX1_giveBack_33 (fun c_33 => ?_) (fun c_33 => ?_)
  · have hl2 : 2 ≤ (s_s S i).2.length := by
      have h9 := of_decide_eq_false (jbz_0 c_33)
      refine Nat.not_lt.mp fun z => h9 ?_
      have h8 : (s_s (s_pop S i) i).2.length = 0 := by omega
      show s_rg (s_s (s_pop S i) i).2.length _ = []
      rw [h8]; rfl
    obtain ⟨x9, hx8⟩ : ∃ x, (s_s S i).2[(s_s S i).2.length - 2]? = some x := ⟨_, List.getElem?_eq_getElem (by omega)⟩
    have hx9 : (s_s (s_pop S i) i).2[(s_s (s_pop S i) i).2.length - 1]? = some x9 := by
      rw [hpl]
      show ((sup (s_s S) i _) i).2[_]? = _
      rw [sup_s, List.getElem?_eraseIdx, if_pos (by omega), show (s_s S i).2.length - 1 - 1 = (s_s S i).2.length - 2 by omega]
      exact hx8
    have hF9 := co_fr hR1 hi3 hx9
    have hL9 := co_loc hR1 hi3 hx9
    refine jr_aload_n (i := 1) hX rfl rfl dX1_giveBack_45 ?_
    refine jr_callV (As := []) (bc1 := (0)) (bs1 := (0)) hX (met_slatest l D s0 b0 A _ (s_pop S i) ad T1 hR1 i hi3 x9 hx9 (by omega)) (cwV 0 hX.ts (lw_V q1138 q1139 q1140 q69 q1141) rfl rfl rfl (by decide +kernel) ⟨Nat.le_of_ble_eq_true rfl, Nat.le_of_ble_eq_true rfl⟩) hst1 rfl rfl (Nat.le_of_ble_eq_true rfl) (by first | omega | (dsimp only; omega) | (show _ ≤ _; simp only []; omega)) (by first | omega | (dsimp only; omega) | (show _ ≤ _; simp only []; omega)) rfl dX1_giveBack_46 (fun v_46 G_46 hp_46 => ?_)
    obtain ⟨rfl, e9⟩ := hp_46
    rw [e9]
    refine jr_getN (ci := 6) (k := 3) hX hF9 rfl in_X13 (by decide) q971 rfl dX1_giveBack_49 ?_
    refine jr_aload_n (i := 3) hX rfl rfl dX1_giveBack_52 ?_
    refine jr_getN (ci := 6) (k := 2) hX hO1 rfl in_X13 (by decide) q969 rfl dX1_giveBack_53 ?_
    refine jr_iload_n (i := 2) hX rfl rfl dX1_giveBack_56 ?_
    refine jr_iast hX hL9 (vp_in_nI (hs3 _ o ho).2.2.1 (by omega)) dX1_giveBack_57 ?_
    rw [nI_clamp (by have := (hs3 _ o ho).2.2.1; omega)]
    refine jr_vret hX hlk hr ⟨rfl, T1, ?_, hfm1.trans (jFm.put ?_)⟩ dX1_giveBack_58
    · have h9 := co_wloc hR1 hi3 hx9 (upd x9.2.2.2.1 o.2.2.1 r)
      have e : s_gb S i r = s_lw (s_pop S i) i ((s_s (s_pop S i) i).2.length - 1) x9 (upd x9.2.2.2.1 o.2.2.1 r) := by
        unfold s_gb
        rw [if_neg (by omega), ho, hx8, hpl]
        rfl
      rw [e]
      exact h9
    · rw [hR1.t (k := 9) (i := i) (j := (s_s (s_pop S i) i).2.length - 1) (s := .inl _) (by show (if i < 3 then Option.map _ ((s_s (s_pop S i) i).2[_]?) else none) = _; rw [if_pos hi3, hx9]; rfl)]
      exact ⟨(by show 1 ≤ 9 % 100; omega), (by show 9 % 100 < 30; omega)⟩
  · refine jr_aload_n (i := 1) hX rfl rfl dX1_giveBack_36 ?_
    refine jr_bipush (v := 100) hX (by decide) dX1_giveBack_37 ?_
    refine jr_callV (As := [.int 100]) (bc1 := (0)) (bs1 := (0)) hX (met_send l D s0 b0 A _ (s_pop S i) ad T1 hR1 i hi3 100 (by omega)) (cwV 1 hX.ts (lw_V q951 q952 q953 q69 q954) rfl rfl rfl (by decide +kernel) ⟨Nat.le_of_ble_eq_true rfl, Nat.le_of_ble_eq_true rfl⟩) hst1 rfl rfl (Nat.le_of_ble_eq_true rfl) (by first | omega | (dsimp only; omega) | (show _ ≤ _; simp only []; omega)) (by first | omega | (dsimp only; omega) | (show _ ≤ _; simp only []; omega)) rfl dX1_giveBack_39 (fun v_39 G_39 hp_39 => ?_)
    obtain ⟨rfl, T2, hR2, hfm2⟩ := hp_39
    refine jr_goto hX (tgt := 58) (by decide) dX1_giveBack_42 ?_
    have hl1 : (s_s S i).2.length ≤ 1 := by
      have h9 := of_decide_eq_true (jbz_1 c_33)
      have h8 := congrArg List.length h9
      rw [rg_len] at h8
      have h7 : (s_s (s_pop S i) i).2.length = 0 := h8
      omega
    refine jr_vret hX hlk hr ⟨rfl, T2, ?_, hfm1.trans hfm2⟩ dX1_giveBack_58
    have e : s_gb S i r = s_end (s_pop S i) i 100 := by
      unfold s_gb
      rw [if_pos hl1]
      show (S.1, S.2.1, sup (s_s S) i (100, []), S.2.2.2) = (S.1, S.2.1, sup (sup (s_s S) i _) i (100, []), S.2.2.2)
      rw [sup_sup]
    rw [e]
    exact hR2
