/-! reaching into a thing -/
theorem co_wtf {D : va_G} {s0 : State} {b0 : Nat} {S : sSt} {ad : jN} {T : jT} {G : jG} {o : Nat} {t : sTh} (h : jCo D s0 b0 S ad T G) (ht : (s_o S)[o]? = some t) (fl : Nat → Int32) : jCo D s0 b0 (sw_o S ((s_o S).set o (t.1, t.2.1, fl))) ad T (jup G (ad 17 o 0) (ji D ((s_ver S t.1).2.1 t.2.1) fl)) := by
  have hol : o < (s_o S).length := lt_ofl ht
  refine jRep.put h (k := 17) (i := o) (j := 0) (s0' := .inl (ji D ((s_ver S t.1).2.1 t.2.1) t.2.2)) (by
    show (if 0 = 0 then Option.map _ ((s_o S)[o]?) else none) = _
    rw [if_pos rfl, ht]; rfl) (fun s hs => ?_) (fun k' i' j' s hne hs => Or.inl ?_)
  · have hs' : (if 0 = 0 then Option.map (fun t9 : sTh => (Sum.inl (ji D ((s_ver S t9.1).2.1 t9.2.1) t9.2.2) : jSh)) (((s_o S).set o (t.1, t.2.1, fl))[o]?) else none) = some s := hs
    rw [if_pos rfl, List.getElem?_set_self hol] at hs'
    exact (Option.some.inj hs').symm
  · rw [← hs]
    by_cases h16 : k' = 16
    · subst h16
      show (if j' = 0 then Option.map (fun t9 : sTh => (Sum.inl (jo 7 [.int (nI t9.1), .int (nI t9.2.1), .ref (ad 17 i' 0)]) : jSh)) ((s_o S)[i']?) else none) = (if j' = 0 then Option.map (fun t9 : sTh => (Sum.inl (jo 7 [.int (nI t9.1), .int (nI t9.2.1), .ref (ad 17 i' 0)]) : jSh)) (((s_o S).set o (t.1, t.2.1, fl))[i']?) else none)
      by_cases e : o = i'
      · subst e
        rw [List.getElem?_set_self hol, ht]; rfl
      · rw [List.getElem?_set_ne e]
    by_cases h17 : k' = 17
    · subst h17
      show (if j' = 0 then Option.map (fun t9 : sTh => (Sum.inl (ji D ((s_ver S t9.1).2.1 t9.2.1) t9.2.2) : jSh)) ((s_o S)[i']?) else none) = (if j' = 0 then Option.map (fun t9 : sTh => (Sum.inl (ji D ((s_ver S t9.1).2.1 t9.2.1) t9.2.2) : jSh)) (((s_o S).set o (t.1, t.2.1, fl))[i']?) else none)
      by_cases hj : j' = 0
      · have e : o ≠ i' := fun z => hne ⟨rfl, z.symm, hj⟩
        rw [List.getElem?_set_ne e]
      · rw [if_neg hj, if_neg hj]
    by_cases h2 : k' = 2
    · subst h2
      rcases i' with _ | _ | _ | _ | _ | i'
      · rfl
      · show (if j' = 0 then some (Sum.inr (s_rg (s_o S).length (fun v => ad 16 v 0), 0, 200) : jSh) else none) = (if j' = 0 then some (Sum.inr (s_rg ((s_o S).set o (t.1, t.2.1, fl)).length (fun v => ad 16 v 0), 0, 200) : jSh) else none)
        rw [List.length_set]
      · rfl
      · rfl
      · rfl
      · rfl
    exact (shC_o h2 h16 h17).symm
/-- what an instruction that gets or sets does with thing o -/
def s_rch (S : sSt) (i j : Nat) (x : sFr) (get : Bool) (aa ff o : Nat) : sSt := match (s_o (s_cto S o x.1))[o]? with
  | some t1 => if get = true then s_lw (s_cto S o x.1) i j x (upd x.2.2.2.1 aa (t1.2.2 ff)) else sw_o (s_cto S o x.1) ((s_o (s_cto S o x.1)).set o (t1.1, t1.2.1, upd t1.2.2 ff (x.2.2.2.1 aa)))
  | none => S

set_option maxHeartbeats 4000000 in
set_option maxRecDepth 100000 in
theorem met_reach (l : Launch) (D : va_G) (s0 : State) (b0 : Nat) (A : Nat → Prop) (G : jG) (S : sSt) (ad : jN) (T : jT) (hR : jCo D s0 b0 S ad T G) (hv : sWv S) (hs : sWs S) (ho : sWo S) (i j : Nat) (x : sFr) (hi3 : i < 3) (hx : (s_s S i).2[j]? = some x) (q : Nat) (hq : q < (s_i S).length) (hcode : (s_ins S q).1 = 3 ∨ (s_ins S q).1 = 4) (aa cy kk ff : Nat) (haa : (s_ins S q).2.1 = nI aa) (hcy : (s_ins S q).2.2.2 = nI cy) (ha4 : aa < 4) (hc4 : cy < 4) (hb1 : (s_ins S q).2.2.1 / 10 = nI kk) (hb2 : (s_ins S q).2.2.1 - (s_ins S q).2.2.1 / 10 * 10 = nI ff) (hkk : kk < 3) (hff : ff < 4) (o : Nat) (t : sTh) (hnum : x.2.2.2.1 cy = nI o) (ht : (s_o S)[o]? = some t) (hk9 : t.2.1 = kk) (hfn : ff < (s_ver S x.1).2.1 kk) : jM l yX1_reach (ws_ yX1_reach cX1_reach 5 none) (jR 6 5 20) D s0 b0 A G [.ref (ad 1 0 0), .ref (ad 5 i 0), .ref (ad 8 i j), .ref (ad 20 q 0)] (fun w G1 => w = none ∧ ∃ (ad1 : jN) (T1 : jT), jCo D s0 b0 (s_rch S i j x (decide ((s_ins S q).1 = 3)) aa ff o) ad1 T1 G1 ∧ jFm 1 30 T G T1 G1 ∧ ∀ k i j, k ≠ 17 → ad1 k i j = ad k i j) := by
  have hxx := co_x hR
  have hF := co_fr hR hi3 hx
  have hLo := co_loc hR hi3 hx
  have hmm : s_m S = (s_v S).length - 1 := rfl
  have hfx := (hs i hi3).2.2 j x hx
  have hst := co_str hR hi3
  have hI : G (ad 20 q 0) = some (jo 9 [.ref (jCd s0 b0 (s_ins S q).1), .int (nI aa), .int (s_ins S q).2.2.1, .int (nI cy)]) := by
    rw [co_ins hR hq]
    unfold jIn
    rw [haa, hcy, show s_nb (s_ins S q).1 (s_ins S q).2.2.1 = (s_ins S q).2.2.1 by unfold s_nb; rw [if_neg (by omega)], show s_nc (s_ins S q).1 (nI cy) = nI cy by unfold s_nc; rw [if_pos (by omega)]]
  refine jM.of (by decide +kernel) (own := RX1) rfl (Nat.le_of_ble_eq_true rfl) ?_
  intro p e s m args below meth c hX hr hlk hnm
  refine jr_aload_n (i := 0) hX rfl rfl dX1_reach_0 ?_
  refine jr_aload_n (i := 2) hX rfl rfl dX1_reach_1 ?_
  refine jr_aload_n (i := 2) hX rfl rfl dX1_reach_2 ?_
  refine jr_getN (ci := 6) (k := 3) hX hF rfl in_X13 (by decide) q971 rfl dX1_reach_3 ?_
  refine jr_aload_n (i := 3) hX rfl rfl dX1_reach_6 ?_
  refine jr_getN (ci := 9) (k := 3) hX hI rfl in_X10 (by decide) q623 rfl dX1_reach_7 ?_
  refine jr_iald hX hLo (vp_in_nI hc4 (by omega)) dX1_reach_10 ?_
  rw [nI_clamp (by omega), hnum]
  refine jr_aload_n (i := 3) hX rfl rfl dX1_reach_11 ?_
  refine jr_getN (ci := 9) (k := 2) hX hI rfl in_X10 (by decide) q621 rfl dX1_reach_12 ?_
  refine jr_callV (As := [.ref (ad 8 i j), .int (nI o), .int (s_ins S q).2.2.1]) (bc1 := (0)) (bs1 := (0)) hX (met_thingFor l D s0 b0 A _ S ad T hR hv hs ho i j x hi3 hx (s_ins S q).2.2.1 kk ff hb1 hb2 hkk hff o t ht hk9 hfn) (cwV 3 hX.ts (lw_V q1189 q1191 qs27 q65 q1192) rfl rfl rfl (by decide +kernel) ⟨Nat.le_of_ble_eq_true rfl, Nat.le_of_ble_eq_true rfl⟩) hxx rfl rfl (Nat.le_of_ble_eq_true rfl) (by first | omega | (dsimp only; omega) | (show _ ≤ _; simp only []; omega)) (by first | omega | (dsimp only; omega) | (show _ ≤ _; simp only []; omega)) rfl dX1_reach_15 (fun v_15 G_15 hp_15 => ?_)
  obtain ⟨rfl, ad1, T1, hR1, hfm, h4⟩ := hp_15
  have ht1o : (s_o (s_cto S o x.1))[o]? = some (x.1, t.2.1, s_car S t.2.1 t.1 x.1 t.2.2) := by
    rw [s_cto_e ht]; exact List.getElem?_set_self (lt_ofl ht)
  have hver : s_v (s_cto S o x.1) = s_v S := by rw [s_cto_e ht]
  have hstr : s_s (s_cto S o x.1) = s_s S := by rw [s_cto_e ht]
  have hx1 : (s_s (s_cto S o x.1) i).2[j]? = some x := by rw [hstr]; exact hx
  have hF1 := co_fr hR1 hi3 hx1
  have hL1 := co_loc hR1 hi3 hx1
  have hT1 := co_th hR1 ht1o
  have hTF := co_thf hR1 ht1o
  have hI1 : G_15 (ad 20 q 0) = some (jo 9 [.ref (jCd s0 b0 (s_ins S q).1), .int (nI aa), .int (s_ins S q).2.2.1, .int (nI cy)]) := by
    have e : s_i (s_cto S o x.1) = s_i S := by rw [s_cto_e ht]
    have h9 := co_ins hR1 (q := q) (by rw [e]; exact hq)
    rw [h4 20 q 0 (by omega), show s_ins (s_cto S o x.1) q = s_ins S q by unfold s_ins; rw [e]] at h9
    rw [h9]
    unfold jIn
    rw [haa, hcy, show s_nb (s_ins S q).1 (s_ins S q).2.2.1 = (s_ins S q).2.2.1 by unfold s_nb; rw [if_neg (by omega)], show s_nc (s_ins S q).1 (nI cy) = nI cy by unfold s_nc; rw [if_pos (by omega)]]
  have hnfe : (s_ver (s_cto S o x.1) x.1).2.1 t.2.1 = (s_ver S x.1).2.1 t.2.1 := by unfold s_ver; rw [hver]
  have hnf4 := ((hv.2.2 x.1 (by have := hv.1; omega)).2.1 kk hkk).2
  rw [h4 8 i j (by omega), h4 9 i j (by omega)] at hF1
  rw [h4 9 i j (by omega)] at hL1
  rw [h4 16 o 0 (by omega)] at hT1
  dsimp only at hT1 hTF
  rw [hnfe] at hTF
  refine jr_astore hX (by decide) rfl dX1_reach_18 ?_
  refine jr_aload hX rfl dX1_reach_20 ?_
  refine jr_ifnonnull hX (tgt := 34) (by decide) dX1_reach_22 ?_
  refine jr_aload_n (i := 3) hX rfl rfl dX1_reach_34 ?_
  refine jr_getN (ci := 9) (k := 0) hX hI1 rfl in_X10 (by decide) q614 rfl dX1_reach_35 ?_
  refine jr_gets hX (en_Zc hX.S (q := 3) (by omega)) q1197 (fun x h => h) dX1_reach_38 ?_
  refine jr_acmp_neR hX (tgt := 69) (by decide) dX1_reach_41 (fun c_41 => ?_) (fun c_41 => ?_)
  · refine jr_aload hX rfl dX1_reach_69 ?_
    refine jr_getN (ci := 7) (k := 2) hX hT1 rfl in_X15 (by decide) q1178 rfl dX1_reach_71 ?_
    refine jr_aload_n (i := 3) hX rfl rfl dX1_reach_74 ?_
    refine jr_getN (ci := 9) (k := 2) hX hI1 rfl in_X10 (by decide) q621 rfl dX1_reach_75 ?_
    refine jr_bipush (v := 10) hX (by decide) dX1_reach_78 ?_
    refine jr_irem hX (by decide) dX1_reach_80 ?_
    rw [hb2]
    refine jr_aload_n (i := 2) hX rfl rfl dX1_reach_81 ?_
    refine jr_getN (ci := 6) (k := 3) hX hF1 rfl in_X13 (by decide) q971 rfl dX1_reach_82 ?_
    refine jr_aload_n (i := 3) hX rfl rfl dX1_reach_85 ?_
    refine jr_getN (ci := 9) (k := 1) hX hI1 rfl in_X10 (by decide) q616 rfl dX1_reach_86 ?_
    refine jr_iald hX hL1 (vp_in_nI ha4 (by omega)) dX1_reach_89 ?_
    rw [nI_clamp (by omega)]
    refine jr_iast hX hTF (vp_in_nI (by rw [hk9]; exact hfn) (by rw [hk9]; omega)) dX1_reach_90 ?_
    rw [nI_clamp (by omega)]
    refine jr_vret hX hlk hr ⟨rfl, ad1, T1, ?_, hfm.trans (jFm.put ?_), h4⟩ dX1_reach_91
    · have hfin := co_wtf hR1 ht1o (upd (s_car S t.2.1 t.1 x.1 t.2.2) ff (x.2.2.2.1 aa))
      have e : s_rch S i j x (decide ((s_ins S q).1 = 3)) aa ff o = sw_o (s_cto S o x.1) ((s_o (s_cto S o x.1)).set o (x.1, t.2.1, upd (s_car S t.2.1 t.1 x.1 t.2.2) ff (x.2.2.2.1 aa))) := by
        unfold s_rch
        rw [ht1o, show decide ((s_ins S q).1 = 3) = false from decide_eq_false (fun z => c_41 (show jCd s0 b0 (s_ins S q).1 = jCd s0 b0 3 by rw [z]))]
        rfl
      rw [e]
      dsimp only at hfin
      rw [hnfe] at hfin
      exact hfin
    · rw [hR1.t (k := 17) (i := o) (j := 0) (s := .inl _) (by show (if 0 = 0 then Option.map _ ((s_o (s_cto S o x.1))[o]?) else none) = _; rw [if_pos rfl, ht1o]; rfl)]
      exact ⟨(by show 1 ≤ 17 % 100; omega), (by show 17 % 100 < 30; omega)⟩
  · refine jr_aload_n (i := 2) hX rfl rfl dX1_reach_44 ?_
    refine jr_getN (ci := 6) (k := 3) hX hF1 rfl in_X13 (by decide) q971 rfl dX1_reach_45 ?_
    refine jr_aload_n (i := 3) hX rfl rfl dX1_reach_48 ?_
    refine jr_getN (ci := 9) (k := 1) hX hI1 rfl in_X10 (by decide) q616 rfl dX1_reach_49 ?_
    refine jr_aload hX rfl dX1_reach_52 ?_
    refine jr_getN (ci := 7) (k := 2) hX hT1 rfl in_X15 (by decide) q1178 rfl dX1_reach_54 ?_
    refine jr_aload_n (i := 3) hX rfl rfl dX1_reach_57 ?_
    refine jr_getN (ci := 9) (k := 2) hX hI1 rfl in_X10 (by decide) q621 rfl dX1_reach_58 ?_
    refine jr_bipush (v := 10) hX (by decide) dX1_reach_61 ?_
    refine jr_irem hX (by decide) dX1_reach_63 ?_
    rw [hb2]
    refine jr_iald hX hTF (vp_in_nI (by rw [hk9]; exact hfn) (by rw [hk9]; omega)) dX1_reach_64 ?_
    rw [nI_clamp (by omega)]
    refine jr_iast hX hL1 (vp_in_nI ha4 (by omega)) dX1_reach_65 ?_
    rw [nI_clamp (by omega)]
    refine jr_goto hX (tgt := 91) (by decide) dX1_reach_66 ?_
    refine jr_vret hX hlk hr ⟨rfl, ad1, T1, ?_, hfm.trans (jFm.put ?_), h4⟩ dX1_reach_91
    · have hfin := co_wloc hR1 hi3 hx1 (upd x.2.2.2.1 aa (s_car S t.2.1 t.1 x.1 t.2.2 ff))
      have e : s_rch S i j x (decide ((s_ins S q).1 = 3)) aa ff o = s_lw (s_cto S o x.1) i j x (upd x.2.2.2.1 aa (s_car S t.2.1 t.1 x.1 t.2.2 ff)) := by
        unfold s_rch
        rw [ht1o, show decide ((s_ins S q).1 = 3) = true from decide_eq_true (by rcases hcode with z | z; exact z; exact absurd (en_inj hX.S (q := (s_ins S q).1) (r := 3) (by omega) (by omega) c_41) (by omega))]
        rfl
      rw [e]
      rw [h4 9 i j (by omega)] at hfin
      exact hfin
    · rw [← h4 9 i j (by omega), hR1.t (k := 9) (i := i) (j := j) (s := .inl _) (by show (if i < 3 then Option.map _ ((s_s (s_cto S o x.1) i).2[j]?) else none) = _; rw [if_pos hi3, hx1]; rfl)]
      exact ⟨(by show 1 ≤ 9 % 100; omega), (by show 9 % 100 < 30; omega)⟩

set_option maxHeartbeats 4000000 in
set_option maxRecDepth 100000 in
theorem met_reachNo (l : Launch) (D : va_G) (s0 : State) (b0 : Nat) (A : Nat → Prop) (G : jG) (S : sSt) (ad : jN) (T : jT) (hR : jCo D s0 b0 S ad T G) (hv : sWv S) (hs : sWs S) (ho : sWo S) (i j : Nat) (x : sFr) (hi3 : i < 3) (hx : (s_s S i).2[j]? = some x) (q : Nat) (hq : q < (s_i S).length) (hcode : (s_ins S q).1 = 3 ∨ (s_ins S q).1 = 4) (aa cy kk ff : Nat) (haa : (s_ins S q).2.1 = nI aa) (hcy : (s_ins S q).2.2.2 = nI cy) (ha4 : aa < 4) (hc4 : cy < 4) (hb1 : (s_ins S q).2.2.1 / 10 = nI kk) (hb2 : (s_ins S q).2.2.1 - (s_ins S q).2.2.1 / 10 * 10 = nI ff) (hkk : kk < 3) (hff : ff < 4) (hno : ¬ ∃ o t, x.2.2.2.1 cy = nI o ∧ (s_o S)[o]? = some t ∧ t.2.1 = kk ∧ ff < (s_ver S x.1).2.1 kk) : jM l yX1_reach (ws_ yX1_reach cX1_reach 5 none) (jR 4 0 0) D s0 b0 A G [.ref (ad 1 0 0), .ref (ad 5 i 0), .ref (ad 8 i j), .ref (ad 20 q 0)] (fun w G1 => w = none ∧ ∃ T1 : jT, jCo D s0 b0 (s_end S i 102) ad T1 G1 ∧ jFm 1 30 T G T1 G1) := by
  have hxx := co_x hR
  have hF := co_fr hR hi3 hx
  have hLo := co_loc hR hi3 hx
  have hmm : s_m S = (s_v S).length - 1 := rfl
  have hfx := (hs i hi3).2.2 j x hx
  have hst := co_str hR hi3
  have hI : G (ad 20 q 0) = some (jo 9 [.ref (jCd s0 b0 (s_ins S q).1), .int (nI aa), .int (s_ins S q).2.2.1, .int (nI cy)]) := by
    rw [co_ins hR hq]
    unfold jIn
    rw [haa, hcy, show s_nb (s_ins S q).1 (s_ins S q).2.2.1 = (s_ins S q).2.2.1 by unfold s_nb; rw [if_neg (by omega)], show s_nc (s_ins S q).1 (nI cy) = nI cy by unfold s_nc; rw [if_pos (by omega)]]
  refine jM.of (by decide +kernel) (own := RX1) rfl (Nat.le_of_ble_eq_true rfl) ?_
  intro p e s m args below meth c hX hr hlk hnm
  refine jr_aload_n (i := 0) hX rfl rfl dX1_reach_0 ?_
  refine jr_aload_n (i := 2) hX rfl rfl dX1_reach_1 ?_
  refine jr_aload_n (i := 2) hX rfl rfl dX1_reach_2 ?_
  refine jr_getN (ci := 6) (k := 3) hX hF rfl in_X13 (by decide) q971 rfl dX1_reach_3 ?_
  refine jr_aload_n (i := 3) hX rfl rfl dX1_reach_6 ?_
  refine jr_getN (ci := 9) (k := 3) hX hI rfl in_X10 (by decide) q623 rfl dX1_reach_7 ?_
  refine jr_iald hX hLo (vp_in_nI hc4 (by omega)) dX1_reach_10 ?_
  rw [nI_clamp (by omega)]
  refine jr_aload_n (i := 3) hX rfl rfl dX1_reach_11 ?_
  refine jr_getN (ci := 9) (k := 2) hX hI rfl in_X10 (by decide) q621 rfl dX1_reach_12 ?_
  refine jr_callV (As := [.ref (ad 8 i j), .int (x.2.2.2.1 cy), .int (s_ins S q).2.2.1]) (bc1 := (0)) (bs1 := (0)) hX (met_thingNo l D s0 b0 A _ S ad T hR hv hs ho i j x hi3 hx (s_ins S q).2.2.1 kk ff hb1 hb2 hkk hff (x.2.2.2.1 cy) hno) (cwV 3 hX.ts (lw_V q1189 q1191 qs27 q65 q1192) rfl rfl rfl (by decide +kernel) ⟨Nat.le_of_ble_eq_true rfl, Nat.le_of_ble_eq_true rfl⟩) hxx rfl rfl (Nat.le_of_ble_eq_true rfl) (by first | omega | (dsimp only; omega) | (show _ ≤ _; simp only []; omega)) (by first | omega | (dsimp only; omega) | (show _ ≤ _; simp only []; omega)) rfl dX1_reach_15 (fun v_15 G_15 hp_15 => ?_)
  obtain ⟨rfl, e9⟩ := hp_15
  rw [e9]
  refine jr_astoreN hX (by decide) rfl dX1_reach_18 ?_
  refine jr_aloadN hX rfl dX1_reach_20 ?_
  refine jr_ifnonnullN hX dX1_reach_22 ?_
  refine jr_aload_n (i := 1) hX rfl rfl dX1_reach_25 ?_
  refine jr_bipush (v := 102) hX (by decide) dX1_reach_26 ?_
  refine jr_callV (As := [.int 102]) (bc1 := (0)) (bs1 := (0)) hX (met_send l D s0 b0 A _ S ad T hR i hi3 102 (by omega)) (cwV 1 hX.ts (lw_V q951 q952 q953 q69 q954) rfl rfl rfl (by decide +kernel) ⟨Nat.le_of_ble_eq_true rfl, Nat.le_of_ble_eq_true rfl⟩) hst rfl rfl (Nat.le_of_ble_eq_true rfl) (by first | omega | (dsimp only; omega) | (show _ ≤ _; simp only []; omega)) (by first | omega | (dsimp only; omega) | (show _ ≤ _; simp only []; omega)) rfl dX1_reach_28 (fun v_28 G_28 hp_28 => ?_)
  obtain ⟨rfl, hpost⟩ := hp_28
  refine jr_goto hX (tgt := 91) (by decide) dX1_reach_31 ?_
  exact jr_vret hX hlk hr ⟨rfl, hpost⟩ dX1_reach_91
