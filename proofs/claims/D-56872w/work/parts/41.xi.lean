/-! changes asked for -/
theorem fits_bz (b : Bool) : fits .boolean (.int (jbz b)) = true := by cases b <;> decide

set_option maxHeartbeats 4000000 in
set_option maxRecDepth 100000 in
theorem met_ChInit (l : Launch) (D : va_G) (s0 : State) (b0 : Nat) (A : Nat → Prop) (G : jG) (n md : Nat) (b o : Bool) (la : Int64) (hmd : md < 1000) (hn : G n = some (jo 8 [.int 0, .int 0, .int 0, .long 0, .int 0])) : jM l yX16_init (ws_ yX16_init cX16_init 6 none) (jR 1 0 0) D s0 b0 A G [.ref n, .int (nI md), .int (jbz b), .int (jbz o), .long la] (fun w G1 => w = none ∧ G1 = jup G n (jo 8 [.int (nI md), .int (jbz b), .int (jbz o), .long la, .int 113])) := by
  refine jM.of (by decide +kernel) (own := RX16) rfl (Nat.le_of_ble_eq_true rfl) ?_
  intro p e s m args below meth c hX hr hlk hnm
  refine jr_aload_n (i := 0) hX rfl rfl dX16_init_0 ?_
  refine jr_oinit hX q1219 q118 q119 (Nat.le_of_ble_eq_true rfl) (Nat.le_of_ble_eq_true rfl) dX16_init_1 ?_
  refine jr_aload_n (i := 0) hX rfl rfl dX16_init_4 ?_
  refine jr_bipush (v := 113) hX (by decide) dX16_init_5 ?_
  refine jr_put (ci := 8) (k := 4) hX hn rfl in_X16 (by decide) tyX16 tyX16_ok nmX16 q1228 rfl (by first | rfl | assumption) (by first | rfl | assumption) (Nat.le_of_ble_eq_true rfl) dX16_init_7 ?_
  refine jr_aload_n (i := 0) hX rfl rfl dX16_init_10 ?_
  refine jr_iload_n (i := 1) hX rfl rfl dX16_init_11 ?_
  refine jr_putF (ci := 8) (k := 0) hX jup_s rfl in_X16 (by decide) tyX16 tyX16_ok nmX16 q1220 rfl hnm rfl (nI_nc hmd) (fits_nc hmd) (Nat.le_of_ble_eq_true rfl) dX16_init_12 ?_
  rw [jup_jup]
  refine jr_aload_n (i := 0) hX rfl rfl dX16_init_15 ?_
  refine jr_iload_n (i := 2) hX rfl rfl dX16_init_16 ?_
  refine jr_putF (ci := 8) (k := 1) hX jup_s rfl in_X16 (by decide) tyX16 tyX16_ok nmX16 q1222 rfl hnm rfl (jbz_n _) (fits_bz _) (Nat.le_of_ble_eq_true rfl) dX16_init_17 ?_
  rw [jup_jup]
  refine jr_aload_n (i := 0) hX rfl rfl dX16_init_20 ?_
  refine jr_iload_n (i := 3) hX rfl rfl dX16_init_21 ?_
  refine jr_putF (ci := 8) (k := 2) hX jup_s rfl in_X16 (by decide) tyX16 tyX16_ok nmX16 q1224 rfl hnm rfl (jbz_n _) (fits_bz _) (Nat.le_of_ble_eq_true rfl) dX16_init_22 ?_
  rw [jup_jup]
  refine jr_aload_n (i := 0) hX rfl rfl dX16_init_25 ?_
  refine jr_lload hX rfl dX16_init_26 ?_
  refine jr_putF (ci := 8) (k := 3) hX jup_s rfl in_X16 (by decide) tyX16 tyX16_ok nmX16 q1226 rfl hnm rfl (by first | rfl | assumption) (by first | rfl | assumption) (Nat.le_of_ble_eq_true rfl) dX16_init_28 ?_
  rw [jup_jup]
  exact jr_vret hX hlk hr ⟨rfl, rfl⟩ dX16_init_31

theorem co_ad18 {D : va_G} {s0 : State} {b0 : Nat} {S : sSt} {ad : jN} {T : jT} {G : jG} {n : Nat} (hW : ∀ q ∈ s_q S, q < (s_c S).length) (h : jCo D s0 b0 S ad T G) (hn : (T n).1 = 0) (h1 : G n ≠ none) (h3 : n ≠ jEE s0 b0) :
    jCo D s0 b0 S (jas ad 18 (s_c S).length 0 n) (jTs T n 18 (s_c S).length 0) G := by
  refine (h.ado hn h1 h3 18 (s_c S).length 0).sub fun k' i' j' s hs => ?_
  by_cases h8 : k' = 18 ∧ i' = (s_c S).length ∧ j' = 0
  · obtain ⟨rfl, rfl, rfl⟩ := h8
    exact absurd hs (by
      show (if 0 = 0 then Option.map _ ((s_c S)[(s_c S).length]?) else none) ≠ some s
      rw [if_pos rfl, List.getElem?_eq_none (Nat.le_refl _)]; simp)
  show (if _ then _ else _) = _
  rw [if_neg h8, ← hs]
  by_cases e6 : k' = 2
  · subst e6
    rcases i' with _ | _ | _ | _ | _ | i'
    · rfl
    · rfl
    · show (if j' = 0 then some (Sum.inr (s_rg (s_c S).length (fun v => ad 18 v 0), 0, 200) : jSh) else none) = (if j' = 0 then some (Sum.inr (s_rg (s_c S).length (fun v => jas ad 18 (s_c S).length 0 n 18 v 0), 0, 200) : jSh) else none)
      have e : s_rg (s_c S).length (fun v => jas ad 18 (s_c S).length 0 n 18 v 0) = s_rg (s_c S).length (fun v => ad 18 v 0) := List.map_congr_left fun q hq => jas_n fun z => by
        have := List.mem_range.mp hq
        omega
      rw [e]
    · show (if j' = 0 then some (Sum.inr ((s_q S).map (fun v => ad 18 v 0), 0, 200) : jSh) else none) = (if j' = 0 then some (Sum.inr ((s_q S).map (fun v => jas ad 18 (s_c S).length 0 n 18 v 0), 0, 200) : jSh) else none)
      have e : (s_q S).map (fun v => jas ad 18 (s_c S).length 0 n 18 v 0) = (s_q S).map (fun v => ad 18 v 0) := List.map_congr_left fun q hq => jas_n fun z => by
        have := hW q hq
        omega
      rw [e]
    · rfl
    · rfl
  · exact (shC_a18 e6).symm
/-- the list of changes is written -/
theorem co_cls {D : va_G} {s0 : State} {b0 : Nat} {A : Nat → Prop} {S : sSt} {ad : jN} {T : jT} {G G1 : jG} {ea cap cap1 : Nat} {mo mo1 : Int32} {fs : List sCh} (h : jCo D s0 b0 S ad T G) (hE : G1 (jEE s0 b0) = none) (hL : jLS D s0 b0 G (ad 2 2 0) (s_rg (s_c S).length (fun v => ad 18 v 0)) mo cap ea) (hea : cap ≠ 0 → T ea = (102, 2, 0)) (hU : jLU D s0 b0 A G G1 (ad 2 2 0) ea (s_rg fs.length (fun v => ad 18 v 0)) mo1 cap1) (hc : cap1 ≤ 200)
    (hn : ∀ j x, fs[j]? = some x → (s_c S)[j]? = some x ∨ (T (ad 18 j 0) = (18, j, 0) ∧ G (ad 18 j 0) = some (jo 8 [.int (nI x.1), .int (jbz x.2.1), .int (jbz x.2.2.1), .long (lN x.2.2.2.1), .int (nI x.2.2.2.2)]))) :
    ∃ T1 : jT, jCo D s0 b0 (sw_c S fs) ad T1 G1 ∧ ∀ b, G b ≠ none → T b ≠ (2, 2, 0) → T b ≠ (102, 2, 0) → b ≠ jEE s0 b0 → T1 b = T b ∧ G1 b = G b := by
  refine jRep.lst h hE (k := 2) (i := 2) (j := 0) (sl := .inr (s_rg (s_c S).length (fun v => ad 18 v 0), 0, 200)) rfl hL hea hU (fun s hs => ⟨0, 200, (Option.some.inj hs).symm, Nat.zero_le _, hc⟩) (fun k' i' j' s hne hs => ?_)
  by_cases h16 : k' = 18
  · subst h16
    have hs' : (if j' = 0 then Option.map (fun c : sCh => (Sum.inl (jo 8 [.int (nI c.1), .int (jbz c.2.1), .int (jbz c.2.2.1), .long (lN c.2.2.2.1), .int (nI c.2.2.2.2)]) : jSh)) (fs[i']?) else none) = some s := hs
    by_cases hj : j' = 0
    · subst hj
      rw [if_pos rfl] at hs'
      obtain ⟨x, hx, rfl⟩ := Option.map_eq_some_iff.mp hs'
      rcases hn i' x hx with z | ⟨z1, z2⟩
      · refine Or.inl ?_
        show (if 0 = 0 then Option.map _ ((s_c S)[i']?) else none) = _
        rw [if_pos rfl, z]; rfl
      · exact Or.inr ⟨by omega, by omega, z1, z2⟩
    · rw [if_neg hj] at hs'; cases hs'
  refine Or.inl ?_
  rw [← hs]
  by_cases h2 : k' = 2
  · subst h2
    rcases i' with _ | _ | _ | _ | _ | i'
    · rfl
    · rfl
    · show (if j' = 0 then some (Sum.inr (s_rg (s_c S).length (fun v => ad 18 v 0), 0, 200) : jSh) else none) = (if j' = 0 then some (Sum.inr (s_rg fs.length (fun v => ad 18 v 0), 0, 200) : jSh) else none)
      have hj : j' ≠ 0 := fun z => hne ⟨rfl, rfl, z⟩
      rw [if_neg hj, if_neg hj]
    · rfl
    · rfl
    · rfl
  · exact (shC_c h2 h16).symm
/-- the queue is written -/
theorem co_qls {D : va_G} {s0 : State} {b0 : Nat} {A : Nat → Prop} {S : sSt} {ad : jN} {T : jT} {G G1 : jG} {ea cap cap1 : Nat} {mo mo1 : Int32} {qs : List Nat} (h : jCo D s0 b0 S ad T G) (hE : G1 (jEE s0 b0) = none) (hL : jLS D s0 b0 G (ad 2 3 0) ((s_q S).map (fun v => ad 18 v 0)) mo cap ea) (hea : cap ≠ 0 → T ea = (102, 3, 0)) (hU : jLU D s0 b0 A G G1 (ad 2 3 0) ea (qs.map (fun v => ad 18 v 0)) mo1 cap1) (hc : cap1 ≤ 200) :
    ∃ T1 : jT, jCo D s0 b0 (sw_q S qs) ad T1 G1 ∧ ∀ b, G b ≠ none → T b ≠ (2, 3, 0) → T b ≠ (102, 3, 0) → b ≠ jEE s0 b0 → T1 b = T b ∧ G1 b = G b := by
  refine jRep.lst h hE (k := 2) (i := 3) (j := 0) (sl := .inr ((s_q S).map (fun v => ad 18 v 0), 0, 200)) rfl hL hea hU (fun s hs => ⟨0, 200, (Option.some.inj hs).symm, Nat.zero_le _, hc⟩) (fun k' i' j' s hne hs => Or.inl ?_)
  rw [← hs]
  by_cases h2 : k' = 2
  · subst h2
    rcases i' with _ | _ | _ | _ | _ | i'
    · rfl
    · rfl
    · rfl
    · show (if j' = 0 then some (Sum.inr ((s_q S).map (fun v => ad 18 v 0), 0, 200) : jSh) else none) = (if j' = 0 then some (Sum.inr (qs.map (fun v => ad 18 v 0), 0, 200) : jSh) else none)
      have hj : j' ≠ 0 := fun z => hne ⟨rfl, rfl, z⟩
      rw [if_neg hj, if_neg hj]
    · rfl
    · rfl
  · exact (shC_q h2).symm
theorem ob_ch {D : va_G} {s0 : State} {b0 : Nat} {S : sSt} {ad : jN} {T : jT} {G : jG} (h : jCo D s0 b0 S ad T G) {v : Nat} (hv : v < (s_c S).length) : jOb s0 b0 D G (ad 18 v 0) := ob_o (co_ch h (List.getElem?_eq_getElem hv)) (r := (RX16, TX16, 5)) rfl q2239
def s_ask (S : sSt) (md : Nat) (b o : Bool) (pat place : Nat) : sSt := sw_q (sw_c S (s_c S ++ [(md, b, o, s_n S + pat, 113)])) ((s_q S).take place ++ (s_c S).length :: (s_q S).drop place)

set_option maxHeartbeats 4000000 in
set_option maxRecDepth 100000 in
theorem met_ask (l : Launch) (D : va_G) (s0 : State) (b0 : Nat) (A : Nat → Prop) (G : jG) (S : sSt) (ad : jN) (T : jT) (hR : jCo D s0 b0 S ad T G) (hW : ∀ q ∈ s_q S, q < (s_c S).length) (hcl : (s_c S).length < 100) (hql : (s_q S).length < 100) (md : Nat) (b o : Bool) (pat place : Nat) (hmd : md < 1000) (hpat : pat < 1000) (hpl : place ≤ (s_q S).length) : jM l yX1_ask (ws_ yX1_ask cX1_ask 7 (some (.object "SwapWhile$Change"))) (jR 7 3 305) D s0 b0 A G [.ref (ad 1 0 0), .int (nI md), .int (jbz b), .int (jbz o), .int (nI pat), .int (nI place)] (fun w G1 => ∃ (ad1 : jN) (T1 : jT), w = some (.ref (ad1 18 (s_c S).length 0)) ∧ jCo D s0 b0 (s_ask S md b o pat place) ad1 T1 G1 ∧ jFm 1 30 T G T1 G1 ∧ ∀ k i j, ¬ (k = 18 ∧ i = (s_c S).length ∧ j = 0) → ad1 k i j = ad k i j) := by
  have hxx := co_x hR
  obtain ⟨moH, capH, eaH, hHL, -, hHc, hHt⟩ := co_chs hR
  refine jM.of (by decide +kernel) (own := RX1) rfl (Nat.le_of_ble_eq_true rfl) ?_
  intro p e s m args below meth c hX hr hlk hnm
  refine jr_ee hX (fun hE0 => ?_)
  refine jr_new (ci := 8) (fs := [.int 0, .int 0, .int 0, .long 0, .int 0]) (bc1 := 2) (bs1 := 300) hX in_X16 tyX16 tyX16_ok q999 q1215 q102 rfl (by decide) (by omega) (by omega) dX1_ask_0 (fun n_0 hn_0 hA_0 => ?_)
  refine jr_dup hX rfl dX1_ask_3 ?_
  refine jr_iload_n (i := 1) hX rfl rfl dX1_ask_4 ?_
  refine jr_iload_n (i := 2) hX rfl rfl dX1_ask_5 ?_
  refine jr_iload_n (i := 3) hX rfl rfl dX1_ask_6 ?_
  refine jr_aload_n (i := 0) hX rfl rfl dX1_ask_7 ?_
  refine jr_get (ci := 2) (k := 11) hX (jup_f hxx hn_0) rfl in_X1 (by decide) q374 rfl dX1_ask_8 ?_
  refine jr_iload hX rfl dX1_ask_11 ?_
  refine jr_i2l hX rfl dX1_ask_13 ?_
  rw [nI_l (by omega)]
  refine jr_ladd hX dX1_ask_14 ?_
  rw [lN_add]
  refine jr_callI (ret := none) (As := [.int (nI md), .int (jbz b), .int (jbz o), .long (lN (s_n S + pat))]) (bc1 := (2)) (bs1 := (300)) hX (met_ChInit l D s0 b0 A _ n_0 md b o (lN (s_n S + pat)) hmd jup_s) (cwI 4 hX.ts (lw_meth q1218) rfl rfl rfl (hX.ts _ q102) (hX.ts _ q1216) (hX.ts _ q1217) rfl (by decide +kernel) ⟨Nat.le_of_ble_eq_true rfl, Nat.le_of_ble_eq_true rfl⟩) rfl (Nat.le_of_ble_eq_true rfl) (by first | omega | (dsimp only; omega) | (show _ ≤ _; simp only []; omega)) (by first | omega | (dsimp only; omega) | (show _ ≤ _; simp only []; omega)) rfl dX1_ask_15 (fun v_15 G_15 hp_15 => ?_)
  obtain ⟨rfl, e9⟩ := hp_15
  have hgn : G_15 n_0 = some (jo 8 [.int (nI md), .int (jbz b), .int (jbz o), .long (lN (s_n S + pat)), .int 113]) := by rw [e9, jup_s]
  have hgo : ∀ b, b ≠ n_0 → G_15 b = G b := fun b z1 => by rw [e9, jup_n z1, jup_n z1]
  have hnw : jNw G G_15 := fun b x hb => by
    have z1 : b ≠ n_0 := fun z => by rw [z, hn_0] at hb; cases hb
    rw [hgo b z1]; exact hb
  have hR1 := co_ad18 (n := n_0) hW (jRep.nw hR hnw) (hR.un hn_0) (by rw [hgn]; simp) (hX.ee hA_0)
  have hHL1 := hnw.jLS hHL
  refine jr_astore hX (by decide) rfl dX1_ask_18 ?_
  refine jr_aload_n (i := 0) hX rfl rfl dX1_ask_20 ?_
  refine jr_get (ci := 2) (k := 3) hX (hnw _ _ hxx) rfl in_X1 (by decide) q366 rfl dX1_ask_21 ?_
  refine jr_aload hX rfl dX1_ask_24 ?_
  refine jr_callF (As := [.ref n_0]) (bc1 := (1)) (bs1 := (150)) hX (met_add l D s0 b0 A _ (ad 2 2 0) (s_rg (s_c S).length (fun v => ad 18 v 0)) moH capH eaH hHL1 (fun y hy => by obtain ⟨q9, hq9, rfl⟩ := List.mem_map.mp hy; exact ob_ch (jRep.nw hR hnw) (List.mem_range.mp hq9)) n_0 (ob_o hgn (r := (RX16, TX16, 5)) rfl q2239) 1 150 (by omega) (fun hz => ⟨by omega, by rw [rg_len] at hz; have h9 := hHL.2.2.2; unfold jgw; split <;> omega⟩)) (va_cwF 1 hX.ts (lw_F q297 q184 q186 q68 q188) rfl rfl rfl (hX.S.fw ⟨by decide +kernel, by decide +kernel⟩ q182 q181 q187 q185 q183) (by decide +kernel) ⟨Nat.le_of_ble_eq_true rfl, Nat.le_of_ble_eq_true rfl⟩) hHL1.1 rfl rfl (Nat.le_of_ble_eq_true rfl) (by first | omega | (dsimp only; omega) | (show _ ≤ _; simp only []; omega)) (by first | omega | (dsimp only; omega) | (show _ ≤ _; simp only []; omega)) rfl dX1_ask_26 (fun v_26 G_26 hp_26 => ?_)
  obtain ⟨rfl, hU⟩ := hp_26
  refine jr_ee hX (fun hE1 => ?_)
  have hlast : (jas ad 18 (s_c S).length 0 n_0) 18 (s_c S).length 0 = n_0 := jas_s
  have hsame : ∀ v, v < (s_c S).length → (jas ad 18 (s_c S).length 0 n_0) 18 v 0 = ad 18 v 0 := fun v hv9 => jas_n (fun z => by omega)
  rw [show s_rg (s_c S).length (fun v => ad 18 v 0) ++ [n_0] = s_rg (s_c S ++ [(md, b, o, s_n S + pat, 113)]).length (fun v => (jas ad 18 (s_c S).length 0 n_0) 18 v 0) by
    rw [List.length_append, List.length_singleton, ← rg_ap (f := fun v => ad 18 v 0) hsame, hlast]] at hU
  have hE01 : G_15 (jEE s0 b0) = none := by
    rw [hgo _ (fun z => hX.ee hA_0 z.symm)]
    exact hE0
  have hcap1 : (if (s_rg (s_c S).length (fun v => ad 18 v 0)).length = capH then jgw capH (capH + 1) else capH) ≤ 200 := by
    rw [rg_len]
    have h9 := hHL.2.2.2
    split
    · unfold jgw; split <;> omega
    · exact hHc
  obtain ⟨T2, hR2, hfm2⟩ := co_cls (fs := s_c S ++ [(md, b, o, s_n S + pat, 113)]) hR1 hE1 (mo := moH) (cap := capH) (ea := eaH) (by
      rw [show s_rg (s_c S).length (fun v => (jas ad 18 (s_c S).length 0 n_0) 18 v 0) = s_rg (s_c S).length (fun v => ad 18 v 0) from List.map_congr_left fun v hv9 => hsame v (List.mem_range.mp hv9)]
      exact hHL1) (fun hc9 => by
      have ht := hHt hc9
      rw [jTs_n]
      · exact ht
      · intro z; rw [z] at ht; have := hR.un hn_0; rw [ht] at this; cases this) hU hcap1 (fun j9 x9 hx9 => by
      by_cases hj : j9 < (s_c S).length
      · rw [List.getElem?_append_left hj] at hx9; exact Or.inl hx9
      · have hjl := lt_ofl hx9
        rw [List.length_append, List.length_singleton] at hjl
        have ej : j9 = (s_c S).length := by omega
        subst ej
        rw [List.getElem?_append_right (Nat.le_refl _), Nat.sub_self] at hx9
        have ex := Option.some.inj hx9
        subst ex
        rw [hlast]
        exact Or.inr ⟨jTs_s, hgn⟩)
  have hxx2 := co_x hR2
  obtain ⟨moQ, capQ, eaQ, hQL, -, hQc, hQt⟩ := co_que hR2
  have hlc : (s_c (sw_c S (s_c S ++ [(md, b, o, s_n S + pat, 113)]))).length = (s_c S).length + 1 := by show (s_c S ++ [_]).length = _; rw [List.length_append]; rfl
  have hqe : (s_q (sw_c S (s_c S ++ [(md, b, o, s_n S + pat, 113)]))) = s_q S := rfl
  have hobn : jOb s0 b0 D G_26 n_0 := by
    have h9 := ob_ch hR2 (v := (s_c S).length) (by omega)
    rw [hlast] at h9
    exact h9
  refine jr_pop hX rfl dX1_ask_31 ?_
  refine jr_aload_n (i := 0) hX rfl rfl dX1_ask_32 ?_
  refine jr_get (ci := 2) (k := 4) hX hxx2 rfl in_X1 (by decide) q367 rfl dX1_ask_33 ?_
  refine jr_iload hX rfl dX1_ask_36 ?_
  refine jr_aload hX rfl dX1_ask_38 ?_
  refine jr_callF (As := [.int (nI place), .ref n_0]) (bc1 := (0)) (bs1 := (0)) hX (met_add3 l D s0 b0 A _ _ ((s_q S).map (fun v => (jas ad 18 (s_c S).length 0 n_0) 18 v 0)) moQ capQ eaQ hQL (fun y hy => by obtain ⟨q9, hq9, rfl⟩ := List.mem_map.mp hy; exact ob_ch hR2 (by have := hW q9 hq9; omega)) place (by rw [List.length_map]; exact hpl) n_0 hobn 1 150 (by omega) (fun hz => ⟨by omega, by rw [List.length_map] at hz; have h9 := hQL.2.2.2; unfold jgw; split <;> omega⟩)) (va_cwF 2 hX.ts (lw_F q1242 q1245 q1247 q68 q1249) rfl rfl rfl (hX.S.fw ⟨by decide +kernel, by decide +kernel⟩ q1244 q1243 q1248 q1246 q183) (by decide +kernel) ⟨Nat.le_of_ble_eq_true rfl, Nat.le_of_ble_eq_true rfl⟩) hQL.1 rfl rfl (Nat.le_of_ble_eq_true rfl) (by first | omega | (dsimp only; omega) | (show _ ≤ _; simp only []; omega)) (by first | omega | (dsimp only; omega) | (show _ ≤ _; simp only []; omega)) rfl dX1_ask_40 (fun v_40 G_40 hp_40 => ?_)
  obtain ⟨rfl, hU2⟩ := hp_40
  refine jr_ee hX (fun hE2 => ?_)
  have hmap : ((s_q S).map (fun v => (jas ad 18 (s_c S).length 0 n_0) 18 v 0)).take place ++ n_0 :: ((s_q S).map (fun v => (jas ad 18 (s_c S).length 0 n_0) 18 v 0)).drop place = ((s_q S).take place ++ (s_c S).length :: (s_q S).drop place).map (fun v => (jas ad 18 (s_c S).length 0 n_0) 18 v 0) := by
    rw [List.map_append, List.map_cons, List.map_take, List.map_drop, hlast]
  rw [hmap] at hU2
  have hcap2 : (if ((s_q S).map (fun v => (jas ad 18 (s_c S).length 0 n_0) 18 v 0)).length = capQ then jgw capQ (capQ + 1) else capQ) ≤ 200 := by
    rw [List.length_map]
    have h9 := hQL.2.2.2
    split
    · unfold jgw; split <;> omega
    · exact hQc
  obtain ⟨T3, hR3, hfm3⟩ := co_qls (qs := (s_q S).take place ++ (s_c S).length :: (s_q S).drop place) hR2 hE2 hQL hQt hU2 hcap2
  refine jr_aload hX rfl dX1_ask_45 ?_
  refine jr_aret hX hlk hr (Or.inl ⟨_, rfl⟩) (Or.inr ⟨_, rfl⟩) ⟨(jas ad 18 (s_c S).length 0 n_0), T3, by rw [hlast], hR3, jFm.trans (T1 := T2) ?_ (co_fm (by omega) hE1 hfm3), fun k9 i9 j9 hk => jas_n hk⟩ dX1_ask_47
  intro b hb hk
  have z1 : b ≠ n_0 := fun z => hb (by rw [z]; exact hn_0)
  have hb1 : G_15 b ≠ none := by rw [hgo b z1]; exact hb
  have h9 := co_fm (by omega) hE01 hfm2 b hb1 (by rw [jTs_n z1]; exact hk)
  rw [jTs_n z1, hgo b z1] at h9
  exact h9
