/-! things made -/
set_option maxHeartbeats 4000000 in
set_option maxRecDepth 100000 in
theorem met_VerInit_t (l : Launch) (D : va_G) (s0 : State) (b0 : Nat) (A : Nat → Prop) (G : jG) (a : Nat) (v v0 : Int32) (x1 x2 : Value) (ha : G a = some (jo 7 [.int v0, x1, x2])) : jM l yX12_init (ws_ yX12_init cX12_init 2 none) (jR 1 0 0) D s0 b0 A G [.ref a, .int v] (fun w G1 => w = none ∧ G1 = jup G a (jo 7 [.int v, x1, x2])) := by
  refine jM.of (by decide +kernel) (own := RX12) rfl (Nat.le_of_ble_eq_true rfl) ?_
  intro p e s m args below meth c hX hr hlk hnm
  refine jr_aload_n (i := 0) hX rfl rfl dX12_init_0 ?_
  refine jr_oinit hX q965 q118 q119 (Nat.le_of_ble_eq_true rfl) (Nat.le_of_ble_eq_true rfl) dX12_init_1 ?_
  refine jr_aload_n (i := 0) hX rfl rfl dX12_init_4 ?_
  refine jr_iload_n (i := 1) hX rfl rfl dX12_init_5 ?_
  first | (refine jr_put (ci := 6) (k := 0) hX (by first | assumption | exact jup_s) rfl in_X13 (by decide) tyX13 tyX13_ok nmX13 q974 rfl (by first | rfl | assumption) (by first | rfl | assumption) (Nat.le_of_ble_eq_true rfl) dX12_init_6 ?_) | (refine jr_put (ci := 7) (k := 0) hX (by first | assumption | exact jup_s) rfl in_X15 (by decide) tyX15 tyX15_ok nmX15 q974 rfl (by first | rfl | assumption) (by first | rfl | assumption) (Nat.le_of_ble_eq_true rfl) dX12_init_6 ?_)
  exact jr_vret hX hlk hr ⟨rfl, rfl⟩ dX12_init_9

set_option maxHeartbeats 4000000 in
set_option maxRecDepth 100000 in
theorem met_ThInit (l : Launch) (D : va_G) (s0 : State) (b0 : Nat) (A : Nat → Prop) (G : jG) (n : Nat) (v k : Int32) (fl : Nat) (hn : G n = some (jo 7 [.int 0, .int 0, .null])) : jM l yX15_init (ws_ yX15_init cX15_init 4 none) (jR 2 0 0) D s0 b0 A G [.ref n, .int v, .int k, .ref fl] (fun w G1 => w = none ∧ G1 = jup G n (jo 7 [.int v, .int k, .ref fl])) := by
  refine jM.of (by decide +kernel) (own := RX15) rfl (Nat.le_of_ble_eq_true rfl) ?_
  intro p e s m args below meth c hX hr hlk hnm
  refine jr_aload_n (i := 0) hX rfl rfl dX15_init_0 ?_
  refine jr_iload_n (i := 1) hX rfl rfl dX15_init_1 ?_
  refine jr_callI (ret := none) (As := [.int v]) (bc1 := (0)) (bs1 := (0)) hX (met_VerInit_t l D s0 b0 A _ n v 0 _ _ hn) (cwI 1 hX.ts (lw_meth q964) rfl rfl rfl (hX.ts _ q98) (hX.ts _ q1175) (hX.ts _ q963) rfl (by decide +kernel) ⟨Nat.le_of_ble_eq_true rfl, Nat.le_of_ble_eq_true rfl⟩) rfl (Nat.le_of_ble_eq_true rfl) (by first | omega | (dsimp only; omega) | (show _ ≤ _; simp only []; omega)) (by first | omega | (dsimp only; omega) | (show _ ≤ _; simp only []; omega)) rfl dX15_init_2 (fun v_2 G_2 hp_2 => ?_)
  obtain ⟨rfl, e9⟩ := hp_2
  rw [e9]
  refine jr_aload_n (i := 0) hX rfl rfl dX15_init_5 ?_
  refine jr_iload_n (i := 2) hX rfl rfl dX15_init_6 ?_
  refine jr_putF (ci := 7) (k := 1) hX jup_s rfl in_X15 (by decide) tyX15 tyX15_ok nmX15 q1176 rfl hnm rfl (by first | rfl | assumption) (by first | rfl | assumption) (Nat.le_of_ble_eq_true rfl) dX15_init_7 ?_
  rw [jup_jup]
  refine jr_aload_n (i := 0) hX rfl rfl dX15_init_10 ?_
  refine jr_aload_n (i := 3) hX rfl rfl dX15_init_11 ?_
  refine jr_put (ci := 7) (k := 2) hX jup_s rfl in_X15 (by decide) tyX15 tyX15_ok nmX15 q1177 rfl (by first | rfl | assumption) (by first | rfl | assumption) (Nat.le_of_ble_eq_true rfl) dX15_init_12 ?_
  rw [jup_jup]
  exact jr_vret hX hlk hr ⟨rfl, rfl⟩ dX15_init_15

theorem co_ad67 {D : va_G} {s0 : State} {b0 : Nat} {S : sSt} {ad : jN} {T : jT} {G : jG} {n q : Nat} (h : jCo D s0 b0 S ad T G) (hn : (T n).1 = 0) (hq : (T q).1 = 0) (hqn : q ≠ n) (h1 : G n ≠ none) (h2 : G q ≠ none) (h3 : n ≠ jEE s0 b0) (h4 : q ≠ jEE s0 b0) :
    jCo D s0 b0 S (jas (jas ad 16 (s_o S).length 0 n) 17 (s_o S).length 0 q) (jTs (jTs T n 16 (s_o S).length 0) q 17 (s_o S).length 0) G := by
  have g1 := h.ado hn h1 h3 16 (s_o S).length 0
  have g2 := g1.ado (a := q) (by rw [jTs_n hqn]; exact hq) h2 h4 17 (s_o S).length 0
  refine g2.sub fun k' i' j' s hs => ?_
  have hnone : ∀ {α : Type} (f : sTh → α), (if 0 = 0 then Option.map f ((s_o S)[(s_o S).length]?) else none) = none := fun f => by
    rw [if_pos rfl, List.getElem?_eq_none (Nat.le_refl _)]; rfl
  by_cases h9 : k' = 17 ∧ i' = (s_o S).length ∧ j' = 0
  · obtain ⟨rfl, rfl, rfl⟩ := h9
    exact absurd hs (by
      show (if 0 = 0 then Option.map _ ((s_o S)[(s_o S).length]?) else none) ≠ some s
      rw [hnone]; simp)
  by_cases h8 : k' = 16 ∧ i' = (s_o S).length ∧ j' = 0
  · obtain ⟨rfl, rfl, rfl⟩ := h8
    exact absurd hs (by
      show (if 0 = 0 then Option.map _ ((s_o S)[(s_o S).length]?) else none) ≠ some s
      rw [hnone]; simp)
  show (if _ then _ else (if _ then _ else _)) = _
  rw [if_neg h9, if_neg h8, ← hs]
  by_cases e8 : k' = 16
  · subst e8
    show (if j' = 0 then Option.map (fun t : sTh => (Sum.inl (jo 7 [.int (nI t.1), .int (nI t.2.1), .ref (ad 17 i' 0)]) : jSh)) ((s_o S)[i']?) else none) = (if j' = 0 then Option.map (fun t : sTh => (Sum.inl (jo 7 [.int (nI t.1), .int (nI t.2.1), .ref (jas (jas ad 16 (s_o S).length 0 n) 17 (s_o S).length 0 q 17 i' 0)]) : jSh)) ((s_o S)[i']?) else none)
    by_cases hj : j' = 0
    · rw [jas_n (fun z => h8 ⟨rfl, z.2.1, hj⟩), jas_n (fun z => by omega)]
    · rw [if_neg hj, if_neg hj]
  · rw [shC_a17 e8]
    by_cases e6 : k' = 2
    · subst e6
      rcases i' with _ | _ | _ | _ | _ | i'
      · rfl
      · show (if j' = 0 then some (Sum.inr (s_rg (s_o S).length (fun v => ad 16 v 0), 0, 200) : jSh) else none) = (if j' = 0 then some (Sum.inr (s_rg (s_o S).length (fun v => jas ad 16 (s_o S).length 0 n 16 v 0), 0, 200) : jSh) else none)
        have e : s_rg (s_o S).length (fun v => jas ad 16 (s_o S).length 0 n 16 v 0) = s_rg (s_o S).length (fun v => ad 16 v 0) := List.map_congr_left fun q hq => jas_n fun z => by
          have := List.mem_range.mp hq
          omega
        rw [e]
      · rfl
      · rfl
      · rfl
      · rfl
    · exact (shC_a16 e6).symm
/-- the list of things is written -/
theorem co_tps {D : va_G} {s0 : State} {b0 : Nat} {A : Nat → Prop} {S : sSt} {ad : jN} {T : jT} {G G1 : jG} {ea cap cap1 : Nat} {mo mo1 : Int32} {fs : List sTh} (h : jCo D s0 b0 S ad T G) (hE : G1 (jEE s0 b0) = none) (hL : jLS D s0 b0 G (ad 2 1 0) (s_rg (s_o S).length (fun v => ad 16 v 0)) mo cap ea) (hea : cap ≠ 0 → T ea = (102, 1, 0)) (hU : jLU D s0 b0 A G G1 (ad 2 1 0) ea (s_rg fs.length (fun v => ad 16 v 0)) mo1 cap1) (hc : cap1 ≤ 200)
    (hn : ∀ j x, fs[j]? = some x → (s_o S)[j]? = some x ∨ (T (ad 16 j 0) = (16, j, 0) ∧ G (ad 16 j 0) = some (jo 7 [.int (nI x.1), .int (nI x.2.1), .ref (ad 17 j 0)]) ∧ T (ad 17 j 0) = (17, j, 0) ∧ G (ad 17 j 0) = some (ji D ((s_ver S x.1).2.1 x.2.1) x.2.2))) :
    ∃ T1 : jT, jCo D s0 b0 (sw_o S fs) ad T1 G1 ∧ ∀ b, G b ≠ none → T b ≠ (2, 1, 0) → T b ≠ (102, 1, 0) → b ≠ jEE s0 b0 → T1 b = T b ∧ G1 b = G b := by
  refine jRep.lst h hE (k := 2) (i := 1) (j := 0) (sl := .inr (s_rg (s_o S).length (fun v => ad 16 v 0), 0, 200)) rfl hL hea hU (fun s hs => ⟨0, 200, (Option.some.inj hs).symm, Nat.zero_le _, hc⟩) (fun k' i' j' s hne hs => ?_)
  by_cases h16 : k' = 16
  · subst h16
    have hs' : (if j' = 0 then Option.map (fun t : sTh => (Sum.inl (jo 7 [.int (nI t.1), .int (nI t.2.1), .ref (ad 17 i' 0)]) : jSh)) (fs[i']?) else none) = some s := hs
    by_cases hj : j' = 0
    · subst hj
      rw [if_pos rfl] at hs'
      obtain ⟨x, hx, rfl⟩ := Option.map_eq_some_iff.mp hs'
      rcases hn i' x hx with z | ⟨z1, z2, -, -⟩
      · refine Or.inl ?_
        show (if 0 = 0 then Option.map _ ((s_o S)[i']?) else none) = _
        rw [if_pos rfl, z]; rfl
      · exact Or.inr ⟨by omega, by omega, z1, z2⟩
    · rw [if_neg hj] at hs'; cases hs'
  by_cases h17 : k' = 17
  · subst h17
    have hs' : (if j' = 0 then Option.map (fun t : sTh => (Sum.inl (ji D ((s_ver S t.1).2.1 t.2.1) t.2.2) : jSh)) (fs[i']?) else none) = some s := hs
    by_cases hj : j' = 0
    · subst hj
      rw [if_pos rfl] at hs'
      obtain ⟨x, hx, rfl⟩ := Option.map_eq_some_iff.mp hs'
      rcases hn i' x hx with z | ⟨-, -, z1, z2⟩
      · refine Or.inl ?_
        show (if 0 = 0 then Option.map _ ((s_o S)[i']?) else none) = _
        rw [if_pos rfl, z]; rfl
      · exact Or.inr ⟨by omega, by omega, z1, z2⟩
    · rw [if_neg hj] at hs'; cases hs'
  refine Or.inl ?_
  rw [← hs]
  by_cases h2 : k' = 2
  · subst h2
    rcases i' with _ | _ | _ | _ | _ | i'
    · rfl
    · show (if j' = 0 then some (Sum.inr (s_rg (s_o S).length (fun v => ad 16 v 0), 0, 200) : jSh) else none) = (if j' = 0 then some (Sum.inr (s_rg fs.length (fun v => ad 16 v 0), 0, 200) : jSh) else none)
      have hj : j' ≠ 0 := fun z => hne ⟨rfl, rfl, z⟩
      rw [if_neg hj, if_neg hj]
    · rfl
    · rfl
    · rfl
    · rfl
  · exact (shC_o h2 h16 h17).symm
theorem ob_th {D : va_G} {s0 : State} {b0 : Nat} {S : sSt} {ad : jN} {T : jT} {G : jG} (h : jCo D s0 b0 S ad T G) : ∀ y ∈ s_rg (s_o S).length (fun v => ad 16 v 0), jOb s0 b0 D G y := fun y hy => by
  obtain ⟨q, hq, rfl⟩ := List.mem_map.mp hy
  exact ob_o (co_th h (List.getElem?_eq_getElem (List.mem_range.mp hq))) (r := (RX15, TX15, 3)) rfl q2237
def s_mk (S : sSt) (i j : Nat) (x : sFr) (k aa : Nat) : sSt := if (s_o S).length = 30 then s_end S i 102 else s_lw (sw_o S (s_o S ++ [(x.1, k, fun _ => 0)])) i j x (upd x.2.2.2.1 aa (nI (s_o S).length))

set_option maxHeartbeats 4000000 in
set_option maxRecDepth 100000 in
theorem met_make (l : Launch) (D : va_G) (s0 : State) (b0 : Nat) (A : Nat → Prop) (G : jG) (S : sSt) (ad : jN) (T : jT) (hR : jCo D s0 b0 S ad T G) (hv : sWv S) (hs : sWs S) (ho : sWo S) (i j : Nat) (x : sFr) (hi3 : i < 3) (hx : (s_s S i).2[j]? = some x) (q : Nat) (hq : q < (s_i S).length) (hcode : (s_ins S q).1 = 2) (aa kk : Nat) (haa : (s_ins S q).2.1 = nI aa) (hbb : (s_ins S q).2.2.1 = nI kk) (ha4 : aa < 4) (hkk : kk < 3) : jM l yX1_make (ws_ yX1_make cX1_make 4 none) (jR 7 3 50) D s0 b0 A G [.ref (ad 1 0 0), .ref (ad 5 i 0), .ref (ad 8 i j), .ref (ad 20 q 0)] (fun w G1 => w = none ∧ ∃ (ad1 : jN) (T1 : jT), jCo D s0 b0 (s_mk S i j x kk aa) ad1 T1 G1 ∧ jFm 1 30 T G T1 G1 ∧ ∀ k i j, ¬ ((k = 16 ∨ k = 17) ∧ i = (s_o S).length ∧ j = 0) → ad1 k i j = ad k i j) := by
  have hxx := co_x hR
  have hF := co_fr hR hi3 hx
  have hLo := co_loc hR hi3 hx
  have hmm : s_m S = (s_v S).length - 1 := rfl
  have hvl := hv.1
  have hvu := hv.2.1
  have hfx := (hs i hi3).2.2 j x hx
  have hst := co_str hR hi3
  obtain ⟨hol, hoe⟩ := ho
  have hnf := (hv.2.2 x.1 (by omega)).2.1 kk hkk
  have hVV := co_ver hR (v := x.1) (by omega)
  have hNF := co_nf hR (v := x.1) (by omega)
  have hI : G (ad 20 q 0) = some (jo 9 [.ref (jCd s0 b0 (s_ins S q).1), .int (nI aa), .int (nI kk), .int (s_nc (s_ins S q).1 (s_ins S q).2.2.2)]) := by
    rw [co_ins hR hq]
    unfold jIn
    rw [haa, hbb, show s_nb (s_ins S q).1 (nI kk) = nI kk by unfold s_nb; rw [if_neg (by omega)]]
  obtain ⟨moV, capV, eaV, hVL, -, hVc, -⟩ := co_vs hR
  obtain ⟨moO, capO, eaO, hOL, -, hOc, hOt⟩ := co_ths hR
  refine jM.of (by decide +kernel) (own := RX1) rfl (Nat.le_of_ble_eq_true rfl) ?_
  intro p e s m args below meth c hX hr hlk hnm
  refine jr_aload_n (i := 0) hX rfl rfl dX1_make_0 ?_
  refine jr_get (ci := 2) (k := 1) hX (by first | assumption | exact jup_s) rfl in_X1 (by decide) q364 rfl dX1_make_1 ?_
  refine jr_callF (As := []) (bc1 := (3)) (bs1 := (50)) hX (met_size l D s0 b0 A _ (ad 2 1 0) (s_rg (s_o S).length (fun v => ad 16 v 0)) moO capO eaO hOL) (va_cwF 0 hX.ts (lw_F q405 q408 q410 q68 q412) rfl rfl rfl (hX.S.fw ⟨by decide +kernel, by decide +kernel⟩ q407 q406 q411 q409 q183) (by decide +kernel) ⟨Nat.le_of_ble_eq_true rfl, Nat.le_of_ble_eq_true rfl⟩) hOL.1 rfl rfl (Nat.le_of_ble_eq_true rfl) (by first | omega | (dsimp only; omega) | (show _ ≤ _; simp only []; omega)) (by first | omega | (dsimp only; omega) | (show _ ≤ _; simp only []; omega)) rfl dX1_make_4 (fun v_4 G_4 hp_4 => ?_)
  obtain ⟨rfl, e9⟩ := hp_4
  rw [e9, rg_len]
  refine jr_bipush (v := 30) hX (by decide) dX1_make_9 ?_
  refine jr_icmp_ne hX (tgt := 21) (by decide) dX1_make_11 (fun c_11 => ?_) (fun c_11 => ?_)
  · have h30 : (s_o S).length ≠ 30 := fun z => c_11 (by rw [z]; rfl)
    refine jr_aload_n (i := 0) hX rfl rfl dX1_make_21 ?_
    refine jr_get (ci := 2) (k := 1) hX (by first | assumption | exact jup_s) rfl in_X1 (by decide) q364 rfl dX1_make_22 ?_
    refine jr_ee hX (fun hE0 => ?_)
    refine jr_new (ci := 7) (fs := [.int 0, .int 0, .null]) (bc1 := 2) (bs1 := 47) hX in_X15 tyX15 tyX15_ok q1096 q1171 q101 rfl (by decide) (by omega) (by omega) dX1_make_25 (fun n_25 hn_25 hA_25 => ?_)
    refine jr_dup hX rfl dX1_make_28 ?_
    refine jr_aload_n (i := 2) hX rfl rfl dX1_make_29 ?_
    refine jr_callU (As := []) (bc1 := (2)) (bs1 := (47)) hX (met_version_f l D s0 b0 A _ (ad 8 i j) _ _ _ _ _ (jup_f hF hn_25)) (va_cwU 0 hX.ts (lw_U q1147 q1148 q1149 q1109 q98 q1110) rfl rfl rfl rfl (by decide +kernel) ⟨Nat.le_of_ble_eq_true rfl, Nat.le_of_ble_eq_true rfl⟩) (jup_f hF hn_25) rfl rfl (Nat.le_of_ble_eq_true rfl) (by first | omega | (dsimp only; omega) | (show _ ≤ _; simp only []; omega)) (by first | omega | (dsimp only; omega) | (show _ ≤ _; simp only []; omega)) rfl dX1_make_30 (fun v_30 G_30 hp_30 => ?_)
    obtain ⟨rfl, e9⟩ := hp_30
    rw [e9]
    refine jr_aload_n (i := 3) hX rfl rfl dX1_make_33 ?_
    refine jr_getN (ci := 9) (k := 2) hX (jup_f hI hn_25) rfl in_X10 (by decide) q621 rfl dX1_make_34 ?_
    refine jr_aload_n (i := 0) hX rfl rfl dX1_make_37 ?_
    refine jr_get (ci := 2) (k := 0) hX (jup_f hxx hn_25) rfl in_X1 (by decide) q363 rfl dX1_make_38 ?_
    refine jr_aload_n (i := 2) hX rfl rfl dX1_make_41 ?_
    refine jr_callU (As := []) (bc1 := (2)) (bs1 := (47)) hX (met_version_f l D s0 b0 A _ (ad 8 i j) _ _ _ _ _ (jup_f hF hn_25)) (va_cwU 0 hX.ts (lw_U q1147 q1148 q1149 q1109 q98 q1110) rfl rfl rfl rfl (by decide +kernel) ⟨Nat.le_of_ble_eq_true rfl, Nat.le_of_ble_eq_true rfl⟩) (jup_f hF hn_25) rfl rfl (Nat.le_of_ble_eq_true rfl) (by first | omega | (dsimp only; omega) | (show _ ≤ _; simp only []; omega)) (by first | omega | (dsimp only; omega) | (show _ ≤ _; simp only []; omega)) rfl dX1_make_42 (fun v_42 G_42 hp_42 => ?_)
    obtain ⟨rfl, e9⟩ := hp_42
    rw [e9]
    refine jr_callF (As := [.int (nI x.1)]) (bc1 := (2)) (bs1 := (47)) hX (met_get l D s0 b0 A _ (ad 2 0 0) (s_rg (s_m S) (fun v => ad 7 v 0)) moV capV eaV ((jNw.new hn_25).jLS hVL) x.1 (ad 7 x.1 0) (rg_at (by omega))) (va_cwF 1 hX.ts (lw_F q299 q302 q304 q68 q306) rfl rfl rfl (hX.S.fw ⟨by decide +kernel, by decide +kernel⟩ q301 q300 q305 q303 q183) (by decide +kernel) ⟨Nat.le_of_ble_eq_true rfl, Nat.le_of_ble_eq_true rfl⟩) (jup_f hVL.1 hn_25) rfl rfl (Nat.le_of_ble_eq_true rfl) (by first | omega | (dsimp only; omega) | (show _ ≤ _; simp only []; omega)) (by first | omega | (dsimp only; omega) | (show _ ≤ _; simp only []; omega)) rfl dX1_make_45 (fun v_45 G_45 hp_45 => ?_)
    obtain ⟨rfl, e9⟩ := hp_45
    rw [e9]
    refine jr_castS hX (jup_f hVV hn_25) rfl q167 dX1_make_50 ?_
    refine jr_getN (ci := 4) (k := 1) hX (jup_f hVV hn_25) rfl in_X3 (by decide) q275 rfl dX1_make_53 ?_
    refine jr_aload_n (i := 3) hX rfl rfl dX1_make_56 ?_
    refine jr_getN (ci := 9) (k := 2) hX (jup_f hI hn_25) rfl in_X10 (by decide) q621 rfl dX1_make_57 ?_
    refine jr_iald hX (jup_f hNF hn_25) (vp_in_nI hkk (by omega)) dX1_make_60 ?_
    rw [nI_clamp (by omega)]
    refine jr_newi (N := (s_ver S x.1).2.1 kk) (bc1 := 1) (bs1 := 43) hX q295 (nI_pos (by omega)) (nI_clamp (by omega)) (by omega) (by omega) (by omega) dX1_make_61 (fun q9 hq9 hq9A => ?_)
    refine jr_callI (ret := none) (As := [.int (nI x.1), .int (nI kk), .ref q9]) (bc1 := (1)) (bs1 := (43)) hX (met_ThInit l D s0 b0 A _ n_25 (nI x.1) (nI kk) q9 (jup_f jup_s hq9)) (cwI 3 hX.ts (lw_meth q1174) rfl rfl rfl (hX.ts _ q101) (hX.ts _ q1172) (hX.ts _ q1173) rfl (by decide +kernel) ⟨Nat.le_of_ble_eq_true rfl, Nat.le_of_ble_eq_true rfl⟩) rfl (Nat.le_of_ble_eq_true rfl) (by first | omega | (dsimp only; omega) | (show _ ≤ _; simp only []; omega)) (by first | omega | (dsimp only; omega) | (show _ ≤ _; simp only []; omega)) rfl dX1_make_63 (fun v_63 G_63 hp_63 => ?_)
    obtain ⟨rfl, e9⟩ := hp_63
    have hqn : q9 ≠ n_25 := fun z => by rw [z, jup_s] at hq9; cases hq9
    have hq0 : G q9 = none := by rw [jup_n hqn] at hq9; exact hq9
    have hgn : G_63 n_25 = some (jo 7 [.int (nI x.1), .int (nI kk), .ref q9]) := by rw [e9, jup_s]
    have hgq : G_63 q9 = some (ji D ((s_ver S x.1).2.1 kk) (fun _ => 0)) := by rw [e9, jup_n hqn, jup_s]
    have hgo : ∀ b, b ≠ n_25 → b ≠ q9 → G_63 b = G b := fun b z1 z2 => by rw [e9, jup_n z1, jup_n z2, jup_n z1]
    have hnw : jNw G G_63 := fun b x hb => by
      have z1 : b ≠ n_25 := fun z => by rw [z, hn_25] at hb; cases hb
      have z2 : b ≠ q9 := fun z => by rw [z, hq0] at hb; cases hb
      rw [hgo b z1 z2]; exact hb
    have hR1 := co_ad67 (n := n_25) (q := q9) (jRep.nw hR hnw) (hR.un hn_25) (hR.un hq0) hqn (by rw [hgn]; simp) (by rw [hgq]; simp) (hX.ee hA_25) (hX.ee hq9A)
    have hOL1 := hnw.jLS hOL
    refine jr_callF (As := [.ref n_25]) (bc1 := (0)) (bs1 := (0)) hX (met_add l D s0 b0 A _ (ad 2 1 0) (s_rg (s_o S).length (fun v => ad 16 v 0)) moO capO eaO hOL1 (ob_th (jRep.nw hR hnw)) n_25 (ob_o hgn (r := (RX15, TX15, 3)) rfl q2237) 1 43 (by omega) (fun hz => ⟨by omega, by rw [rg_len] at hz; have h9 := hOL.2.2.2; unfold jgw; split <;> omega⟩)) (va_cwF 1 hX.ts (lw_F q297 q184 q186 q68 q188) rfl rfl rfl (hX.S.fw ⟨by decide +kernel, by decide +kernel⟩ q182 q181 q187 q185 q183) (by decide +kernel) ⟨Nat.le_of_ble_eq_true rfl, Nat.le_of_ble_eq_true rfl⟩) hOL1.1 rfl rfl (Nat.le_of_ble_eq_true rfl) (by first | omega | (dsimp only; omega) | (show _ ≤ _; simp only []; omega)) (by first | omega | (dsimp only; omega) | (show _ ≤ _; simp only []; omega)) rfl dX1_make_66 (fun v_66 G_66 hp_66 => ?_)
    obtain ⟨rfl, hU⟩ := hp_66
    refine jr_ee hX (fun hE1 => ?_)
    have hlast : (jas (jas ad 16 (s_o S).length 0 n_25) 17 (s_o S).length 0 q9) 16 (s_o S).length 0 = n_25 := by rw [jas_n (fun z => by omega), jas_s]
    have hsame : ∀ v, v < (s_o S).length → (jas (jas ad 16 (s_o S).length 0 n_25) 17 (s_o S).length 0 q9) 16 v 0 = ad 16 v 0 := fun v hv9 => by rw [jas_n (fun z => by omega), jas_n (fun z => by omega)]
    rw [show s_rg (s_o S).length (fun v => ad 16 v 0) ++ [n_25] = s_rg (s_o S ++ [(x.1, kk, fun _ => 0)]).length (fun v => (jas (jas ad 16 (s_o S).length 0 n_25) 17 (s_o S).length 0 q9) 16 v 0) by
      rw [List.length_append, List.length_singleton, ← rg_ap (f := fun v => ad 16 v 0) hsame, hlast]] at hU
    have hE01 : G_63 (jEE s0 b0) = none := by
      rw [hgo _ (fun z => hX.ee hA_25 z.symm) (fun z => hX.ee hq9A z.symm)]
      exact hE0
    have hcap1 : (if (s_rg (s_o S).length (fun v => ad 16 v 0)).length = capO then jgw capO (capO + 1) else capO) ≤ 200 := by
      rw [rg_len]
      have h9 := hOL.2.2.2
      split
      · unfold jgw; split <;> omega
      · exact hOc
    obtain ⟨T2, hR2, hfm2⟩ := co_tps (fs := s_o S ++ [(x.1, kk, fun _ => 0)]) hR1 hE1 (mo := moO) (cap := capO) (ea := eaO) (by
        rw [show s_rg (s_o S).length (fun v => (jas (jas ad 16 (s_o S).length 0 n_25) 17 (s_o S).length 0 q9) 16 v 0) = s_rg (s_o S).length (fun v => ad 16 v 0) from List.map_congr_left fun v hv9 => hsame v (List.mem_range.mp hv9)]
        exact hOL1) (fun hc9 => by
        have ht := hOt hc9
        rw [jTs_n, jTs_n]
        · exact ht
        · intro z; rw [z] at ht; have := hR.un hn_25; rw [ht] at this; cases this
        · intro z; rw [z] at ht; have := hR.un hq0; rw [ht] at this; cases this) hU hcap1 (fun j9 x9 hx9 => by
        by_cases hj : j9 < (s_o S).length
        · rw [List.getElem?_append_left hj] at hx9; exact Or.inl hx9
        · have hjl := lt_ofl hx9
          rw [List.length_append, List.length_singleton] at hjl
          have ej : j9 = (s_o S).length := by omega
          subst ej
          rw [List.getElem?_append_right (Nat.le_refl _), Nat.sub_self] at hx9
          have ex := Option.some.inj hx9
          subst ex
          rw [hlast, jas_s]
          exact Or.inr ⟨by rw [jTs_n (Ne.symm hqn), jTs_s], hgn, jTs_s, hgq⟩)
    have hF2 := co_fr hR2 hi3 hx
    have hL2 := co_loc hR2 hi3 hx
    have hxx2 := co_x hR2
    obtain ⟨moP, capP, eaP, hPL, -, hPc, -⟩ := co_ths hR2
    have hI2 : G_66 (ad 20 q 0) = some (jo 9 [.ref (jCd s0 b0 (s_ins S q).1), .int (nI aa), .int (nI kk), .int (s_nc (s_ins S q).1 (s_ins S q).2.2.2)]) := by
      have h9 := co_ins hR2 hq
      have e1 : (jas (jas ad 16 (s_o S).length 0 n_25) 17 (s_o S).length 0 q9) 20 q 0 = ad 20 q 0 := by rw [jas_n (fun z => by omega), jas_n (fun z => by omega)]
      rw [e1] at h9
      rw [h9]
      show some (jIn s0 b0 (s_ins S q)) = _
      unfold jIn
      rw [haa, hbb, show s_nb (s_ins S q).1 (nI kk) = nI kk by unfold s_nb; rw [if_neg (by omega)]]
    have hlp : (s_o (sw_o S (s_o S ++ [(x.1, kk, fun _ => 0)]))).length = (s_o S).length + 1 := by show (s_o S ++ [_]).length = _; rw [List.length_append]; rfl
    refine jr_pop hX rfl dX1_make_71 ?_
    refine jr_aload_n (i := 2) hX rfl rfl dX1_make_72 ?_
    refine jr_getN (ci := 6) (k := 3) hX hF2 rfl in_X13 (by decide) q971 rfl dX1_make_73 ?_
    refine jr_aload_n (i := 3) hX rfl rfl dX1_make_76 ?_
    refine jr_getN (ci := 9) (k := 1) hX hI2 rfl in_X10 (by decide) q616 rfl dX1_make_77 ?_
    refine jr_aload_n (i := 0) hX rfl rfl dX1_make_80 ?_
    refine jr_get (ci := 2) (k := 1) hX hxx2 rfl in_X1 (by decide) q364 rfl dX1_make_81 ?_
    refine jr_callF (As := []) (bc1 := (0)) (bs1 := (0)) hX (met_size l D s0 b0 A _ _ _ moP capP eaP hPL) (va_cwF 0 hX.ts (lw_F q405 q408 q410 q68 q412) rfl rfl rfl (hX.S.fw ⟨by decide +kernel, by decide +kernel⟩ q407 q406 q411 q409 q183) (by decide +kernel) ⟨Nat.le_of_ble_eq_true rfl, Nat.le_of_ble_eq_true rfl⟩) hPL.1 rfl rfl (Nat.le_of_ble_eq_true rfl) (by first | omega | (dsimp only; omega) | (show _ ≤ _; simp only []; omega)) (by first | omega | (dsimp only; omega) | (show _ ≤ _; simp only []; omega)) rfl dX1_make_84 (fun v_84 G_84 hp_84 => ?_)
    obtain ⟨rfl, e9⟩ := hp_84
    rw [e9, rg_len, hlp]
    refine jr_iconst (v := 1) hX rfl dX1_make_89 ?_
    refine jr_isub hX dX1_make_90 ?_
    rw [nI_s1 (by omega), Nat.add_sub_cancel]
    refine jr_iast hX hL2 (vp_in_nI ha4 (by omega)) dX1_make_91 ?_
    rw [nI_clamp (by omega)]
    refine jr_vret hX hlk hr ⟨rfl, (jas (jas ad 16 (s_o S).length 0 n_25) 17 (s_o S).length 0 q9), T2, ?_, ?_, fun k9 i9 j9 hk => ?_⟩ dX1_make_92
    · unfold s_mk
      rw [if_neg h30]
      exact co_wloc hR2 hi3 hx (upd x.2.2.2.1 aa (nI (s_o S).length))
    · refine jFm.trans (T1 := T2) ?_ (jFm.put ?_)
      · intro b hb hk
        have z1 : b ≠ n_25 := fun z => hb (by rw [z]; exact hn_25)
        have z2 : b ≠ q9 := fun z => hb (by rw [z]; exact hq0)
        have hb1 : G_63 b ≠ none := by rw [hgo b z1 z2]; exact hb
        have h9 := co_fm (by omega) hE01 hfm2 b hb1 (by rw [jTs_n z2, jTs_n z1]; exact hk)
        rw [jTs_n z2, jTs_n z1, hgo b z1 z2] at h9
        exact h9
      · rw [hR2.t (k := 9) (i := i) (j := j) (s := .inl _) (by show (if i < 3 then Option.map _ ((s_s S i).2[j]?) else none) = _; rw [if_pos hi3, hx]; rfl)]
        exact ⟨(by show 1 ≤ 9 % 100; omega), (by show 9 % 100 < 30; omega)⟩
    · rw [jas_n (fun z => hk ⟨Or.inr z.1, z.2⟩), jas_n (fun z => hk ⟨Or.inl z.1, z.2⟩)]
  · have h30 : (s_o S).length = 30 := (nI_eq (by omega) (by omega)).mp c_11
    refine jr_aload_n (i := 1) hX rfl rfl dX1_make_14 ?_
    refine jr_bipush (v := 102) hX (by decide) dX1_make_15 ?_
    refine jr_callV (As := [.int 102]) (bc1 := (3)) (bs1 := (50)) hX (met_send l D s0 b0 A _ S ad T hR i hi3 102 (by omega)) (cwV 1 hX.ts (lw_V q951 q952 q953 q69 q954) rfl rfl rfl (by decide +kernel) ⟨Nat.le_of_ble_eq_true rfl, Nat.le_of_ble_eq_true rfl⟩) hst rfl rfl (Nat.le_of_ble_eq_true rfl) (by first | omega | (dsimp only; omega) | (show _ ≤ _; simp only []; omega)) (by first | omega | (dsimp only; omega) | (show _ ≤ _; simp only []; omega)) rfl dX1_make_17 (fun v_17 G_17 hp_17 => ?_)
    obtain ⟨rfl, T1, hR1, hfm⟩ := hp_17
    exact jr_vret hX hlk hr ⟨rfl, ad, T1, by unfold s_mk; rw [if_pos h30]; exact hR1, hfm, fun _ _ _ _ => rfl⟩ dX1_make_20
