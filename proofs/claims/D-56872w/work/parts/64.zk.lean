/-! a strand's step -/
theorem nd_len : ∀ (n : Nat) (L : List Nat), L.Nodup → (∀ q ∈ L, q < n) → L.length ≤ n := by
  intro n
  induction n with
  | zero =>
    intro L _ h
    cases L with
    | nil => exact Nat.le_refl _
    | cons a r => exact absurd (h a List.mem_cons_self) (Nat.not_lt_zero _)
  | succ n ih =>
    intro L hn h
    by_cases hm : n ∈ L
    · have h1 := ih (L.erase n) (hn.erase n) (fun q hq => by
        have h2 := hn.mem_erase_iff.mp hq
        have h3 := h q h2.2
        have h4 := h2.1
        omega)
      rw [List.length_erase_of_mem hm] at h1
      omega
    · have h1 := ih L hn (fun q hq => by
        have h3 := h q hq
        have h4 : q ≠ n := fun z => hm (by rw [← z]; exact hq)
        omega)
      omega
theorem sW_ql {S : sSt} (h : sW S) : (s_q S).length ≤ (s_c S).length := nd_len _ _ h.2.2.2.2.2.1.1 h.2.2.2.2.2.1.2.1
/-- a strand's step, but for the looks -/
def s_stp (S : sSt) (i : Nat) : sSt := match (s_s S i).2[(s_s S i).2.length - 1]? with
  | none => S
  | some x => match ((s_ver S x.1).1 x.2.1)[x.2.2.2.2]? with
    | none => s_gb (sw_n S (s_n S + 1)) i 0
    | some q => s_act (s_fw (sw_n S (s_n S + 1)) i ((s_s S i).2.length - 1) (x.1, x.2.1, x.2.2.1, x.2.2.2.1, x.2.2.2.2 + 1)) i ((s_s S i).2.length - 1) (x.1, x.2.1, x.2.2.1, x.2.2.2.1, x.2.2.2.2 + 1) (s_ins S q)
def s_one (S : sSt) (i : Nat) : sSt := s_giveUp (s_look (s_stp S i))
theorem stp_W {S : sSt} {i : Nat} (h : sW S) (hi : i < 3) (hn : s_n S + 51 < 1000000) : sW (s_stp S i) := by
  unfold s_stp
  cases hx : (s_s S i).2[(s_s S i).2.length - 1]? with
  | none => exact h
  | some x =>
    have hxa := (h.2.2.1 i hi).2.2 _ x hx
    have hmm : s_m S = (s_v S).length - 1 := rfl
    have h1 : sW (sw_n S (s_n S + 1)) := h
    show sW (match ((s_ver S x.1).1 x.2.1)[x.2.2.2.2]? with
      | none => s_gb (sw_n S (s_n S + 1)) i 0
      | some q => _)
    cases hq : ((s_ver S x.1).1 x.2.1)[x.2.2.2.2]? with
    | none => exact sW_gb h1 hi
    | some q =>
      have hv := (h.2.1.2.2 x.1 (by omega)).1 x.2.1 hxa.2.1
      have hqp := hv.2 q (List.mem_of_getElem? hq)
      have hpl := lt_ofl hq
      have h2 : sW (s_fw (sw_n S (s_n S + 1)) i ((s_s S i).2.length - 1) (x.1, x.2.1, x.2.2.1, x.2.2.2.1, x.2.2.2.2 + 1)) := sW_fw h1 hi hx ⟨hxa.1, hxa.2.1, hxa.2.2.1, by show x.2.2.2.2 + 1 ≤ 10; omega⟩
      refine act_W (S := s_fw (sw_n S (s_n S + 1)) i ((s_s S i).2.length - 1) (x.1, x.2.1, x.2.2.1, x.2.2.2.1, x.2.2.2.2 + 1)) (q := q) h2 hi ?_ hqp (by show s_n S + 1 + 50 < 1000000; omega)
      show (sup (s_s S) i _ i).2[(s_s S i).2.length - 1]? = _
      rw [sup_s]
      exact List.getElem?_set_self (lt_ofl hx)
theorem stp_ad {S : sSt} {i : Nat} (hx : 0 < (s_s S i).2.length) : s_ad (sw_n S (s_n S + 1)) (s_stp S i) := by
  unfold s_stp
  rw [List.getElem?_eq_getElem (show (s_s S i).2.length - 1 < (s_s S i).2.length by omega)]
  generalize (s_s S i).2[(s_s S i).2.length - 1]'(by omega) = x
  show s_ad _ (match ((s_ver S x.1).1 x.2.1)[x.2.2.2.2]? with
      | none => s_gb (sw_n S (s_n S + 1)) i 0
      | some q => _)
  cases ((s_ver S x.1).1 x.2.1)[x.2.2.2.2]? with
  | none => exact kq_gb.ad
  | some q => exact act_ad (S := s_fw (sw_n S (s_n S + 1)) i ((s_s S i).2.length - 1) (x.1, x.2.1, x.2.2.1, x.2.2.2.1, x.2.2.2.2 + 1))
/-- a step's sums -/
theorem one_m {S : sSt} {i : Nat} (hx : 0 < (s_s S i).2.length) : s_cq (s_one S i) + ((s_q (s_stp S i)).length - (s_q (s_one S i)).length) = s_cq (s_stp S i) ∧ s_cq (s_stp S i) ≤ s_cq S ∧ s_cc (s_one S i) ≤ s_cc S ∧ s_n (s_one S i) = s_n S + 1 ∧ (s_u (s_one S i)).length ≤ (s_u S).length + 1 ∧ s_k (s_one S i) = s_k (s_stp S i) ∧ s_k S ≤ s_k (s_one S i) ∧ (sWk S → sWk (s_one S i)) ∧ s_v (s_one S i) = s_v S ∧ s_i (s_one S i) = s_i S ∧ (s_q (s_one S i)).length ≤ (s_q (s_look (s_stp S i))).length ∧ (s_q (s_look (s_stp S i))).length ≤ (s_q (s_stp S i)).length := by
  obtain ⟨a1, a2, a3, a4, a5, a6, a7, a8, a9, -, -⟩ := stp_ad hx
  have hk := (look_kp (s_stp S i)).tr (giveUp_kp (s_look (s_stp S i)))
  obtain ⟨k1, -, -, -, k5, k6, -, k8, k9, k10, k11⟩ := hk
  have l1 := look_len (s_stp S i)
  have l2 := giveUp_len (s_look (s_stp S i))
  have hw : s_w (s_one S i) = s_w (s_stp S i) := k6
  have hc : (s_c (s_one S i)).length = (s_c (s_stp S i)).length := k5
  have hu : s_u (s_one S i) = s_u (s_stp S i) := k8
  have hkk : s_k (s_one S i) = s_k (s_stp S i) := k9
  refine ⟨?_, a1, ?_, ?_, ?_, hkk, ?_, ?_, ?_, ?_, l2, l1⟩
  · unfold s_cq
    rw [hw]
    have l3 : (s_q (s_one S i)).length ≤ (s_q (s_stp S i)).length := Nat.le_trans l2 l1
    omega
  · unfold s_cc at a2 ⊢
    rw [hw, hc]
    exact a2
  · have : s_n (s_one S i) = s_n (s_stp S i) := k10
    rw [this, a3]
  · rw [hu]; exact a4
  · rw [hkk]; exact a5
  · intro z
    have z2 := a6 z
    unfold sWk at z2 ⊢
    rw [hu, hkk]
    exact z2
  · exact k1.trans a7
  · exact k11.trans a9
theorem one_W {S : sSt} {i : Nat} (h : sW S) (hi : i < 3) (hn : s_n S + 51 < 1000000) : sW (s_one S i) := giveUp_W (look_W (stp_W h hi hn))

set_option maxHeartbeats 4000000 in
set_option maxRecDepth 100000 in
theorem met_stepS (l : Launch) (D : va_G) (s0 : State) (b0 : Nat) (A : Nat → Prop) (G : jG) (S : sSt) (ad : jN) (T : jT) (hR : jCo D s0 b0 S ad T G) (hW : sW S) (hk : sWk S) (hu : (s_u S).length < 6400) (hcc : s_cc S < 99) (hn : s_n S < 900000) (i : Nat) (hi3 : i < 3) (hne : 0 < (s_s S i).2.length) : jM l yX1_step_2 (ws_ yX1_step_2 cX1_step_2 4 none) (jR 15 ((63 + 207 * (s_cq S - s_cq (s_one S i)))) ((628 + 826 * (s_cq S - s_cq (s_one S i)) + 4 * (s_k (s_one S i) - s_k S)))) D s0 b0 A G [.ref (ad 1 0 0), .ref (ad 5 i 0)] (fun w G1 => w = none ∧ ∃ (ad1 : jN) (T1 : jT), jCo D s0 b0 (s_one S i) ad1 T1 G1 ∧ jFm 1 30 T G T1 G1 ∧ ∀ k i j, k < 8 → ad1 k i j = ad k i j) := by
  have hxx := co_x hR
  obtain ⟨h1i, h2v, h3s, h4o, h5p, h6c, h7l, h8t⟩ := id hW
  have hmm : s_m S = (s_v S).length - 1 := rfl
  have hvu := h2v.2.1
  have hm := one_m (i := i) hne
  have hW2 := stp_W (i := i) hW hi3 (by omega)
  have had := stp_ad (i := i) hne
  have hn3 : s_n (s_look (s_stp S i)) < 1000000 := by
    rw [(look_kp (s_stp S i)).2.2.2.2.2.2.2.2.2.1, had.2.2.1]
    show s_n S + 1 < 1000000
    omega
  have hcS : (s_c S).length ≤ s_cc S := Nat.le_add_right _ _
  have hqS := sW_ql hW
  have hc3 : (s_c (s_look (s_stp S i))).length < 999 := by
    rw [(look_kp (s_stp S i)).2.2.2.2.1]
    have := had.2.2.2.2.2.2.2.2.2.2
    have h9 : (s_c (s_stp S i)).length ≤ (s_c S).length + 1 := this
    omega
  have hk13 : s_k S < 13000 := by have := hk.2.2; omega
  obtain ⟨x, hx⟩ : ∃ x, (s_s S i).2[(s_s S i).2.length - 1]? = some x := ⟨_, List.getElem?_eq_getElem (by omega)⟩
  obtain ⟨hs1, hs2, hs3⟩ := h3s i hi3
  have hxa := hs3 _ x hx
  have hR1 : jCo D s0 b0 (sw_n S (s_n S + 1)) ad T _ := co_wn hR (s_n S + 1)
  have hF := co_fr hR1 hi3 hx
  have hSt := co_str hR1 hi3
  have hF1 := jFm.pt (T := T) (G := G) (lo := 1) (hi := 30) (c := jo 2 [.ref (ad 2 0 0), .ref (ad 2 1 0), .ref (ad 3 0 0), .ref (ad 2 2 0), .ref (ad 2 3 0), .ref (ad 2 4 0), .ref (ad 4 0 0), .ref (ad 7 (s_m S) 0), .int (nI (s_p S)), .int (s_l S), .int (jbz (s_w S)), .long (lN (s_n S + 1))]) (co_t1 hR) (by decide)
  have hxv : x.1 < (s_v S).length := by omega
  obtain ⟨moV, capV, eaV, hVL, -, -, -⟩ := co_vs hR1
  obtain ⟨moF, capF, eaF, hFL, -, -, -⟩ := co_fns hR1 hxv
  obtain ⟨moI, capI, eaI, hIL, -, -, -⟩ := co_fn hR1 hxv hxa.2.1
  have hVr := co_ver hR1 hxv
  have hxl : (((s_ver S x.1).1 x.2.1).map (fun q => ad 20 q 0)).length = ((s_ver S x.1).1 x.2.1).length := List.length_map _
  have hfl := ((h2v.2.2 x.1 hxv).1 x.2.1 hxa.2.1)
  refine jM.of (by decide +kernel) (own := RX1) rfl (Nat.le_of_ble_eq_true rfl) ?_
  intro p e s m args below meth c hX hr hlk hnm
  refine jr_aload_n (i := 0) hX rfl rfl dX1_step_2_0 ?_
  refine jr_dup hX rfl dX1_step_2_1 ?_
  refine jr_get (ci := 2) (k := 11) hX hxx rfl in_X1 (by decide) q374 rfl dX1_step_2_2 ?_
  refine jr_lconst (v := 1) hX rfl dX1_step_2_5 ?_
  refine jr_ladd hX dX1_step_2_6 ?_
  rw [show lN (s_n S) + (1 : Int64) = lN (s_n S + 1) from lN_1 _]
  refine jr_put (ci := 2) (k := 11) hX hxx rfl in_X1 (by decide) tyX1 tyX1_ok nmX1 q374 rfl (by first | rfl | assumption) (by first | rfl | assumption) (Nat.le_of_ble_eq_true rfl) dX1_step_2_7 ?_
  refine jr_aload_n (i := 1) hX rfl rfl dX1_step_2_10 ?_
  refine jr_callV (As := []) (bc1 := ((63 + 207 * (s_cq S - s_cq (s_one S i))))) (bs1 := ((628 + 826 * (s_cq S - s_cq (s_one S i)) + 4 * (s_k (s_one S i) - s_k S)))) hX (met_slatest l D s0 b0 A _ (sw_n S (s_n S + 1)) ad T hR1 i hi3 x hx hs2) (cwV 0 hX.ts (lw_V q1138 q1139 q1140 q69 q1141) rfl rfl rfl (by decide +kernel) ⟨Nat.le_of_ble_eq_true rfl, Nat.le_of_ble_eq_true rfl⟩) hSt rfl rfl (Nat.le_of_ble_eq_true rfl) (by first | omega | (dsimp only; omega) | (show _ ≤ _; simp only []; omega)) (by first | omega | (dsimp only; omega) | (show _ ≤ _; simp only []; omega)) rfl dX1_step_2_11 (fun v_11 G_11 hp_11 => ?_)
  obtain ⟨rfl, e9⟩ := hp_11
  rw [e9]
  refine jr_astore_n (i := 2) hX rfl (by decide) rfl dX1_step_2_14 ?_
  refine jr_aload_n (i := 0) hX rfl rfl dX1_step_2_15 ?_
  refine jr_get (ci := 2) (k := 0) hX (co_x hR1) rfl in_X1 (by decide) q363 rfl dX1_step_2_16 ?_
  refine jr_aload_n (i := 2) hX rfl rfl dX1_step_2_19 ?_
  refine jr_callU (As := []) (bc1 := ((63 + 207 * (s_cq S - s_cq (s_one S i))))) (bs1 := ((628 + 826 * (s_cq S - s_cq (s_one S i)) + 4 * (s_k (s_one S i) - s_k S)))) hX (met_version_f l D s0 b0 A _ (ad 8 i ((s_s S i).2.length - 1)) _ _ _ _ _ hF) (va_cwU 0 hX.ts (lw_U q1147 q1148 q1149 q1109 q98 q1110) rfl rfl rfl rfl (by decide +kernel) ⟨Nat.le_of_ble_eq_true rfl, Nat.le_of_ble_eq_true rfl⟩) hF rfl rfl (Nat.le_of_ble_eq_true rfl) (by first | omega | (dsimp only; omega) | (show _ ≤ _; simp only []; omega)) (by first | omega | (dsimp only; omega) | (show _ ≤ _; simp only []; omega)) rfl dX1_step_2_20 (fun v_20 G_20 hp_20 => ?_)
  obtain ⟨rfl, e9⟩ := hp_20
  rw [e9]
  refine jr_callF (As := [.int (nI x.1)]) (bc1 := ((63 + 207 * (s_cq S - s_cq (s_one S i))))) (bs1 := ((628 + 826 * (s_cq S - s_cq (s_one S i)) + 4 * (s_k (s_one S i) - s_k S)))) hX (met_get l D s0 b0 A _ (ad 2 0 0) (s_rg (s_m S) (fun v => ad 7 v 0)) moV capV eaV hVL x.1 (ad 7 x.1 0) (rg_at (by omega))) (va_cwF 1 hX.ts (lw_F q299 q302 q304 q68 q306) rfl rfl rfl (hX.S.fw ⟨by decide +kernel, by decide +kernel⟩ q301 q300 q305 q303 q183) (by decide +kernel) ⟨Nat.le_of_ble_eq_true rfl, Nat.le_of_ble_eq_true rfl⟩) hVL.1 rfl rfl (Nat.le_of_ble_eq_true rfl) (by first | omega | (dsimp only; omega) | (show _ ≤ _; simp only []; omega)) (by first | omega | (dsimp only; omega) | (show _ ≤ _; simp only []; omega)) rfl dX1_step_2_23 (fun v_23 G_23 hp_23 => ?_)
  obtain ⟨rfl, e9⟩ := hp_23
  rw [e9]
  refine jr_castS hX hVr rfl q167 dX1_step_2_28 ?_
  refine jr_getN (ci := 4) (k := 0) hX hVr rfl in_X3 (by decide) q273 rfl dX1_step_2_31 ?_
  refine jr_aload_n (i := 2) hX rfl rfl dX1_step_2_34 ?_
  refine jr_getN (ci := 6) (k := 1) hX hF rfl in_X13 (by decide) q967 rfl dX1_step_2_35 ?_
  refine jr_callF (As := [.int (nI x.2.1)]) (bc1 := ((63 + 207 * (s_cq S - s_cq (s_one S i))))) (bs1 := ((628 + 826 * (s_cq S - s_cq (s_one S i)) + 4 * (s_k (s_one S i) - s_k S)))) hX (met_get l D s0 b0 A _ (ad 10 x.1 0) (s_rg 5 (fun f => ad 11 x.1 f)) moF capF eaF hFL x.2.1 (ad 11 x.1 x.2.1) (rg_at hxa.2.1)) (va_cwF 1 hX.ts (lw_F q299 q302 q304 q68 q306) rfl rfl rfl (hX.S.fw ⟨by decide +kernel, by decide +kernel⟩ q301 q300 q305 q303 q183) (by decide +kernel) ⟨Nat.le_of_ble_eq_true rfl, Nat.le_of_ble_eq_true rfl⟩) hFL.1 rfl rfl (Nat.le_of_ble_eq_true rfl) (by first | omega | (dsimp only; omega) | (show _ ≤ _; simp only []; omega)) (by first | omega | (dsimp only; omega) | (show _ ≤ _; simp only []; omega)) rfl dX1_step_2_38 (fun v_38 G_38 hp_38 => ?_)
  obtain ⟨rfl, e9⟩ := hp_38
  rw [e9]
  refine jr_castY hX hIL.1 rfl q583 q183 dX1_step_2_43 ?_
  refine jr_astore_n (i := 3) hX rfl (by decide) rfl dX1_step_2_46 ?_
  refine jr_aload_n (i := 2) hX rfl rfl dX1_step_2_47 ?_
  refine jr_getN (ci := 6) (k := 4) hX hF rfl in_X13 (by decide) q973 rfl dX1_step_2_48 ?_
  refine jr_aload_n (i := 3) hX rfl rfl dX1_step_2_51 ?_
  refine jr_callF (As := []) (bc1 := ((63 + 207 * (s_cq S - s_cq (s_one S i))))) (bs1 := ((628 + 826 * (s_cq S - s_cq (s_one S i)) + 4 * (s_k (s_one S i) - s_k S)))) hX (met_size l D s0 b0 A _ (ad 11 x.1 x.2.1) (((s_ver S x.1).1 x.2.1).map (fun q => ad 20 q 0)) moI capI eaI hIL) (va_cwF 0 hX.ts (lw_F q405 q408 q410 q68 q412) rfl rfl rfl (hX.S.fw ⟨by decide +kernel, by decide +kernel⟩ q407 q406 q411 q409 q183) (by decide +kernel) ⟨Nat.le_of_ble_eq_true rfl, Nat.le_of_ble_eq_true rfl⟩) hIL.1 rfl rfl (Nat.le_of_ble_eq_true rfl) (by first | omega | (dsimp only; omega) | (show _ ≤ _; simp only []; omega)) (by first | omega | (dsimp only; omega) | (show _ ≤ _; simp only []; omega)) rfl dX1_step_2_52 (fun v_52 G_52 hp_52 => ?_)
  obtain ⟨rfl, e9⟩ := hp_52
  rw [e9, hxl]
  refine jr_icmp_lt hX (tgt := 69) (by decide) dX1_step_2_57 (fun c_57 => ?_) (fun c_57 => ?_)
  · have hpl : x.2.2.2.2 < ((s_ver S x.1).1 x.2.1).length := (nI_ltI (by omega) (by omega)).mp c_57
    obtain ⟨q, hqs⟩ : ∃ q, ((s_ver S x.1).1 x.2.1)[x.2.2.2.2]? = some q := ⟨_, List.getElem?_eq_getElem hpl⟩
    have hqp : q < (s_i S).length := hfl.2 q (List.mem_of_getElem? hqs)
    have hRB : jCo D s0 b0 (s_fw (sw_n S (s_n S + 1)) i ((s_s S i).2.length - 1) (x.1, x.2.1, x.2.2.1, x.2.2.2.1, x.2.2.2.2 + 1)) ad T _ := co_wfr (y := (x.1, x.2.1, x.2.2.1, x.2.2.2.1, x.2.2.2.2 + 1)) hR1 hi3 hx rfl
    have hxB : (s_s (s_fw (sw_n S (s_n S + 1)) i ((s_s S i).2.length - 1) (x.1, x.2.1, x.2.2.1, x.2.2.2.1, x.2.2.2.2 + 1)) i).2[(s_s S i).2.length - 1]? = some (x.1, x.2.1, x.2.2.1, x.2.2.2.1, x.2.2.2.2 + 1) := by
      show (sup (s_s S) i _ i).2[(s_s S i).2.length - 1]? = _
      rw [sup_s]
      exact List.getElem?_set_self (lt_ofl hx)
    have hWB : sW (s_fw (sw_n S (s_n S + 1)) i ((s_s S i).2.length - 1) (x.1, x.2.1, x.2.2.1, x.2.2.2.1, x.2.2.2.2 + 1)) := sW_fw (S := sw_n S (s_n S + 1)) hW hi3 hx ⟨hxa.1, hxa.2.1, hxa.2.2.1, by show x.2.2.2.2 + 1 ≤ 10; omega⟩
    obtain ⟨moB, capB, eaB, hBL, -, -, -⟩ := co_fn hRB hxv hxa.2.1
    have eS : s_stp S i = s_act (s_fw (sw_n S (s_n S + 1)) i ((s_s S i).2.length - 1) (x.1, x.2.1, x.2.2.1, x.2.2.2.1, x.2.2.2.2 + 1)) i ((s_s S i).2.length - 1) (x.1, x.2.1, x.2.2.1, x.2.2.2.1, x.2.2.2.2 + 1) (s_ins S q) := by
      unfold s_stp
      rw [hx]
      show (match ((s_ver S x.1).1 x.2.1)[x.2.2.2.2]? with
          | none => s_gb (sw_n S (s_n S + 1)) i 0
          | some q => _) = _
      rw [hqs]
    have hFB := hF1.trans (jFm.pt (T := T) (lo := 1) (hi := 30) (c := jo 6 [.int (nI x.1), .int (nI x.2.1), .int (nI x.2.2.1), .ref (ad 9 i ((s_s S i).2.length - 1)), .int (nI (x.2.2.2.2 + 1))]) (hR1.t (k := 8) (i := i) (j := ((s_s S i).2.length - 1)) (s := .inl _) (by show (if i < 3 then Option.map _ ((s_s S i).2[_]?) else none) = _; rw [if_pos hi3, hx]; rfl)) (by decide))
    have hkS : s_k (s_act (s_fw (sw_n S (s_n S + 1)) i ((s_s S i).2.length - 1) (x.1, x.2.1, x.2.2.1, x.2.2.2.1, x.2.2.2.2 + 1)) i ((s_s S i).2.length - 1) (x.1, x.2.1, x.2.2.1, x.2.2.2.1, x.2.2.2.2 + 1) (s_ins S q)) = s_k (s_stp S i) := by rw [eS]
    refine jr_aload_n (i := 2) hX rfl rfl dX1_step_2_69 ?_
    refine jr_dup hX rfl dX1_step_2_70 ?_
    refine jr_getN (ci := 6) (k := 4) hX hF rfl in_X13 (by decide) q973 rfl dX1_step_2_71 ?_
    refine jr_iconst (v := 1) hX rfl dX1_step_2_74 ?_
    refine jr_iadd hX dX1_step_2_75 ?_
    rw [nI_1]
    refine jr_putN (ci := 6) (k := 4) hX hF rfl in_X13 (by decide) tyX13 tyX13_ok nmX13 q973 rfl (by first | rfl | assumption) (by first | rfl | assumption) (Nat.le_of_ble_eq_true rfl) dX1_step_2_76 ?_
    refine jr_aload_n (i := 0) hX rfl rfl dX1_step_2_79 ?_
    refine jr_aload_n (i := 1) hX rfl rfl dX1_step_2_80 ?_
    refine jr_aload_n (i := 2) hX rfl rfl dX1_step_2_81 ?_
    refine jr_aload_n (i := 3) hX rfl rfl dX1_step_2_82 ?_
    refine jr_aload_n (i := 2) hX rfl rfl dX1_step_2_83 ?_
    refine jr_getN (ci := 6) (k := 4) hX (co_fr hRB hi3 hxB) rfl in_X13 (by decide) q973 rfl dX1_step_2_84 ?_
    refine jr_iconst (v := 1) hX rfl dX1_step_2_87 ?_
    refine jr_isub hX dX1_step_2_88 ?_
    rw [nI_pred]
    refine jr_callF (As := [.int (nI x.2.2.2.2)]) (bc1 := ((63 + 207 * (s_cq S - s_cq (s_one S i))))) (bs1 := ((628 + 826 * (s_cq S - s_cq (s_one S i)) + 4 * (s_k (s_one S i) - s_k S)))) hX (met_get l D s0 b0 A _ (ad 11 x.1 x.2.1) (((s_ver S x.1).1 x.2.1).map (fun q => ad 20 q 0)) moB capB eaB hBL x.2.2.2.2 (ad 20 q 0) (by rw [List.getElem?_map, hqs]; rfl)) (va_cwF 1 hX.ts (lw_F q299 q302 q304 q68 q306) rfl rfl rfl (hX.S.fw ⟨by decide +kernel, by decide +kernel⟩ q301 q300 q305 q303 q183) (by decide +kernel) ⟨Nat.le_of_ble_eq_true rfl, Nat.le_of_ble_eq_true rfl⟩) hBL.1 rfl rfl (Nat.le_of_ble_eq_true rfl) (by first | omega | (dsimp only; omega) | (show _ ≤ _; simp only []; omega)) (by first | omega | (dsimp only; omega) | (show _ ≤ _; simp only []; omega)) rfl dX1_step_2_89 (fun v_89 G_89 hp_89 => ?_)
    obtain ⟨rfl, e9⟩ := hp_89
    rw [e9]
    refine jr_castS hX (co_ins hRB hqp) rfl q602 dX1_step_2_94 ?_
    have hbd : 207 * (s_cq S - s_cq (s_one S i)) ≥ 207 * ((s_q (s_stp S i)).length - (s_q (s_one S i)).length) := by omega
    have hbk : s_k (s_act (s_fw (sw_n S (s_n S + 1)) i ((s_s S i).2.length - 1) (x.1, x.2.1, x.2.2.1, x.2.2.2.1, x.2.2.2.2 + 1)) i ((s_s S i).2.length - 1) (x.1, x.2.1, x.2.2.1, x.2.2.2.1, x.2.2.2.2 + 1) (s_ins (s_fw (sw_n S (s_n S + 1)) i ((s_s S i).2.length - 1) (x.1, x.2.1, x.2.2.1, x.2.2.2.1, x.2.2.2.2 + 1)) q)) - s_k (s_fw (sw_n S (s_n S + 1)) i ((s_s S i).2.length - 1) (x.1, x.2.1, x.2.2.1, x.2.2.2.1, x.2.2.2.2 + 1)) = s_k (s_one S i) - s_k S := by rw [hm.2.2.2.2.2.1, eS]
    refine jr_callV (As := [.ref (ad 5 i 0), .ref (ad 8 i ((s_s S i).2.length - 1)), .ref (ad 20 q 0)]) (bc1 := (58 + 207 * ((s_q (s_stp S i)).length - (s_q (s_one S i)).length))) (bs1 := (228 + 826 * ((s_q (s_stp S i)).length - (s_q (s_one S i)).length))) hX (met_act l D s0 b0 A _ (s_fw (sw_n S (s_n S + 1)) i ((s_s S i).2.length - 1) (x.1, x.2.1, x.2.2.1, x.2.2.2.1, x.2.2.2.2 + 1)) ad T hRB hWB.1 hWB.2.1 hWB.2.2.1 hWB.2.2.2.1 hWB.2.2.2.2.2.1.2.1 hk hk13 (by show (s_c S).length < 100; omega) (by show (s_q S).length < 100; omega) (by show s_p S < 100; omega) i ((s_s S i).2.length - 1) (x.1, x.2.1, x.2.2.1, x.2.2.2.1, x.2.2.2.2 + 1) hi3 hxB q hqp) (cwV 3 hX.ts (lw_V q1154 q1156 qs24 q65 q1157) rfl rfl rfl (by decide +kernel) ⟨Nat.le_of_ble_eq_true rfl, Nat.le_of_ble_eq_true rfl⟩) (co_x hRB) rfl rfl (Nat.le_of_ble_eq_true rfl) (by first | omega | (dsimp only; omega) | (show _ ≤ _; simp only []; omega)) (by first | omega | (dsimp only; omega) | (show _ ≤ _; simp only []; omega)) rfl dX1_step_2_97 (fun v_97 G_97 hp_97 => ?_)
    obtain ⟨rfl, ad1, T1, g1, g2, g3⟩ := hp_97
    have cont : ∀ (ad2 : jN) (T2 : jT) (G2 : jG), jCo D s0 b0 (s_stp S i) ad2 T2 G2 → (∀ k i j, k < 8 → ad2 k i j = ad k i j) → jFm 1 30 T G T2 G2 → Jg p l e (jR 15 (63 + 207 * (s_cq S - s_cq (s_one S i))) (628 + 826 * (s_cq S - s_cq (s_one S i)) + 4 * (s_k (s_one S i) - s_k S))) s m args below meth c (MQ below (jQ D A (fun w G1 => w = none ∧ ∃ (ad1 : jN) (T1 : jT), jCo D s0 b0 (s_one S i) ad1 T1 G1 ∧ jFm 1 30 T G T1 G1 ∧ ∀ k i j, k < 8 → ad1 k i j = ad k i j)) args s (63 + 207 * (s_cq S - s_cq (s_one S i))) (628 + 826 * (s_cq S - s_cq (s_one S i)) + 4 * (s_k (s_one S i) - s_k S)) A) D A 4 G2 (58 + 207 * ((s_q (s_stp S i)).length - (s_q (s_one S i)).length)) (228 + 826 * ((s_q (s_stp S i)).length - (s_q (s_one S i)).length)) 100 [(0, .ref (ad 1 0 0))] [] := by
      intro ad2 T2 G2 hR2 hA2 hF2
      have hxx2 := co_x hR2
      rw [show ad 1 0 0 = ad2 1 0 0 from (hA2 1 0 0 (by decide)).symm]
      refine jr_aload_n (i := 0) hX rfl rfl dX1_step_2_100 ?_
      refine jr_callV (As := []) (bc1 := (29 + 207 * ((s_q (s_look (s_stp S i))).length - (s_q (s_one S i)).length))) (bs1 := (114 + 826 * ((s_q (s_look (s_stp S i))).length - (s_q (s_one S i)).length))) hX (met_look l D s0 b0 A _ (s_stp S i) ad2 T2 hR2 hW2) (cwV 0 hX.ts (lw_V q986 q988 qs9 q65 q989) rfl rfl rfl (by decide +kernel) ⟨Nat.le_of_ble_eq_true rfl, Nat.le_of_ble_eq_true rfl⟩) hxx2 rfl rfl (Nat.le_of_ble_eq_true rfl) (by first | omega | (dsimp only; omega) | (show _ ≤ _; simp only []; omega)) (by first | omega | (dsimp only; omega) | (show _ ≤ _; simp only []; omega)) rfl dX1_step_2_101 (fun v_101 G_101 hp_101 => ?_)
      obtain ⟨rfl, ad3, T3, h1, h2, h3⟩ := hp_101
      rw [show ad2 1 0 0 = ad3 1 0 0 from (h3 1 0 0 (by decide)).symm]
      have hW3 := look_W hW2
      have he1 : (s_q (s_giveUp (s_look (s_stp S i)))).length = (s_q (s_one S i)).length := rfl
      have hxx3 := co_x h1
      refine jr_aload_n (i := 0) hX rfl rfl dX1_step_2_104 ?_
      refine jr_callV (As := []) (bc1 := (0)) (bs1 := (0)) hX (met_giveUp l D s0 b0 A _ (s_look (s_stp S i)) ad3 T3 h1 hW3 hn3 (by have := sW_ql hW3; omega)) (cwV 0 hX.ts (lw_V q1485 q1487 qs34 q65 q1488) rfl rfl rfl (by decide +kernel) ⟨Nat.le_of_ble_eq_true rfl, Nat.le_of_ble_eq_true rfl⟩) hxx3 rfl rfl (Nat.le_of_ble_eq_true rfl) (by first | omega | (dsimp only; omega) | (show _ ≤ _; simp only []; omega)) (by first | omega | (dsimp only; omega) | (show _ ≤ _; simp only []; omega)) rfl dX1_step_2_105 (fun v_105 G_105 hp_105 => ?_)
      obtain ⟨rfl, ad4, T4, g1, g2, g3⟩ := hp_105
      exact jr_vret hX hlk hr ⟨rfl, ad4, T4, g1, (hF2.trans h2).trans g2, fun k i j hk => (g3 k i j (by omega)).trans ((h3 k i j (by omega)).trans (hA2 k i j hk))⟩ dX1_step_2_108
    refine jr_lvm [(0, .ref (ad 1 0 0))] rfl ?_
    exact cont ad1 T1 _ (by rw [eS]; exact g1) g3 (hFB.trans g2)
  · refine jr_aload_n (i := 0) hX rfl rfl dX1_step_2_60 ?_
    refine jr_aload_n (i := 1) hX rfl rfl dX1_step_2_61 ?_
    refine jr_iconst (v := 0) hX rfl dX1_step_2_62 ?_
    refine jr_callV (As := [.ref (ad 5 i 0), .int 0]) (bc1 := ((63 + 207 * (s_cq S - s_cq (s_one S i))))) (bs1 := ((628 + 826 * (s_cq S - s_cq (s_one S i)) + 4 * (s_k (s_one S i) - s_k S)))) hX (met_giveBack l D s0 b0 A _ (sw_n S (s_n S + 1)) ad T hR1 h3s i hi3 0 hne) (cwV 2 hX.ts (lw_V q1150 q1152 qs23 q65 q1153) rfl rfl rfl (by decide +kernel) ⟨Nat.le_of_ble_eq_true rfl, Nat.le_of_ble_eq_true rfl⟩) (co_x hR1) rfl rfl (Nat.le_of_ble_eq_true rfl) (by first | omega | (dsimp only; omega) | (show _ ≤ _; simp only []; omega)) (by first | omega | (dsimp only; omega) | (show _ ≤ _; simp only []; omega)) rfl dX1_step_2_63 (fun v_63 G_63 hp_63 => ?_)
    obtain ⟨rfl, T1, g1, g2⟩ := hp_63
    have hqn : ((s_ver S x.1).1 x.2.1)[x.2.2.2.2]? = none := List.getElem?_eq_none (Nat.not_lt.mp fun z => c_57 (nI_lt z (by omega)))
    have eS : s_stp S i = s_gb (sw_n S (s_n S + 1)) i 0 := by
      unfold s_stp
      rw [hx]
      show (match ((s_ver S x.1).1 x.2.1)[x.2.2.2.2]? with
          | none => s_gb (sw_n S (s_n S + 1)) i 0
          | some q => _) = _
      rw [hqn]
    refine jr_goto hX (tgt := 100) (by decide) dX1_step_2_66 ?_
    have cont : ∀ (ad2 : jN) (T2 : jT) (G2 : jG), jCo D s0 b0 (s_stp S i) ad2 T2 G2 → (∀ k i j, k < 8 → ad2 k i j = ad k i j) → jFm 1 30 T G T2 G2 → Jg p l e (jR 15 (63 + 207 * (s_cq S - s_cq (s_one S i))) (628 + 826 * (s_cq S - s_cq (s_one S i)) + 4 * (s_k (s_one S i) - s_k S))) s m args below meth c (MQ below (jQ D A (fun w G1 => w = none ∧ ∃ (ad1 : jN) (T1 : jT), jCo D s0 b0 (s_one S i) ad1 T1 G1 ∧ jFm 1 30 T G T1 G1 ∧ ∀ k i j, k < 8 → ad1 k i j = ad k i j)) args s (63 + 207 * (s_cq S - s_cq (s_one S i))) (628 + 826 * (s_cq S - s_cq (s_one S i)) + 4 * (s_k (s_one S i) - s_k S)) A) D A 4 G2 (58 + 207 * ((s_q (s_stp S i)).length - (s_q (s_one S i)).length)) (228 + 826 * ((s_q (s_stp S i)).length - (s_q (s_one S i)).length)) 100 [(0, .ref (ad 1 0 0))] [] := by
      intro ad2 T2 G2 hR2 hA2 hF2
      have hxx2 := co_x hR2
      rw [show ad 1 0 0 = ad2 1 0 0 from (hA2 1 0 0 (by decide)).symm]
      refine jr_aload_n (i := 0) hX rfl rfl dX1_step_2_100 ?_
      refine jr_callV (As := []) (bc1 := (29 + 207 * ((s_q (s_look (s_stp S i))).length - (s_q (s_one S i)).length))) (bs1 := (114 + 826 * ((s_q (s_look (s_stp S i))).length - (s_q (s_one S i)).length))) hX (met_look l D s0 b0 A _ (s_stp S i) ad2 T2 hR2 hW2) (cwV 0 hX.ts (lw_V q986 q988 qs9 q65 q989) rfl rfl rfl (by decide +kernel) ⟨Nat.le_of_ble_eq_true rfl, Nat.le_of_ble_eq_true rfl⟩) hxx2 rfl rfl (Nat.le_of_ble_eq_true rfl) (by first | omega | (dsimp only; omega) | (show _ ≤ _; simp only []; omega)) (by first | omega | (dsimp only; omega) | (show _ ≤ _; simp only []; omega)) rfl dX1_step_2_101 (fun v_101 G_101 hp_101 => ?_)
      obtain ⟨rfl, ad3, T3, h1, h2, h3⟩ := hp_101
      rw [show ad2 1 0 0 = ad3 1 0 0 from (h3 1 0 0 (by decide)).symm]
      have hW3 := look_W hW2
      have he1 : (s_q (s_giveUp (s_look (s_stp S i)))).length = (s_q (s_one S i)).length := rfl
      have hxx3 := co_x h1
      refine jr_aload_n (i := 0) hX rfl rfl dX1_step_2_104 ?_
      refine jr_callV (As := []) (bc1 := (0)) (bs1 := (0)) hX (met_giveUp l D s0 b0 A _ (s_look (s_stp S i)) ad3 T3 h1 hW3 hn3 (by have := sW_ql hW3; omega)) (cwV 0 hX.ts (lw_V q1485 q1487 qs34 q65 q1488) rfl rfl rfl (by decide +kernel) ⟨Nat.le_of_ble_eq_true rfl, Nat.le_of_ble_eq_true rfl⟩) hxx3 rfl rfl (Nat.le_of_ble_eq_true rfl) (by first | omega | (dsimp only; omega) | (show _ ≤ _; simp only []; omega)) (by first | omega | (dsimp only; omega) | (show _ ≤ _; simp only []; omega)) rfl dX1_step_2_105 (fun v_105 G_105 hp_105 => ?_)
      obtain ⟨rfl, ad4, T4, g1, g2, g3⟩ := hp_105
      exact jr_vret hX hlk hr ⟨rfl, ad4, T4, g1, (hF2.trans h2).trans g2, fun k i j hk => (g3 k i j (by omega)).trans ((h3 k i j (by omega)).trans (hA2 k i j hk))⟩ dX1_step_2_108
    refine jr_lvm [(0, .ref (ad 1 0 0))] rfl ?_
    exact jr_wk (by omega) (by omega) (cont ad T1 _ (by rw [eS]; exact g1) (fun _ _ _ _ => rfl) (hF1.trans g2))
