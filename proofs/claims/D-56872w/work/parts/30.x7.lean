/-! moving frames; strands -/
/-- a frame, as a change that takes effect leaves it -/
def s_mvF (S : sSt) (b : Bool) (mode : Nat) (x : sFr) : sFr := if x.1 = s_p S ∧ mode ≠ 111 then (s_to S b, x.2.1, x.2.2.1, x.2.2.2.1, if s_tch S (s_lo S b) x.2.1 = true then (s_pl S b x.2.1 x.2.2.2.2).toNatClampNeg else x.2.2.2.2) else x
theorem s_pl_in {S : sSt} {b : Bool} {f q : Nat} (hv : sWv S) (hlo : s_lo S b + 1 < (s_v S).length) (hf : f < 5) (hq : q ≤ 10) : s_pl S b f q = -1 ∨ ∃ j, j ≤ 10 ∧ s_pl S b f q = nI j := by
  unfold s_pl
  cases b with
  | true => exact s_bp_in
  | false => exact (hv.2.2 _ hlo).2.2.1 f q hf (by omega)

set_option maxHeartbeats 4000000 in
set_option maxRecDepth 100000 in
theorem met_fmove1 (l : Launch) (D : va_G) (s0 : State) (b0 : Nat) (A : Nat → Prop) (G : jG) (a : Nat) (v pl : Int32) (x1 x2 x3 : Value) (ha : G a = some (jo 6 [.int v, x1, x2, x3, .int pl])) (w : Int32) : jM l yX13_moveTo_2 (ws_ yX13_moveTo_2 cX13_moveTo_2 2 none) (jR 1 0 0) D s0 b0 A G [.ref a, .int w] (fun r G1 => r = none ∧ G1 = jup G a (jo 6 [.int w, x1, x2, x3, .int pl])) := by
  refine jM.of (by decide +kernel) (own := RX13) rfl (Nat.le_of_ble_eq_true rfl) ?_
  intro p e s m args below meth c hX hr hlk hnm
  refine jr_aload_n (i := 0) hX rfl rfl dX13_moveTo_2_0 ?_
  refine jr_iload_n (i := 1) hX rfl rfl dX13_moveTo_2_1 ?_
  refine jr_callSU (As := [.int w]) (bc1 := (0)) (bs1 := (0)) hX (met_vmoveTo_f l D s0 b0 A _ a v x1 x2 x3 (.int pl) ha w) (va_cwSU 1 hX.ts (lw_SU q1093 q2193 q985 q1094 q98 q1095) rfl rfl rfl (by decide +kernel) ⟨Nat.le_of_ble_eq_true rfl, Nat.le_of_ble_eq_true rfl⟩) ha rfl rfl (Nat.le_of_ble_eq_true rfl) (by first | omega | (dsimp only; omega) | (show _ ≤ _; simp only []; omega)) (by first | omega | (dsimp only; omega) | (show _ ≤ _; simp only []; omega)) rfl dX13_moveTo_2_2 (fun v_2 G_2 hp_2 => ?_)
  obtain ⟨rfl, e9⟩ := hp_2
  rw [e9]
  exact jr_vret hX hlk hr ⟨rfl, rfl⟩ dX13_moveTo_2_5

set_option maxHeartbeats 4000000 in
set_option maxRecDepth 100000 in
theorem met_fmove2 (l : Launch) (D : va_G) (s0 : State) (b0 : Nat) (A : Nat → Prop) (G : jG) (a : Nat) (v pl : Int32) (x1 x2 x3 : Value) (ha : G a = some (jo 6 [.int v, x1, x2, x3, .int pl])) (w w2 : Int32) : jM l yX13_moveTo (ws_ yX13_moveTo cX13_moveTo 3 none) (jR 2 0 0) D s0 b0 A G [.ref a, .int w, .int w2] (fun r G1 => r = none ∧ G1 = jup G a (jo 6 [.int w, x1, x2, x3, .int w2])) := by
  refine jM.of (by decide +kernel) (own := RX13) rfl (Nat.le_of_ble_eq_true rfl) ?_
  intro p e s m args below meth c hX hr hlk hnm
  refine jr_aload_n (i := 0) hX rfl rfl dX13_moveTo_0 ?_
  refine jr_iload_n (i := 1) hX rfl rfl dX13_moveTo_1 ?_
  refine jr_callV (As := [.int w]) (bc1 := (0)) (bs1 := (0)) hX (met_fmove1 l D s0 b0 A _ a v pl x1 x2 x3 ha w) (cwV 1 hX.ts (lw_V q1089 q1090 q1091 q99 q1092) rfl rfl rfl (by decide +kernel) ⟨Nat.le_of_ble_eq_true rfl, Nat.le_of_ble_eq_true rfl⟩) ha rfl rfl (Nat.le_of_ble_eq_true rfl) (by first | omega | (dsimp only; omega) | (show _ ≤ _; simp only []; omega)) (by first | omega | (dsimp only; omega) | (show _ ≤ _; simp only []; omega)) rfl dX13_moveTo_2 (fun v_2 G_2 hp_2 => ?_)
  obtain ⟨rfl, e9⟩ := hp_2
  rw [e9]
  refine jr_aload_n (i := 0) hX rfl rfl dX13_moveTo_5 ?_
  refine jr_iload_n (i := 2) hX rfl rfl dX13_moveTo_6 ?_
  refine jr_put (ci := 6) (k := 4) hX (by first | assumption | exact jup_s) rfl in_X13 (by decide) tyX13 tyX13_ok nmX13 q972 rfl (by first | rfl | assumption) (by first | rfl | assumption) (Nat.le_of_ble_eq_true rfl) dX13_moveTo_7 ?_
  rw [jup_jup]
  exact jr_vret hX hlk hr ⟨rfl, rfl⟩ dX13_moveTo_10

theorem jFm.wide {lo hi lo2 hi2 : Nat} {T T1 : jT} {G G1 : jG} (h : jFm lo hi T G T1 G1) (h1 : lo2 ≤ lo) (h2 : hi ≤ hi2) : jFm lo2 hi2 T G T1 G1 := fun b hb hk => h b hb (fun z => hk ⟨by omega, by omega⟩)

theorem s_fw_id {S : sSt} {i j : Nat} {x : sFr} (hx : (s_s S i).2[j]? = some x) : s_fw S i j x = S := by
  have e : sup (s_s S) i ((s_s S i).1, (s_s S i).2.set j x) = s_s S := by
    funext k
    by_cases h : k = i
    · subst h
      obtain ⟨hj, he⟩ := List.getElem?_eq_some_iff.mp hx
      subst he
      rw [sup_s, List.set_getElem_self]
    · rw [sup_n h]
  unfold s_fw sw_s
  rw [e]

set_option maxHeartbeats 4000000 in
set_option maxRecDepth 100000 in
theorem met_move (l : Launch) (D : va_G) (s0 : State) (b0 : Nat) (A : Nat → Prop) (G : jG) (S : sSt) (ad : jN) (T : jT) (hR : jCo D s0 b0 S ad T G) (ci : Nat) (ch : sCh) (hch : (s_c S)[ci]? = some ch) (hi : sWi S) (hv : sWv S) (hp : s_p S < s_m S) (hl : s_lead S ch.2.1 = true) (i j : Nat) (x : sFr) (hi3 : i < 3) (hx : (s_s S i).2[j]? = some x) (hs : sWs S) (hplc : x.1 = s_p S → ch.1 ≠ 111 → s_tch S (s_lo S ch.2.1) x.2.1 = true → s_pl S ch.2.1 x.2.1 x.2.2.2.2 ≠ -1) (hcm : ch.1 < 1000) : jM l yX1_move (ws_ yX1_move cX1_move 5 none) (jR 7 1 4) D s0 b0 A G [.ref (ad 1 0 0), .ref (ad 18 ci 0), .ref (ad 8 i j), .int (nI (s_to S ch.2.1))] (fun w G1 => w = none ∧ jCo D s0 b0 (s_fw S i j (s_mvF S ch.2.1 ch.1 x)) ad T G1 ∧ jFm 8 9 T G T G1) := by
  have hxx := co_x hR
  have hC := co_ch hR hch
  have hmm : s_m S = (s_v S).length - 1 := rfl
  have hvl := hv.1
  have hvu := hv.2.1
  have hF := co_fr hR hi3 hx
  have hfx := (hs i hi3).2.2 j x hx
  obtain ⟨hlt1, hlt2⟩ := s_lt hl hp
  have hroleF : shC D s0 b0 S ad 8 i j = some (.inl (jo 6 [.int (nI x.1), .int (nI x.2.1), .int (nI x.2.2.1), .ref (ad 9 i j), .int (nI x.2.2.2.2)])) := by
    show (if i < 3 then Option.map _ ((s_s S i).2[j]?) else none) = _
    rw [if_pos hi3, hx]; rfl
  refine jM.of (by decide +kernel) (own := RX1) rfl (Nat.le_of_ble_eq_true rfl) ?_
  intro p e s m args below meth c hX hr hlk hnm
  refine jr_aload_n (i := 2) hX rfl rfl dX1_move_0 ?_
  refine jr_aload_n (i := 0) hX rfl rfl dX1_move_1 ?_
  refine jr_get (ci := 2) (k := 8) hX (by first | assumption | exact jup_s) rfl in_X1 (by decide) q371 rfl dX1_move_2 ?_
  refine jr_callU (As := [.int (nI (s_p S))]) (bc1 := (1)) (bs1 := (4)) hX (met_isOf_f l D s0 b0 A _ (ad 8 i j) _ _ _ _ _ hF (nI (s_p S))) (va_cwU 1 hX.ts (lw_U q1015 q1016 q1018 q1019 q98 q1020) rfl rfl rfl rfl (by decide +kernel) ⟨Nat.le_of_ble_eq_true rfl, Nat.le_of_ble_eq_true rfl⟩) hF rfl rfl (Nat.le_of_ble_eq_true rfl) (by first | omega | (dsimp only; omega) | (show _ ≤ _; simp only []; omega)) (by first | omega | (dsimp only; omega) | (show _ ≤ _; simp only []; omega)) rfl dX1_move_5 (fun v_5 G_5 hp_5 => ?_)
  obtain ⟨rfl, e9⟩ := hp_5
  rw [e9]
  refine jr_if_eq hX (tgt := 20) (by decide) dX1_move_8 (fun c_8 => ?_) (fun c_8 => ?_)
  · rw [show s_mvF S ch.2.1 ch.1 x = x from if_neg (fun q => absurd (jbz_0 c_8) (by rw [decide_eq_true (by rw [q.1])]; simp))]
    refine jr_vret hX hlk hr ⟨rfl, ?_, jFm.refl⟩ dX1_move_20
    rw [s_fw_id hx]
    exact hR
  · refine jr_aload_n (i := 1) hX rfl rfl dX1_move_11 ?_
    refine jr_getN (ci := 8) (k := 0) hX (by first | assumption | exact jup_s) rfl in_X16 (by decide) q1221 rfl dX1_move_12 ?_
    refine jr_bipush (v := 111) hX (by decide) dX1_move_15 ?_
    refine jr_icmp_ne hX (tgt := 21) (by decide) dX1_move_17 (fun c_17 => ?_) (fun c_17 => ?_)
    · refine jr_aload_n (i := 0) hX rfl rfl dX1_move_21 ?_
      refine jr_aload_n (i := 1) hX rfl rfl dX1_move_22 ?_
      refine jr_aload_n (i := 2) hX rfl rfl dX1_move_23 ?_
      refine jr_callV (As := [.ref (ad 18 ci 0), .ref (ad 8 i j)]) (bc1 := (0)) (bs1 := (0)) hX (met_isTouchedF l D s0 b0 A _ S ad T hR ci ch hch hi hv hp hl i j x hi3 hx hs) (cwV 2 hX.ts (lw_V q1021 q1023 qs13 q65 q1024) rfl rfl rfl (by decide +kernel) ⟨Nat.le_of_ble_eq_true rfl, Nat.le_of_ble_eq_true rfl⟩) hxx rfl rfl (Nat.le_of_ble_eq_true rfl) (by first | omega | (dsimp only; omega) | (show _ ≤ _; simp only []; omega)) (by first | omega | (dsimp only; omega) | (show _ ≤ _; simp only []; omega)) rfl dX1_move_24 (fun v_24 G_24 hp_24 => ?_)
      obtain ⟨rfl, e9t⟩ := hp_24
      have hxp : x.1 = s_p S := (nI_eq (by omega) (by omega)).mp (of_decide_eq_true (jbz_1 c_8))
      refine jr_if_eq hX (tgt := 39) (by decide) dX1_move_27 (fun c_27 => ?_) (fun c_27 => ?_)
      · refine jr_aload_n (i := 2) hX rfl rfl dX1_move_39 ?_
        refine jr_getN (ci := 6) (k := 4) hX (e9t _ _ hF) rfl in_X13 (by decide) q973 rfl dX1_move_40 ?_
        refine jr_istore hX (by decide) rfl dX1_move_43 ?_
        refine jr_aload_n (i := 2) hX rfl rfl dX1_move_45 ?_
        refine jr_iload_n (i := 3) hX rfl rfl dX1_move_46 ?_
        refine jr_iload hX rfl dX1_move_47 ?_
        refine jr_callV (As := [.int (nI (s_to S ch.2.1)), .int (nI x.2.2.2.2)]) (bc1 := (0)) (bs1 := (0)) hX (met_fmove2 l D s0 b0 A _ (ad 8 i j) _ _ _ _ _ (e9t _ _ hF) (nI (s_to S ch.2.1)) (nI x.2.2.2.2)) (cwV 2 hX.ts (lw_V q1085 q1086 q1087 q99 q1088) rfl rfl rfl (by decide +kernel) ⟨Nat.le_of_ble_eq_true rfl, Nat.le_of_ble_eq_true rfl⟩) (e9t _ _ hF) rfl rfl (Nat.le_of_ble_eq_true rfl) (by first | omega | (dsimp only; omega) | (show _ ≤ _; simp only []; omega)) (by first | omega | (dsimp only; omega) | (show _ ≤ _; simp only []; omega)) rfl dX1_move_49 (fun v_49 G_49 hp_49 => ?_)
        obtain ⟨rfl, e9⟩ := hp_49
        rw [e9]
        have hR2 := jRep.nw hR e9t
        refine jr_vret hX hlk hr ⟨rfl, ?_, ?_⟩ dX1_move_52
        · have hfin := co_wfr (y := s_mvF S ch.2.1 ch.1 x) hR2 hi3 hx (by unfold s_mvF; split <;> rfl)
          rw [show s_mvF S ch.2.1 ch.1 x = (s_to S ch.2.1, x.2.1, x.2.2.1, x.2.2.2.1, if s_tch S (s_lo S ch.2.1) x.2.1 = true then (s_pl S ch.2.1 x.2.1 x.2.2.2.2).toNatClampNeg else x.2.2.2.2) from if_pos ⟨hxp, fun q => c_17 (by rw [q]; rfl)⟩] at hfin ⊢
          rw [if_neg (by rw [jbz_0 c_27]; simp)] at hfin ⊢
          exact hfin
        · exact jFm.trans (jNw.fm e9t) (jFm.put (by rw [hR.t (k := 8) (i := i) (j := j) hroleF]; simp))
      · refine jr_aload_n (i := 0) hX rfl rfl dX1_move_30 ?_
        refine jr_aload_n (i := 1) hX rfl rfl dX1_move_31 ?_
        refine jr_aload_n (i := 2) hX rfl rfl dX1_move_32 ?_
        refine jr_callV (As := [.ref (ad 18 ci 0), .ref (ad 8 i j)]) (bc1 := (0)) (bs1 := (0)) hX (met_placeFor l D s0 b0 A _ S ad T (jRep.nw hR e9t) ci ch hch hi hv hp hl i j x hi3 hx hs) (cwV 2 hX.ts (lw_V q1038 q1040 qs16 q65 q1041) rfl rfl rfl (by decide +kernel) ⟨Nat.le_of_ble_eq_true rfl, Nat.le_of_ble_eq_true rfl⟩) (e9t _ _ hxx) rfl rfl (Nat.le_of_ble_eq_true rfl) (by first | omega | (dsimp only; omega) | (show _ ≤ _; simp only []; omega)) (by first | omega | (dsimp only; omega) | (show _ ≤ _; simp only []; omega)) rfl dX1_move_33 (fun v_33 G_33 hp_33 => ?_)
        obtain ⟨rfl, e9⟩ := hp_33
        rw [e9]
        refine jr_goto hX (tgt := 43) (by decide) dX1_move_36 ?_
        obtain ⟨jp, hjp, hje⟩ : ∃ jp, jp ≤ 10 ∧ s_pl S ch.2.1 x.2.1 x.2.2.2.2 = nI jp := (s_pl_in hv (by omega) hfx.2.1 hfx.2.2.2).resolve_left (hplc hxp (fun q => c_17 (by rw [q]; rfl)) (jbz_1 c_27))
        rw [hje]
        refine jr_istore hX (by decide) rfl dX1_move_43 ?_
        refine jr_aload_n (i := 2) hX rfl rfl dX1_move_45 ?_
        refine jr_iload_n (i := 3) hX rfl rfl dX1_move_46 ?_
        refine jr_iload hX rfl dX1_move_47 ?_
        refine jr_callV (As := [.int (nI (s_to S ch.2.1)), .int (nI jp)]) (bc1 := (0)) (bs1 := (0)) hX (met_fmove2 l D s0 b0 A _ (ad 8 i j) _ _ _ _ _ (e9t _ _ hF) (nI (s_to S ch.2.1)) (nI jp)) (cwV 2 hX.ts (lw_V q1085 q1086 q1087 q99 q1088) rfl rfl rfl (by decide +kernel) ⟨Nat.le_of_ble_eq_true rfl, Nat.le_of_ble_eq_true rfl⟩) (e9t _ _ hF) rfl rfl (Nat.le_of_ble_eq_true rfl) (by first | omega | (dsimp only; omega) | (show _ ≤ _; simp only []; omega)) (by first | omega | (dsimp only; omega) | (show _ ≤ _; simp only []; omega)) rfl dX1_move_49 (fun v_49 G_49 hp_49 => ?_)
        obtain ⟨rfl, e9⟩ := hp_49
        rw [e9]
        have hR2 := jRep.nw hR e9t
        refine jr_vret hX hlk hr ⟨rfl, ?_, ?_⟩ dX1_move_52
        · have hfin := co_wfr (y := s_mvF S ch.2.1 ch.1 x) hR2 hi3 hx (by unfold s_mvF; split <;> rfl)
          rw [show s_mvF S ch.2.1 ch.1 x = (s_to S ch.2.1, x.2.1, x.2.2.1, x.2.2.2.1, if s_tch S (s_lo S ch.2.1) x.2.1 = true then (s_pl S ch.2.1 x.2.1 x.2.2.2.2).toNatClampNeg else x.2.2.2.2) from if_pos ⟨hxp, fun q => c_17 (by rw [q]; rfl)⟩] at hfin ⊢
          rw [if_pos (jbz_1 c_27), hje, nI_clamp (by omega)] at hfin ⊢
          exact hfin
        · exact jFm.trans (jNw.fm e9t) (jFm.put (by rw [hR.t (k := 8) (i := i) (j := j) hroleF]; simp))
    · rw [show s_mvF S ch.2.1 ch.1 x = x from if_neg (fun q => q.2 ((nI_eq (by omega) (by omega)).mp c_17))]
      refine jr_vret hX hlk hr ⟨rfl, ?_, jFm.refl⟩ dX1_move_20
      rw [s_fw_id hx]
      exact hR
