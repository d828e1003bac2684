/-! counting the frames that stand against a change -/
theorem jNw.fr {G G1 : jG} {n : Nat} {c : jE} (h : jNw G G1) (hn : G n = none) : jNw G (jup G1 n c) := fun b x hb => by
  rw [jup_n (fun z => by rw [z, hn] at hb; cases hb)]
  exact h b x hb
theorem jHd.up {l : Launch} {D : va_G} {s0 : State} {b0 : Nat} {A : Nat → Prop} {d d2 mc ms : Nat} {G : jG} {a fr : Nat} {r : Bool} (h : jHd l D s0 b0 A d mc ms G a fr r) (hd : d ≤ d2) : jHd l D s0 b0 A d2 mc ms G a fr r :=
  fun p e R s m args below meth c Q cc nL own bc bs bc1 bs1 pc index count lv rest hX h1 h2 h3 h4 h5 h6 h7 kk => h p e R s m args below meth c Q cc nL own bc bs bc1 bs1 pc index count lv rest hX h1 (by omega) (by omega) h4 h5 h6 h7 kk
/-- a frame is of the present version, in a function that is touched -/
def s_met (S : sSt) (ch : sCh) (x : sFr) : Bool := decide (x.1 = s_p S) && s_tch S (s_lo S ch.2.1) x.2.1
def s_std (S : sSt) (ch : sCh) (x : sFr) : Bool := s_met S ch x && (decide (ch.1 = 119) || decide (s_pl S ch.2.1 x.2.1 x.2.2.2.2 = -1))
/-- how many frames of the strands ahead of i pass a test -/
def s_ctP (S : sSt) (P : sFr → Bool) : Nat → Nat
  | 0 => 0
  | i + 1 => s_ctP S P i + (s_s S i).2.countP P
def s_agn (S : sSt) (ch : sCh) : Nat := if ch.1 = 111 ∨ s_lead S ch.2.1 = false then 0 else s_ctP S (s_std S ch) 3
theorem cnt_tk {α : Type} {L : List α} {P : α → Bool} {j : Nat} {x : α} (h : L[j]? = some x) : (L.take (j + 1)).countP P = (L.take j).countP P + (if P x = true then 1 else 0) := by
  rw [List.take_succ, h, List.countP_append]
  cases hp : P x <;> simp [hp]

set_option maxHeartbeats 4000000 in
set_option maxRecDepth 100000 in
theorem met_lam0 (l : Launch) (D : va_G) (s0 : State) (b0 : Nat) (A : Nat → Prop) (G : jG) (S : sSt) (ad : jN) (T : jT) (hR : jCo D s0 b0 S ad T G) (ci : Nat) (ch : sCh) (hch : (s_c S)[ci]? = some ch) (hi : sWi S) (hv : sWv S) (hp : s_p S < s_m S) (hl : s_lead S ch.2.1 = true) (i j : Nat) (x : sFr) (hi3 : i < 3) (hx : (s_s S i).2[j]? = some x) (hs : sWs S) : jM l yX1_lambda_countAgainst_0 (ws_ yX1_lambda_countAgainst_0 cX1_lambda_countAgainst_0 4 (some .boolean)) (jR 7 1 4) D s0 b0 A G [.ref (ad 1 0 0), .int (nI (s_p S)), .ref (ad 18 ci 0), .ref (ad 8 i j)] (fun w G1 => w = some (.int (jbz (s_met S ch x))) ∧ jNw G G1) := by
  have hxx := co_x hR
  have hF := co_fr hR hi3 hx
  have hfx := (hs i hi3).2.2 j x hx
  have hmm : s_m S = (s_v S).length - 1 := rfl
  have hvu := hv.2.1
  refine jM.of (by decide +kernel) (own := RX1) rfl (Nat.le_of_ble_eq_true rfl) ?_
  intro p e s m args below meth c hX hr hlk hnm
  refine jr_aload_n (i := 3) hX rfl rfl dX1_lambda_countAgainst_0_0 ?_
  refine jr_iload_n (i := 1) hX rfl rfl dX1_lambda_countAgainst_0_1 ?_
  refine jr_callU (As := [.int (nI (s_p S))]) (bc1 := (1)) (bs1 := (4)) hX (met_isOf_f l D s0 b0 A _ (ad 8 i j) _ _ _ _ _ hF (nI (s_p S))) (va_cwU 1 hX.ts (lw_U q1015 q1016 q1018 q1019 q98 q1020) rfl rfl rfl rfl (by decide +kernel) ⟨Nat.le_of_ble_eq_true rfl, Nat.le_of_ble_eq_true rfl⟩) hF rfl rfl (Nat.le_of_ble_eq_true rfl) (by first | omega | (dsimp only; omega) | (show _ ≤ _; simp only []; omega)) (by first | omega | (dsimp only; omega) | (show _ ≤ _; simp only []; omega)) rfl dX1_lambda_countAgainst_0_2 (fun v_2 G_2 hp_2 => ?_)
  obtain ⟨rfl, e9⟩ := hp_2
  rw [e9]
  refine jr_if_eq hX (tgt := 21) (by decide) dX1_lambda_countAgainst_0_5 (fun c_5 => ?_) (fun c_5 => ?_)
  · refine jr_iconst (v := 0) hX rfl dX1_lambda_countAgainst_0_21 ?_
    exact jr_zret hX hlk hr (by decide) ⟨by rw [show s_met S ch x = false from by unfold s_met; rw [decide_eq_false (fun z => by have h9 := jbz_0 c_5; rw [z, decide_eq_true rfl] at h9; cases h9)]; rfl]; rfl, jNw.refl⟩ dX1_lambda_countAgainst_0_22
  · refine jr_aload_n (i := 0) hX rfl rfl dX1_lambda_countAgainst_0_8 ?_
    refine jr_aload_n (i := 2) hX rfl rfl dX1_lambda_countAgainst_0_9 ?_
    refine jr_aload_n (i := 3) hX rfl rfl dX1_lambda_countAgainst_0_10 ?_
    refine jr_callV (As := [.ref (ad 18 ci 0), .ref (ad 8 i j)]) (bc1 := (0)) (bs1 := (0)) hX (met_isTouchedF l D s0 b0 A _ S ad T hR ci ch hch hi hv hp hl i j x hi3 hx hs) (cwV 2 hX.ts (lw_V q1021 q1023 qs13 q65 q1024) rfl rfl rfl (by decide +kernel) ⟨Nat.le_of_ble_eq_true rfl, Nat.le_of_ble_eq_true rfl⟩) hxx rfl rfl (Nat.le_of_ble_eq_true rfl) (by first | omega | (dsimp only; omega) | (show _ ≤ _; simp only []; omega)) (by first | omega | (dsimp only; omega) | (show _ ≤ _; simp only []; omega)) rfl dX1_lambda_countAgainst_0_11 (fun v_11 G_11 hp_11 => ?_)
    obtain ⟨rfl, e9t⟩ := hp_11
    have hxp : x.1 = s_p S := (nI_eq (by omega) (by omega)).mp (of_decide_eq_true (jbz_1 c_5))
    refine jr_if_eq hX (tgt := 21) (by decide) dX1_lambda_countAgainst_0_14 (fun c_14 => ?_) (fun c_14 => ?_)
    · refine jr_iconst (v := 0) hX rfl dX1_lambda_countAgainst_0_21 ?_
      exact jr_zret hX hlk hr (by decide) ⟨by rw [show s_met S ch x = false from by unfold s_met; rw [jbz_0 c_14, Bool.and_false]]; rfl, e9t⟩ dX1_lambda_countAgainst_0_22
    · refine jr_iconst (v := 1) hX rfl dX1_lambda_countAgainst_0_17 ?_
      refine jr_goto hX (tgt := 22) (by decide) dX1_lambda_countAgainst_0_18 ?_
      exact jr_zret hX hlk hr (by decide) ⟨by rw [show s_met S ch x = true from by unfold s_met; rw [jbz_1 c_14, decide_eq_true hxp]; rfl]; rfl, e9t⟩ dX1_lambda_countAgainst_0_22

set_option maxHeartbeats 4000000 in
set_option maxRecDepth 100000 in
theorem met_lam1 (l : Launch) (D : va_G) (s0 : State) (b0 : Nat) (A : Nat → Prop) (G : jG) (S : sSt) (ad : jN) (T : jT) (hR : jCo D s0 b0 S ad T G) (ci : Nat) (ch : sCh) (hch : (s_c S)[ci]? = some ch) (hi : sWi S) (hv : sWv S) (hp : s_p S < s_m S) (hl : s_lead S ch.2.1 = true) (i j : Nat) (x : sFr) (hi3 : i < 3) (hx : (s_s S i).2[j]? = some x) (hs : sWs S) (f : Nat) (hH : jHd l D s0 b0 A 7 1 4 G f (ad 8 i j) (s_met S ch x)) : jM l yX1_lambda_countAgainst_1 (ws_ yX1_lambda_countAgainst_1 cX1_lambda_countAgainst_1 4 (some .boolean)) (jR 9 1 4) D s0 b0 A G [.ref (ad 1 0 0), .ref f, .ref (ad 18 ci 0), .ref (ad 8 i j)] (fun w G1 => w = some (.int (jbz (s_met S ch x && decide (s_pl S ch.2.1 x.2.1 x.2.2.2.2 = -1)))) ∧ jNw G G1) := by
  have hxx := co_x hR
  refine jM.of (by decide +kernel) (own := RX1) rfl (Nat.le_of_ble_eq_true rfl) ?_
  intro p e s m args below meth c hX hr hlk hnm
  refine jr_aload_n (i := 1) hX rfl rfl dX1_lambda_countAgainst_1_0 ?_
  refine jr_aload_n (i := 3) hX rfl rfl dX1_lambda_countAgainst_1_1 ?_
  refine hH p e _ s m args below meth c _ _ _ _ _ _ (0) (0) _ _ _ _ _ hX q1035 (by first | (show _ ≤ _; simp only []; omega) | omega | decide) (by first | (show _ ≤ _; simp only []; omega) | omega | decide) (Nat.le_of_ble_eq_true rfl) dX1_lambda_countAgainst_1_2 (by first | (show _ ≤ _; simp only []; omega) | omega | decide) (by first | (show _ ≤ _; simp only []; omega) | omega | decide) (fun G_2 hn_2 => ?_)
  refine jr_if_eq hX (tgt := 24) (by decide) dX1_lambda_countAgainst_1_7 (fun c_7 => ?_) (fun c_7 => ?_)
  · refine jr_iconst (v := 0) hX rfl dX1_lambda_countAgainst_1_24 ?_
    exact jr_zret hX hlk hr (by decide) ⟨by rw [jbz_0 c_7]; rfl, hn_2⟩ dX1_lambda_countAgainst_1_25
  · refine jr_aload_n (i := 0) hX rfl rfl dX1_lambda_countAgainst_1_10 ?_
    refine jr_aload_n (i := 2) hX rfl rfl dX1_lambda_countAgainst_1_11 ?_
    refine jr_aload_n (i := 3) hX rfl rfl dX1_lambda_countAgainst_1_12 ?_
    refine jr_callV (As := [.ref (ad 18 ci 0), .ref (ad 8 i j)]) (bc1 := (0)) (bs1 := (0)) hX (met_placeFor l D s0 b0 A _ S ad T (jRep.nw hR hn_2) ci ch hch hi hv hp hl i j x hi3 hx hs) (cwV 2 hX.ts (lw_V q1038 q1040 qs16 q65 q1041) rfl rfl rfl (by decide +kernel) ⟨Nat.le_of_ble_eq_true rfl, Nat.le_of_ble_eq_true rfl⟩) (hn_2 _ _ hxx) rfl rfl (Nat.le_of_ble_eq_true rfl) (by first | omega | (dsimp only; omega) | (show _ ≤ _; simp only []; omega)) (by first | omega | (dsimp only; omega) | (show _ ≤ _; simp only []; omega)) rfl dX1_lambda_countAgainst_1_13 (fun v_13 G_13 hp_13 => ?_)
    obtain ⟨rfl, e9⟩ := hp_13
    rw [e9]
    refine jr_iconst (v := -1) hX rfl dX1_lambda_countAgainst_1_16 ?_
    refine jr_icmp_ne hX (tgt := 24) (by decide) dX1_lambda_countAgainst_1_17 (fun c_17 => ?_) (fun c_17 => ?_)
    · refine jr_iconst (v := 0) hX rfl dX1_lambda_countAgainst_1_24 ?_
      exact jr_zret hX hlk hr (by decide) ⟨by rw [decide_eq_false c_17, Bool.and_false]; rfl, hn_2⟩ dX1_lambda_countAgainst_1_25
    · refine jr_iconst (v := 1) hX rfl dX1_lambda_countAgainst_1_20 ?_
      refine jr_goto hX (tgt := 25) (by decide) dX1_lambda_countAgainst_1_21 ?_
      exact jr_zret hX hlk hr (by decide) ⟨by rw [decide_eq_true c_17, jbz_1 c_7]; rfl, hn_2⟩ dX1_lambda_countAgainst_1_25

set_option maxHeartbeats 4000000 in
set_option maxRecDepth 100000 in
theorem met_count (l : Launch) (D : va_G) (s0 : State) (b0 : Nat) (A : Nat → Prop) (G : jG) (S : sSt) (ad : jN) (T : jT) (hR : jCo D s0 b0 S ad T G) (hs : sWs S) (f : Nat) (P : sFr → Bool) (hH : ∀ Gc : jG, jNw G Gc → ∀ (i j : Nat) (x : sFr), i < 3 → (s_s S i).2[j]? = some x → jHd l D s0 b0 A 9 1 4 Gc f (ad 8 i j) (P x)) : jM l yX1_count (ws_ yX1_count cX1_count 9 (some .int)) (jR 11 27 108) D s0 b0 A G [.ref (ad 1 0 0), .ref f] (fun w G1 => w = some (.int (nI (s_ctP S P 3))) ∧ jNw G G1) := by
  have hxx := co_x hR
  refine jM.of (by decide +kernel) (own := RX1) rfl (Nat.le_of_ble_eq_true rfl) ?_
  intro p e s m args below meth c hX hr hlk hnm
  refine jr_iconst (v := 0) hX rfl dX1_count_0 ?_
  refine jr_istore_n (i := 2) hX rfl (by decide) rfl dX1_count_1 ?_
  refine jr_aload_n (i := 0) hX rfl rfl dX1_count_2 ?_
  refine jr_get (ci := 2) (k := 2) hX hxx rfl in_X1 (by decide) q365 rfl dX1_count_3 ?_
  refine jr_astore_n (i := 3) hX rfl (by decide) rfl dX1_count_6 ?_
  refine jr_aload_n (i := 3) hX rfl rfl dX1_count_7 ?_
  refine jr_alen (t := 2) hX (co_strs hR) rfl (v := 3) rfl dX1_count_8 ?_
  refine jr_istore hX (by decide) rfl dX1_count_9 ?_
  refine jr_iconst (v := 0) hX rfl dX1_count_11 ?_
  refine jr_istore hX (by decide) rfl dX1_count_12 ?_
  have loopO : ∀ (n9 : Nat) (i : Nat) (Gc : jG), 3 - i = n9 → i ≤ 3 → jNw G Gc → Jg p l e (jR 11 27 108) s m args below meth c (MQ below (jQ D A (fun w G1 => w = some (.int (nI (s_ctP S P 3))) ∧ jNw G G1)) args s 27 108 A) D A 9 Gc (9 * (3 - (i))) (36 * (3 - (i))) 14 [(2, .int (nI (s_ctP S P (i)))), (5, .int (nI (i))), (4, .int 3), (3, .ref (ad 3 0 0)), (0, .ref (ad 1 0 0)), (1, .ref f)] [] := by
    intro n9
    induction n9 using Nat.strongRecOn with
    | ind n9 ih0 =>
    intro i Gc hn9 hil hnw
    have ih : ∀ m9, m9 < n9 → ∀ (i : Nat) (Gc : jG), 3 - i = m9 → i ≤ 3 → jNw G Gc → Jg p l e (jR 11 27 108) s m args below meth c (MQ below (jQ D A (fun w G1 => w = some (.int (nI (s_ctP S P 3))) ∧ jNw G G1)) args s 27 108 A) D A 9 Gc (9 * (3 - (i))) (36 * (3 - (i))) 14 [(2, .int (nI (s_ctP S P (i)))), (5, .int (nI (i))), (4, .int 3), (3, .ref (ad 3 0 0)), (0, .ref (ad 1 0 0)), (1, .ref f)] [] := fun m9 hm => ih0 m9 hm
    refine jr_iload hX rfl dX1_count_14 ?_
    refine jr_iload hX rfl dX1_count_16 ?_
    refine jr_icmp_ge hX (tgt := 89) (by decide) dX1_count_18 (fun c_18 => ?_) (fun c_18 => ?_)
    · refine jr_iload_n (i := 2) hX rfl rfl dX1_count_89 ?_
      have hi3 : 3 ≤ i := Nat.not_lt.mp fun z => absurd c_18 (nI_ge (b := 3) z (by omega))
      exact jr_iret hX hlk hr ⟨by rw [show i = 3 by omega], hnw⟩ dX1_count_90
    · have hi3 : i < 3 := Nat.not_le.mp fun z => c_18 (nI_le (a := 3) z (by omega))
      obtain ⟨mo, cap, ea, hL0, -, -, -⟩ := co_frl hR hi3
      have hL := jNw.jLS hnw hL0
      have hl8 := (hs i hi3).2.1
      refine jr_aload_n (i := 3) hX rfl rfl dX1_count_21 ?_
      refine jr_iload hX rfl dX1_count_22 ?_
      refine jr_aald (t := 2) (v := .ref (ad 5 i 0)) hX (hnw _ _ (co_strs hR)) rfl rfl (nI3 hi3) (by rw [nI_clamp (by omega)]; rfl) dX1_count_24 ?_
      refine jr_astore hX (by decide) rfl dX1_count_25 ?_
      refine jr_aload hX rfl dX1_count_27 ?_
      refine jr_getN (ci := 3) (k := 0) hX (hnw _ _ (co_str hR hi3)) rfl in_X2 (by decide) q159 rfl dX1_count_29 ?_
      refine jr_callF (As := []) (bc1 := (9 * (2 - i) + 8)) (bs1 := (36 * (2 - i) + 32)) hX (met_iterator l D s0 b0 A _ (ad 6 i 0) (s_rg (s_s S i).2.length (fun q => ad 8 i q)) mo cap ea hL) (va_cwF 0 hX.ts (lw_F q1055 q853 q855 q68 q857) rfl rfl rfl (hX.S.fw ⟨by decide +kernel, by decide +kernel⟩ q852 q851 q856 q854 q183) (by decide +kernel) ⟨Nat.le_of_ble_eq_true rfl, Nat.le_of_ble_eq_true rfl⟩) hL.1 rfl rfl (Nat.le_of_ble_eq_true rfl) (by first | omega | (dsimp only; omega) | (show _ ≤ _; simp only []; omega)) (by first | omega | (dsimp only; omega) | (show _ ≤ _; simp only []; omega)) rfl dX1_count_32 (fun v_32 G_32 hp_32 => ?_)
      obtain ⟨it, rfl, hn, hA, e9⟩ := hp_32
      rw [e9]
      refine jr_astore hX (by decide) rfl dX1_count_37 ?_
      have cont : ∀ Gc : jG, jNw G Gc → Jg p l e (jR 11 27 108) s m args below meth c (MQ below (jQ D A (fun w G1 => w = some (.int (nI (s_ctP S P 3))) ∧ jNw G G1)) args s 27 108 A) D A 9 Gc (9 * (3 - (i + 1))) (36 * (3 - (i + 1))) 14 [(2, .int (nI (s_ctP S P (i + 1)))), (5, .int (nI (i + 1))), (4, .int 3), (3, .ref (ad 3 0 0)), (0, .ref (ad 1 0 0)), (1, .ref f)] [] := fun Gc z1 => ih _ (by omega) (i + 1) Gc rfl (by omega) z1
      have hnit : G it = none := by
        cases z : G it with
        | none => rfl
        | some y => rw [hnw _ _ z] at hn; cases hn
      have hxl : (s_rg (s_s S i).2.length (fun q => ad 8 i q)).length = (s_s S i).2.length := rg_len
      have loopI : ∀ (n9 : Nat) (j : Nat) (Gc : jG) (lr : Int32), (s_s S i).2.length - j = n9 → j ≤ (s_s S i).2.length → jNw G Gc → Gc it = some (jo 1 [.int (nI j), .int lr, .int mo, .ref (ad 6 i 0)]) → Jg p l e (jR 11 27 108) s m args below meth c (MQ below (jQ D A (fun w G1 => w = some (.int (nI (s_ctP S P 3))) ∧ jNw G G1)) args s 27 108 A) D A 9 Gc (9 * (2 - i) + (8 - j)) (36 * (2 - i) + 4 * (8 - j)) 39 [(2, .int (nI (s_ctP S P i + ((s_s S i).2.take j).countP P))), (7, .ref it), (5, .int (nI i)), (4, .int 3), (3, .ref (ad 3 0 0)), (0, .ref (ad 1 0 0)), (1, .ref f)] [] := by
        intro n9
        induction n9 using Nat.strongRecOn with
        | ind n9 ih0 =>
        intro j Gc lr hn9 hjl hnw hit
        have ih : ∀ m9, m9 < n9 → ∀ (j : Nat) (Gc : jG) (lr : Int32), (s_s S i).2.length - j = m9 → j ≤ (s_s S i).2.length → jNw G Gc → Gc it = some (jo 1 [.int (nI j), .int lr, .int mo, .ref (ad 6 i 0)]) → Jg p l e (jR 11 27 108) s m args below meth c (MQ below (jQ D A (fun w G1 => w = some (.int (nI (s_ctP S P 3))) ∧ jNw G G1)) args s 27 108 A) D A 9 Gc (9 * (2 - i) + (8 - j)) (36 * (2 - i) + 4 * (8 - j)) 39 [(2, .int (nI (s_ctP S P i + ((s_s S i).2.take j).countP P))), (7, .ref it), (5, .int (nI i)), (4, .int 3), (3, .ref (ad 3 0 0)), (0, .ref (ad 1 0 0)), (1, .ref f)] [] := fun m9 hm => ih0 m9 hm
        have hL := jNw.jLS hnw hL0
        refine jr_aload hX rfl dX1_count_39 ?_
        refine jr_callF (As := []) (bc1 := (9 * (2 - i) + (8 - j))) (bs1 := (36 * (2 - i) + 4 * (8 - j))) hX (met_hasNext l D s0 b0 A _ (ad 6 i 0) (s_rg (s_s S i).2.length (fun q => ad 8 i q)) mo cap ea hL it (j) lr hit (by rw [hxl]; omega)) (va_cwF 0 hX.ts (lw_F q1057 q882 q884 q96 q886) rfl rfl rfl (hX.S.fw ⟨by decide +kernel, by decide +kernel⟩ q880 q879 q885 q883 q881) (by decide +kernel) ⟨Nat.le_of_ble_eq_true rfl, Nat.le_of_ble_eq_true rfl⟩) hit rfl rfl (Nat.le_of_ble_eq_true rfl) (by first | omega | (dsimp only; omega) | (show _ ≤ _; simp only []; omega)) (by first | omega | (dsimp only; omega) | (show _ ≤ _; simp only []; omega)) rfl dX1_count_41 (fun v_41 G_41 hp_41 => ?_)
        obtain ⟨rfl, e9⟩ := hp_41
        rw [e9, hxl]
        refine jr_if_eq hX (tgt := 83) (by decide) dX1_count_46 (fun c_46 => ?_) (fun c_46 => ?_)
        · have hj2 : ¬ j < (s_s S i).2.length := of_decide_eq_false (jbz_0 c_46)
          rw [show s_ctP S P i + ((s_s S i).2.take j).countP P = s_ctP S P (i + 1) from by rw [List.take_of_length_le (by omega)]; rfl]
          refine jr_iinc (w := 1) hX rfl rfl (by decide) rfl dX1_count_83 ?_
          rw [show nI i + 1 = nI (i + 1) from nI_1 i]
          refine jr_goto hX (tgt := 14) (by decide) dX1_count_86 ?_
          refine jr_lvm [(2, .int (nI (s_ctP S P (i + 1)))), (5, .int (nI (i + 1))), (4, .int 3), (3, .ref (ad 3 0 0)), (0, .ref (ad 1 0 0)), (1, .ref f)] rfl ?_
          exact jr_wk (by omega) (by omega) (cont _ hnw)
        · have hj2 : j < (s_s S i).2.length := of_decide_eq_true (jbz_1 c_46)
          obtain ⟨x, hx⟩ : ∃ x, (s_s S i).2[j]? = some x := ⟨_, List.getElem?_eq_getElem hj2⟩
          refine jr_aload hX rfl dX1_count_49 ?_
          refine jr_callF (As := []) (bc1 := (9 * (2 - i) + (8 - j))) (bs1 := (36 * (2 - i) + 4 * (8 - j))) hX (met_next l D s0 b0 A _ (ad 6 i 0) (s_rg (s_s S i).2.length (fun q => ad 8 i q)) mo cap ea hL it (j) lr hit (ad 8 i j) (rg_at hj2)) (va_cwF 0 hX.ts (lw_F q1059 q891 q893 q96 q895) rfl rfl rfl (hX.S.fw ⟨by decide +kernel, by decide +kernel⟩ q890 q889 q894 q892 q881) (by decide +kernel) ⟨Nat.le_of_ble_eq_true rfl, Nat.le_of_ble_eq_true rfl⟩) hit rfl rfl (Nat.le_of_ble_eq_true rfl) (by first | omega | (dsimp only; omega) | (show _ ≤ _; simp only []; omega)) (by first | omega | (dsimp only; omega) | (show _ ≤ _; simp only []; omega)) rfl dX1_count_51 (fun v_51 G_51 hp_51 => ?_)
          obtain ⟨rfl, e9⟩ := hp_51
          rw [e9]
          have hw2 : jNw G (jup Gc it (jo 1 [.int (nI (j + 1)), .int (nI j), .int mo, .ref (ad 6 i 0)])) := jNw.fr hnw hnit
          have hF := hw2 _ _ (co_fr hR hi3 hx)
          refine jr_castS hX hF rfl q957 dX1_count_56 ?_
          refine jr_astore hX (by decide) rfl dX1_count_59 ?_
          refine jr_iload_n (i := 2) hX rfl rfl dX1_count_61 ?_
          refine jr_aload_n (i := 1) hX rfl rfl dX1_count_62 ?_
          refine jr_aload hX rfl dX1_count_63 ?_
          refine (hH _ hw2 i j x hi3 hx) p e _ s m args below meth c _ _ _ _ _ _ (9 * (2 - i) + (8 - (j + 1))) (36 * (2 - i) + 4 * (8 - (j + 1))) _ _ _ _ _ hX q1035 (by first | (show _ ≤ _; simp only []; omega) | omega | decide) (by first | (show _ ≤ _; simp only []; omega) | omega | decide) (Nat.le_of_ble_eq_true rfl) dX1_count_65 (by first | (show _ ≤ _; simp only []; omega) | omega | decide) (by first | (show _ ≤ _; simp only []; omega) | omega | decide) (fun G_65 hn_65 => ?_)
          refine jr_if_eq hX (tgt := 77) (by decide) dX1_count_70 (fun c_70 => ?_) (fun c_70 => ?_)
          · refine jr_iconst (v := 0) hX rfl dX1_count_77 ?_
            refine jr_iadd hX dX1_count_78 ?_
            rw [Int32.add_zero, show s_ctP S P i + ((s_s S i).2.take j).countP P = s_ctP S P i + ((s_s S i).2.take (j + 1)).countP P from by rw [cnt_tk hx, if_neg (by rw [jbz_0 c_70]; simp)]; rfl]
            refine jr_istore_n (i := 2) hX rfl (by decide) rfl dX1_count_79 ?_
            refine jr_goto hX (tgt := 39) (by decide) dX1_count_80 ?_
            have hL := jNw.jLS hnw hL0
            refine jr_lvm [(2, .int (nI (s_ctP S P i + ((s_s S i).2.take (j + 1)).countP P))), (7, .ref it), (5, .int (nI i)), (4, .int 3), (3, .ref (ad 3 0 0)), (0, .ref (ad 1 0 0)), (1, .ref f)] rfl ?_
            exact ih _ (by omega) (j + 1) _ _ rfl (by omega) (hw2.trans hn_65) (hn_65 _ _ jup_s)
          · refine jr_iconst (v := 1) hX rfl dX1_count_73 ?_
            refine jr_goto hX (tgt := 78) (by decide) dX1_count_74 ?_
            refine jr_iadd hX dX1_count_78 ?_
            rw [nI_1, show s_ctP S P i + ((s_s S i).2.take j).countP P + 1 = s_ctP S P i + ((s_s S i).2.take (j + 1)).countP P from by rw [cnt_tk hx, if_pos (jbz_1 c_70)]; rfl]
            refine jr_istore_n (i := 2) hX rfl (by decide) rfl dX1_count_79 ?_
            refine jr_goto hX (tgt := 39) (by decide) dX1_count_80 ?_
            have hL := jNw.jLS hnw hL0
            refine jr_lvm [(2, .int (nI (s_ctP S P i + ((s_s S i).2.take (j + 1)).countP P))), (7, .ref it), (5, .int (nI i)), (4, .int 3), (3, .ref (ad 3 0 0)), (0, .ref (ad 1 0 0)), (1, .ref f)] rfl ?_
            exact ih _ (by omega) (j + 1) _ _ rfl (by omega) (hw2.trans hn_65) (hn_65 _ _ jup_s)
      refine jr_lvm [(2, .int (nI (s_ctP S P i + ((s_s S i).2.take 0).countP P))), (7, .ref it), (5, .int (nI i)), (4, .int 3), (3, .ref (ad 3 0 0)), (0, .ref (ad 1 0 0)), (1, .ref f)] rfl ?_
      exact jr_wk (by omega) (by omega) (loopI _ 0 _ (-1) rfl (Nat.zero_le _) (hnw.fr hnit) jup_s)
  refine jr_lvm [(2, .int (nI (s_ctP S P 0))), (5, .int (nI 0)), (4, .int 3), (3, .ref (ad 3 0 0)), (0, .ref (ad 1 0 0)), (1, .ref f)] rfl ?_
  exact loopO _ 0 G rfl (by omega) jNw.refl

set_option maxHeartbeats 4000000 in
set_option maxRecDepth 100000 in
theorem met_countAgainst (l : Launch) (D : va_G) (s0 : State) (b0 : Nat) (A : Nat → Prop) (G : jG) (S : sSt) (ad : jN) (T : jT) (hR : jCo D s0 b0 S ad T G) (ci : Nat) (ch : sCh) (hch : (s_c S)[ci]? = some ch) (hi : sWi S) (hv : sWv S) (hp : s_p S < s_m S) (hs : sWs S) (hcm : ch.1 < 1000) : jM l yX1_countAgainst (ws_ yX1_countAgainst cX1_countAgainst 4 (some .int)) (jR 12 29 114) D s0 b0 A G [.ref (ad 1 0 0), .ref (ad 18 ci 0)] (fun w G1 => w = some (.int (nI (s_agn S ch))) ∧ jNw G G1) := by
  have hxx := co_x hR
  have hC := co_ch hR hch
  refine jM.ofN (by decide +kernel) (own := RX1) rfl (Nat.le_of_ble_eq_true rfl) ?_
  intro p e s m args below meth c hme hX hr hlk hnm
  refine jr_aload_n (i := 1) hX rfl rfl dX1_countAgainst_0 ?_
  refine jr_getN (ci := 8) (k := 0) hX hC rfl in_X16 (by decide) q1221 rfl dX1_countAgainst_1 ?_
  refine jr_bipush (v := 111) hX (by decide) dX1_countAgainst_4 ?_
  refine jr_icmp_eq hX (tgt := 17) (by decide) dX1_countAgainst_6 (fun c_6 => ?_) (fun c_6 => ?_)
  · refine jr_iconst (v := 0) hX rfl dX1_countAgainst_17 ?_
    exact jr_iret hX hlk hr ⟨by rw [show s_agn S ch = 0 from if_pos (Or.inl ((nI_eq (b := 111) (by omega) (by omega)).mp c_6))]; rfl, jNw.refl⟩ dX1_countAgainst_18
  · refine jr_aload_n (i := 0) hX rfl rfl dX1_countAgainst_9 ?_
    refine jr_aload_n (i := 1) hX rfl rfl dX1_countAgainst_10 ?_
    refine jr_callV (As := [.ref (ad 18 ci 0)]) (bc1 := (29)) (bs1 := (114)) hX (met_canLead l D s0 b0 A _ S ad T hR ci ch hch hi hv hp) (cwV 1 hX.ts (lw_V q1000 q1002 qs10 q65 q1003) rfl rfl rfl (by decide +kernel) ⟨Nat.le_of_ble_eq_true rfl, Nat.le_of_ble_eq_true rfl⟩) hxx rfl rfl (Nat.le_of_ble_eq_true rfl) (by first | omega | (dsimp only; omega) | (show _ ≤ _; simp only []; omega)) (by first | omega | (dsimp only; omega) | (show _ ≤ _; simp only []; omega)) rfl dX1_countAgainst_11 (fun v_11 G_11 hp_11 => ?_)
    obtain ⟨rfl, e9⟩ := hp_11
    rw [e9]
    refine jr_if_ne hX (tgt := 19) (by decide) dX1_countAgainst_14 (fun c_14 => ?_) (fun c_14 => ?_)
    · have hl : s_lead S ch.2.1 = true := jbz_1 c_14
      refine jr_aload_n (i := 0) hX rfl rfl dX1_countAgainst_19 ?_
      refine jr_get (ci := 2) (k := 8) hX hxx rfl in_X1 (by decide) q371 rfl dX1_countAgainst_20 ?_
      refine jr_istore_n (i := 2) hX rfl (by decide) rfl dX1_countAgainst_23 ?_
      refine jr_aload_n (i := 0) hX rfl rfl dX1_countAgainst_24 ?_
      refine jr_iload_n (i := 2) hX rfl rfl dX1_countAgainst_25 ?_
      refine jr_aload_n (i := 1) hX rfl rfl dX1_countAgainst_26 ?_
      refine jr_indy0 (bc1 := 28) (bs1 := 111) hX hme (by omega) (by omega) (by show 3100 ≤ 3200 + 40 * 12; omega) (Nat.le_of_ble_eq_true rfl) dX1_countAgainst_27 (fun q0 hq0 hA0 => ?_)
      have hw0 : jNw G (jup G q0 (.inr (jLk s0 0, [.ref (ad 1 0 0), .int (nI (s_p S)), .ref (ad 18 ci 0)]))) := jNw.new hq0
      refine jr_astore_n (i := 3) hX rfl (by decide) rfl dX1_countAgainst_32 ?_
      refine jr_aload_n (i := 0) hX rfl rfl dX1_countAgainst_33 ?_
      refine jr_aload_n (i := 1) hX rfl rfl dX1_countAgainst_34 ?_
      refine jr_getN (ci := 8) (k := 0) hX (hw0 _ _ hC) rfl in_X16 (by decide) q1221 rfl dX1_countAgainst_35 ?_
      refine jr_bipush (v := 119) hX (by decide) dX1_countAgainst_38 ?_
      refine jr_icmp_ne hX (tgt := 47) (by decide) dX1_countAgainst_40 (fun c_40 => ?_) (fun c_40 => ?_)
      · refine jr_aload_n (i := 0) hX rfl rfl dX1_countAgainst_47 ?_
        refine jr_aload_n (i := 3) hX rfl rfl dX1_countAgainst_48 ?_
        refine jr_aload_n (i := 1) hX rfl rfl dX1_countAgainst_49 ?_
        refine jr_indy1 (bc1 := 27) (bs1 := 108) hX hme (by omega) (by omega) (by show 3100 ≤ 3200 + 40 * 12; omega) (Nat.le_of_ble_eq_true rfl) dX1_countAgainst_50 (fun q1 hq1 hA1 => ?_)
        have hw1 : jNw G (jup (jup G q0 (.inr (jLk s0 0, [.ref (ad 1 0 0), .int (nI (s_p S)), .ref (ad 18 ci 0)]))) q1 (.inr (jLk s0 1, [.ref (ad 1 0 0), .ref q0, .ref (ad 18 ci 0)]))) := hw0.trans (jNw.new hq1)
        have h9 : ∀ Gc : jG, jNw _ Gc → ∀ (i j : Nat) (x : sFr), i < 3 → (s_s S i).2[j]? = some x → jHd l D s0 b0 A 9 1 4 Gc q1 (ad 8 i j) (s_std S ch x) := fun Gc hGc i j x hi3 hx => by
          have hw9 := hw1.trans hGc
          have h8 := lm_hd0 (met_lam0 l D s0 b0 A Gc S ad T (jRep.nw hR hw9) ci ch hch hi hv hp hl i j x hi3 hx hs) (hGc _ _ (jup_f jup_s hq1)) (hw9 _ _ hxx)
          have h7 := lm_hd1 (met_lam1 l D s0 b0 A Gc S ad T (jRep.nw hR hw9) ci ch hch hi hv hp hl i j x hi3 hx hs q0 h8) (hGc _ _ jup_s) (hw9 _ _ hxx)
          rw [show s_std S ch x = (s_met S ch x && decide (s_pl S ch.2.1 x.2.1 x.2.2.2.2 = -1)) from by unfold s_std; rw [decide_eq_false (fun z => c_40 (by rw [z]; rfl)), Bool.false_or]]
          exact h7
        refine jr_callV (As := [.ref q1]) (bc1 := (0)) (bs1 := (0)) hX (met_count l D s0 b0 A _ S ad T (jRep.nw hR hw1) hs q1 (s_std S ch) h9) (cwV 1 hX.ts (lw_V q1050 q1052 qs17 q65 q1053) rfl rfl rfl (by decide +kernel) ⟨Nat.le_of_ble_eq_true rfl, Nat.le_of_ble_eq_true rfl⟩) (hw1 _ _ hxx) rfl rfl (Nat.le_of_ble_eq_true rfl) (by first | omega | (dsimp only; omega) | (show _ ≤ _; simp only []; omega)) (by first | omega | (dsimp only; omega) | (show _ ≤ _; simp only []; omega)) rfl dX1_countAgainst_55 (fun v_55 G_55 hp_55 => ?_)
        obtain ⟨rfl, e9t⟩ := hp_55
        exact jr_iret hX hlk hr ⟨by rw [show s_agn S ch = s_ctP S (s_std S ch) 3 from if_neg (fun z => z.elim (fun z => c_6 (by rw [z]; rfl)) (fun z => by rw [z] at hl; cases hl))], hw1.trans e9t⟩ dX1_countAgainst_58
      · refine jr_aload_n (i := 3) hX rfl rfl dX1_countAgainst_43 ?_
        refine jr_goto hX (tgt := 55) (by decide) dX1_countAgainst_44 ?_
        have h9 : ∀ Gc : jG, jNw _ Gc → ∀ (i j : Nat) (x : sFr), i < 3 → (s_s S i).2[j]? = some x → jHd l D s0 b0 A 9 1 4 Gc q0 (ad 8 i j) (s_std S ch x) := fun Gc hGc i j x hi3 hx => by
          have hw9 := hw0.trans hGc
          have h8 := lm_hd0 (met_lam0 l D s0 b0 A Gc S ad T (jRep.nw hR hw9) ci ch hch hi hv hp hl i j x hi3 hx hs) (hGc _ _ jup_s) (hw9 _ _ hxx)
          rw [show s_std S ch x = s_met S ch x from by unfold s_std; rw [decide_eq_true ((nI_eq (b := 119) (by omega) (by omega)).mp c_40)]; simp]
          exact h8.up (by omega)
        refine jr_callV (As := [.ref q0]) (bc1 := (1)) (bs1 := (3)) hX (met_count l D s0 b0 A _ S ad T (jRep.nw hR hw0) hs q0 (s_std S ch) h9) (cwV 1 hX.ts (lw_V q1050 q1052 qs17 q65 q1053) rfl rfl rfl (by decide +kernel) ⟨Nat.le_of_ble_eq_true rfl, Nat.le_of_ble_eq_true rfl⟩) (hw0 _ _ hxx) rfl rfl (Nat.le_of_ble_eq_true rfl) (by first | omega | (dsimp only; omega) | (show _ ≤ _; simp only []; omega)) (by first | omega | (dsimp only; omega) | (show _ ≤ _; simp only []; omega)) rfl dX1_countAgainst_55 (fun v_55 G_55 hp_55 => ?_)
        obtain ⟨rfl, e9t⟩ := hp_55
        exact jr_iret hX hlk hr ⟨by rw [show s_agn S ch = s_ctP S (s_std S ch) 3 from if_neg (fun z => z.elim (fun z => c_6 (by rw [z]; rfl)) (fun z => by rw [z] at hl; cases hl))], hw0.trans e9t⟩ dX1_countAgainst_58
    · refine jr_iconst (v := 0) hX rfl dX1_countAgainst_17 ?_
      exact jr_iret hX hlk hr ⟨by rw [show s_agn S ch = 0 from if_pos (Or.inr (jbz_0 c_14))]; rfl, jNw.refl⟩ dX1_countAgainst_18
