/-! figures: the component's carriedShare; meanFrames of both -/
theorem sum_le {S : sSt} (hs : sWs S) : ∀ i, i ≤ 3 → s_sum S i ≤ 8 * i ∧ s_mny S i ≤ i
  | 0, _ => ⟨Nat.le_refl _, Nat.le_refl _⟩
  | i + 1, h => by
    obtain ⟨h1, h2⟩ := sum_le hs i (by omega)
    have h3 := (hs i (by omega)).2.1
    constructor
    · show s_sum S i + _ ≤ _; omega
    · show s_mny S i + (if _ then 1 else 0) ≤ i + 1
      split <;> omega

set_option maxHeartbeats 4000000 in
set_option maxRecDepth 100000 in
theorem met_shareC (l : Launch) (D : va_G) (s0 : State) (b0 : Nat) (A : Nat → Prop) (G : jG) (S : sSt) (ad : jN) (T : jT) (hR : jCo D s0 b0 S ad T G) (ho : sWo S) (hv : sWv S) (hp : s_p S < s_m S) (hne : s_o S ≠ []) : jM l yX1_carriedShare (ws_ yX1_carriedShare cX1_carriedShare 4 (some .float)) (jR 5 1 4) D s0 b0 A G [.ref (ad 1 0 0)] (fun w G1 => w = some (.float (FP.fdiv (FP.i2f (nI (s_shr S (s_o S).length))) (FP.i2f (nI (s_o S).length)))) ∧ jNw G G1) := by
  have hxx := co_x hR
  obtain ⟨hol, hoe⟩ := ho
  have hvu := hv.2.1
  have hmm : s_m S = (s_v S).length - 1 := rfl
  have hpos : 0 < (s_o S).length := List.length_pos_iff.mpr hne
  have hsl := shr_le (S := S) (k := (s_o S).length)
  obtain ⟨mo, cap, ea, hL0, -, -, -⟩ := co_ths hR
  have hL := hL0
  refine jM.of (by decide +kernel) (own := RX1) rfl (Nat.le_of_ble_eq_true rfl) ?_
  intro p e s m args below meth c hX hr hlk hnm
  refine jr_aload_n (i := 0) hX rfl rfl dX1_carriedShare_0 ?_
  refine jr_get (ci := 2) (k := 1) hX hxx rfl in_X1 (by decide) q364 rfl dX1_carriedShare_1 ?_
  refine jr_callF (As := []) (bc1 := (1)) (bs1 := (4)) hX (met_isEmpty l D s0 b0 A _ (ad 2 1 0) (s_rg (s_o S).length (fun v => ad 16 v 0)) mo cap ea hL) (va_cwF 0 hX.ts (lw_F q991 q994 q996 q68 q998) rfl rfl rfl (hX.S.fw ⟨by decide +kernel, by decide +kernel⟩ q993 q992 q997 q995 q183) (by decide +kernel) ⟨Nat.le_of_ble_eq_true rfl, Nat.le_of_ble_eq_true rfl⟩) hL.1 rfl rfl (Nat.le_of_ble_eq_true rfl) (by first | omega | (dsimp only; omega) | (show _ ≤ _; simp only []; omega)) (by first | omega | (dsimp only; omega) | (show _ ≤ _; simp only []; omega)) rfl dX1_carriedShare_4 (fun v_4 G_4 hp_4 => ?_)
  obtain ⟨rfl, e9⟩ := hp_4
  rw [e9]
  refine jr_if_ne hX (tgt := 16) (by decide) dX1_carriedShare_9 (fun c_9 => absurd c_9 (fun z => z (by rw [decide_eq_false (fun z => hne (List.length_eq_zero_iff.mp (by rw [← rg_len (n := (s_o S).length) (f := fun v => ad 16 v 0), z]; rfl)))]; rfl))) (fun c_9 => ?_)
  refine jr_iconst (v := 1) hX rfl dX1_carriedShare_12 ?_
  refine jr_goto hX (tgt := 17) (by decide) dX1_carriedShare_13 ?_
  refine jr_callS (As := [.int 1]) (bc1 := (1)) (bs1 := (4)) hX (met_requireNumber l D s0 b0 A _ ) (va_cwS 1 hX.ts (lw_S q1640 q1641 q65 q1642) rfl rfl rfl (by decide +kernel) ⟨Nat.le_of_ble_eq_true rfl, Nat.le_of_ble_eq_true rfl⟩) rfl (Nat.le_of_ble_eq_true rfl) (by first | omega | (dsimp only; omega) | (show _ ≤ _; simp only []; omega)) (by first | omega | (dsimp only; omega) | (show _ ≤ _; simp only []; omega)) rfl dX1_carriedShare_17 (fun v_17 G_17 hp_17 => ?_)
  obtain ⟨rfl, e9⟩ := hp_17
  rw [e9]
  refine jr_iconst (v := 0) hX rfl dX1_carriedShare_20 ?_
  refine jr_istore_n (i := 1) hX rfl (by decide) rfl dX1_carriedShare_21 ?_
  refine jr_aload_n (i := 0) hX rfl rfl dX1_carriedShare_22 ?_
  refine jr_get (ci := 2) (k := 1) hX hxx rfl in_X1 (by decide) q364 rfl dX1_carriedShare_23 ?_
  refine jr_callF (As := []) (bc1 := (0)) (bs1 := (0)) hX (met_iterator l D s0 b0 A _ (ad 2 1 0) (s_rg (s_o S).length (fun v => ad 16 v 0)) mo cap ea hL) (va_cwF 0 hX.ts (lw_F q1055 q853 q855 q68 q857) rfl rfl rfl (hX.S.fw ⟨by decide +kernel, by decide +kernel⟩ q852 q851 q856 q854 q183) (by decide +kernel) ⟨Nat.le_of_ble_eq_true rfl, Nat.le_of_ble_eq_true rfl⟩) hL.1 rfl rfl (Nat.le_of_ble_eq_true rfl) (by first | omega | (dsimp only; omega) | (show _ ≤ _; simp only []; omega)) (by first | omega | (dsimp only; omega) | (show _ ≤ _; simp only []; omega)) rfl dX1_carriedShare_26 (fun v_26 G_26 hp_26 => ?_)
  obtain ⟨it, rfl, hn, hA, e9⟩ := hp_26
  rw [e9]
  refine jr_astore_n (i := 2) hX rfl (by decide) rfl dX1_carriedShare_31 ?_
  have hnit := hn
  have hxl : (s_rg (s_o S).length (fun v => ad 16 v 0)).length = (s_o S).length := rg_len
  have loop : ∀ (n9 : Nat) (k : Nat) (Gc : jG) (lr : Int32), (s_o S).length - k = n9 → k ≤ (s_o S).length → jNw G Gc → Gc it = some (jo 1 [.int (nI k), .int lr, .int mo, .ref (ad 2 1 0)]) → Jg p l e (jR 5 1 4) s m args below meth c (MQ below (jQ D A (fun w G1 => w = some (.float (FP.fdiv (FP.i2f (nI (s_shr S (s_o S).length))) (FP.i2f (nI (s_o S).length)))) ∧ jNw G G1)) args s 1 4 A) D A 4 Gc 0 0 32 [(1, .int (nI (s_shr S k))), (2, .ref it), (0, .ref (ad 1 0 0))] [] := by
    intro n9
    induction n9 using Nat.strongRecOn with
    | ind n9 ih0 =>
    intro k Gc lr hn9 hkl hnw hit
    have ih : ∀ m9, m9 < n9 → ∀ (k : Nat) (Gc : jG) (lr : Int32), (s_o S).length - k = m9 → k ≤ (s_o S).length → jNw G Gc → Gc it = some (jo 1 [.int (nI k), .int lr, .int mo, .ref (ad 2 1 0)]) → Jg p l e (jR 5 1 4) s m args below meth c (MQ below (jQ D A (fun w G1 => w = some (.float (FP.fdiv (FP.i2f (nI (s_shr S (s_o S).length))) (FP.i2f (nI (s_o S).length)))) ∧ jNw G G1)) args s 1 4 A) D A 4 Gc 0 0 32 [(1, .int (nI (s_shr S k))), (2, .ref it), (0, .ref (ad 1 0 0))] [] := fun m9 hm => ih0 m9 hm
    have hL := hnw.jLS hL0
    refine jr_aload_n (i := 2) hX rfl rfl dX1_carriedShare_32 ?_
    refine jr_callF (As := []) (bc1 := (0)) (bs1 := (0)) hX (met_hasNext l D s0 b0 A _ (ad 2 1 0) (s_rg (s_o S).length (fun v => ad 16 v 0)) mo cap ea hL it (k) lr hit (by rw [hxl]; omega)) (va_cwF 0 hX.ts (lw_F q1057 q882 q884 q96 q886) rfl rfl rfl (hX.S.fw ⟨by decide +kernel, by decide +kernel⟩ q880 q879 q885 q883 q881) (by decide +kernel) ⟨Nat.le_of_ble_eq_true rfl, Nat.le_of_ble_eq_true rfl⟩) hit rfl rfl (Nat.le_of_ble_eq_true rfl) (by first | omega | (dsimp only; omega) | (show _ ≤ _; simp only []; omega)) (by first | omega | (dsimp only; omega) | (show _ ≤ _; simp only []; omega)) rfl dX1_carriedShare_33 (fun v_33 G_33 hp_33 => ?_)
    obtain ⟨rfl, e9⟩ := hp_33
    rw [e9, hxl]
    refine jr_if_eq hX (tgt := 73) (by decide) dX1_carriedShare_38 (fun c_38 => ?_) (fun c_38 => ?_)
    · have hk2 : ¬ k < (s_o S).length := of_decide_eq_false (jbz_0 c_38)
      rw [show k = (s_o S).length by omega]
      refine jr_iload_n (i := 1) hX rfl rfl dX1_carriedShare_73 ?_
      refine jr_i2f hX dX1_carriedShare_74 ?_
      refine jr_aload_n (i := 0) hX rfl rfl dX1_carriedShare_75 ?_
      refine jr_get (ci := 2) (k := 1) hX (hnw _ _ hxx) rfl in_X1 (by decide) q364 rfl dX1_carriedShare_76 ?_
      refine jr_callF (As := []) (bc1 := (0)) (bs1 := (0)) hX (met_size l D s0 b0 A _ (ad 2 1 0) (s_rg (s_o S).length (fun v => ad 16 v 0)) mo cap ea hL) (va_cwF 0 hX.ts (lw_F q405 q408 q410 q68 q412) rfl rfl rfl (hX.S.fw ⟨by decide +kernel, by decide +kernel⟩ q407 q406 q411 q409 q183) (by decide +kernel) ⟨Nat.le_of_ble_eq_true rfl, Nat.le_of_ble_eq_true rfl⟩) hL.1 rfl rfl (Nat.le_of_ble_eq_true rfl) (by first | omega | (dsimp only; omega) | (show _ ≤ _; simp only []; omega)) (by first | omega | (dsimp only; omega) | (show _ ≤ _; simp only []; omega)) rfl dX1_carriedShare_79 (fun v_79 G_79 hp_79 => ?_)
      obtain ⟨rfl, e9⟩ := hp_79
      rw [e9, hxl]
      refine jr_i2f hX dX1_carriedShare_84 ?_
      refine jr_fdiv hX (nn_f _ (by omega) _ (by omega) hpos) dX1_carriedShare_85 ?_
      exact jr_fret hX hlk hr ⟨rfl, hnw⟩ dX1_carriedShare_86
    · have hk2 : k < (s_o S).length := of_decide_eq_true (jbz_1 c_38)
      obtain ⟨t, ht⟩ : ∃ t, (s_o S)[k]? = some t := ⟨_, List.getElem?_eq_getElem hk2⟩
      have htv := (hoe k t ht).1
      refine jr_aload_n (i := 2) hX rfl rfl dX1_carriedShare_41 ?_
      refine jr_callF (As := []) (bc1 := (0)) (bs1 := (0)) hX (met_next l D s0 b0 A _ (ad 2 1 0) (s_rg (s_o S).length (fun v => ad 16 v 0)) mo cap ea hL it (k) lr hit (ad 16 k 0) (rg_at hk2)) (va_cwF 0 hX.ts (lw_F q1059 q891 q893 q96 q895) rfl rfl rfl (hX.S.fw ⟨by decide +kernel, by decide +kernel⟩ q890 q889 q894 q892 q881) (by decide +kernel) ⟨Nat.le_of_ble_eq_true rfl, Nat.le_of_ble_eq_true rfl⟩) hit rfl rfl (Nat.le_of_ble_eq_true rfl) (by first | omega | (dsimp only; omega) | (show _ ≤ _; simp only []; omega)) (by first | omega | (dsimp only; omega) | (show _ ≤ _; simp only []; omega)) rfl dX1_carriedShare_42 (fun v_42 G_42 hp_42 => ?_)
      obtain ⟨rfl, e9⟩ := hp_42
      rw [e9]
      have hw2 : jNw G (jup Gc it (jo 1 [.int (nI (k + 1)), .int (nI k), .int mo, .ref (ad 2 1 0)])) := jNw.fr hnw hnit
      have hTh := hw2 _ _ (co_th hR ht)
      have hxx2 := hw2 _ _ hxx
      refine jr_castS hX hTh rfl q1096 dX1_carriedShare_47 ?_
      refine jr_astore_n (i := 3) hX rfl (by decide) rfl dX1_carriedShare_50 ?_
      refine jr_iload_n (i := 1) hX rfl rfl dX1_carriedShare_51 ?_
      refine jr_aload_n (i := 3) hX rfl rfl dX1_carriedShare_52 ?_
      refine jr_aload_n (i := 0) hX rfl rfl dX1_carriedShare_53 ?_
      refine jr_get (ci := 2) (k := 8) hX hxx2 rfl in_X1 (by decide) q371 rfl dX1_carriedShare_54 ?_
      refine jr_callU (As := [.int (nI (s_p S))]) (bc1 := (0)) (bs1 := (0)) hX (met_isOf_t l D s0 b0 A _ (ad 16 k 0) _ _ _ hTh (nI (s_p S))) (va_cwU 1 hX.ts (lw_U q1648 q1649 q1650 q1019 q98 q1020) rfl rfl rfl rfl (by decide +kernel) ⟨Nat.le_of_ble_eq_true rfl, Nat.le_of_ble_eq_true rfl⟩) hTh rfl rfl (Nat.le_of_ble_eq_true rfl) (by first | omega | (dsimp only; omega) | (show _ ≤ _; simp only []; omega)) (by first | omega | (dsimp only; omega) | (show _ ≤ _; simp only []; omega)) rfl dX1_carriedShare_57 (fun v_57 G_57 hp_57 => ?_)
      obtain ⟨rfl, e9⟩ := hp_57
      rw [e9]
      refine jr_if_eq hX (tgt := 67) (by decide) dX1_carriedShare_60 (fun c_60 => ?_) (fun c_60 => ?_)
      · refine jr_iconst (v := 0) hX rfl dX1_carriedShare_67 ?_
        refine jr_iadd hX dX1_carriedShare_68 ?_
        rw [Int32.add_zero, show s_shr S k = s_shr S (k + 1) from by rw [shr_s ht, if_neg (fun z => absurd (jbz_0 c_60) (by rw [z, decide_eq_true rfl]; simp))]; rfl]
        refine jr_istore_n (i := 1) hX rfl (by decide) rfl dX1_carriedShare_69 ?_
        refine jr_goto hX (tgt := 32) (by decide) dX1_carriedShare_70 ?_
        refine jr_lvm [(1, .int (nI (s_shr S (k + 1)))), (2, .ref it), (0, .ref (ad 1 0 0))] rfl ?_
        exact ih _ (by omega) (k + 1) _ _ rfl (by omega) hw2 jup_s
      · refine jr_iconst (v := 1) hX rfl dX1_carriedShare_63 ?_
        refine jr_goto hX (tgt := 68) (by decide) dX1_carriedShare_64 ?_
        refine jr_iadd hX dX1_carriedShare_68 ?_
        rw [nI_1, show s_shr S k + 1 = s_shr S (k + 1) from by rw [shr_s ht, if_pos ((nI_eq (by omega) (by omega)).mp (of_decide_eq_true (jbz_1 c_60)))]]
        refine jr_istore_n (i := 1) hX rfl (by decide) rfl dX1_carriedShare_69 ?_
        refine jr_goto hX (tgt := 32) (by decide) dX1_carriedShare_70 ?_
        refine jr_lvm [(1, .int (nI (s_shr S (k + 1)))), (2, .ref it), (0, .ref (ad 1 0 0))] rfl ?_
        exact ih _ (by omega) (k + 1) _ _ rfl (by omega) hw2 jup_s
  refine jr_lvm [(1, .int (nI (s_shr S 0))), (2, .ref it), (0, .ref (ad 1 0 0))] rfl ?_
  exact loop _ 0 _ (-1) rfl (Nat.zero_le _) (jNw.new hn) jup_s

set_option maxHeartbeats 4000000 in
set_option maxRecDepth 100000 in
theorem mm_shareE (l : Launch) (D : va_G) (s0 : State) (b0 : Nat) (A : Nat → Prop) (G : jG) (S : sSt) (th : Nat) (ad : jN) (T : jT) (hR : jMo D s0 b0 th S ad T G) (he : s_o S = []) : jM l yX5_carriedShare (ws_ yX5_carriedShare cX5_carriedShare 4 (some .float)) (jR 5 1 4) D s0 b0 A G [.ref (ad 31 0 0)] (fun w G1 => w = some (.float FP.fconst0) ∧ jMo D s0 b0 1 S ad T G1 ∧ jFm 31 60 T G T G1) := by
  have hxx := mo_x hR
  obtain ⟨mo, cap, ea, hL, -, -, -⟩ := mo_ths hR
  have hR0 := mo_wth hR 1
  have hx0 := mo_x hR0
  have hl0 : (s_o S).length = 0 := by rw [he]; rfl
  have hF0 : jFm 31 60 T G T _ := jFm.pt (T := T) (G := G) (lo := 31) (hi := 60) (c := jo 11 [.int (nI 1), .ref (ad 32 0 0), .ref (ad 37 (s_m S) 0), .int (nI (s_p S)), .ref (ad 32 1 0), .ref (ad 32 2 0), .ref (ad 34 0 0), .ref (ad 32 3 0), .ref (ad 32 4 0), .int (jbz (s_w S)), .int (s_l S), .ref (ad 32 5 0), .ref (ad 32 6 0), .long (lN (s_n S))]) (mo_t31 hR) (by decide)
  refine jM.of (by decide +kernel) (own := RX5) rfl (Nat.le_of_ble_eq_true rfl) ?_
  intro p e s m args below meth c hX hr hlk hnm
  refine jr_aload_n (i := 0) hX rfl rfl dX5_carriedShare_0 ?_
  refine jr_aload_n (i := 0) hX rfl rfl dX5_carriedShare_1 ?_
  refine jr_get (ci := 11) (k := 5) hX hxx rfl in_X5 (by decide) q1735 rfl dX5_carriedShare_2 ?_
  refine jr_callV (As := []) (bc1 := (1)) (bs1 := (4)) hX (met_isEmpty l D s0 b0 A _ (ad 32 2 0) (s_rg (s_o S).length (fun v => ad 46 v 0)) mo cap ea hL) (cwV 0 hX.ts (lw_V q1919 q996 q2207 q68 q998) rfl rfl rfl (by decide +kernel) ⟨Nat.le_of_ble_eq_true rfl, Nat.le_of_ble_eq_true rfl⟩) hL.1 rfl rfl (Nat.le_of_ble_eq_true rfl) (by first | omega | (dsimp only; omega) | (show _ ≤ _; simp only []; omega)) (by first | omega | (dsimp only; omega) | (show _ ≤ _; simp only []; omega)) rfl dX5_carriedShare_5 (fun v_5 G_5 hp_5 => ?_)
  obtain ⟨rfl, e9⟩ := hp_5
  rw [e9]
  refine jr_if_eq hX (tgt := 15) (by decide) dX5_carriedShare_8 (fun c_8 => absurd c_8 (by rw [decide_eq_true (by rw [hl0]; rfl)]; decide)) (fun c_8 => ?_)
  refine jr_iconst (v := 1) hX rfl dX5_carriedShare_11 ?_
  refine jr_goto hX (tgt := 16) (by decide) dX5_carriedShare_12 ?_
  refine jr_put (ci := 11) (k := 0) hX hxx rfl in_X5 (by decide) tyX5 tyX5_ok nmX5 q1730 rfl (by first | rfl | assumption) (by first | rfl | assumption) (Nat.le_of_ble_eq_true rfl) dX5_carriedShare_16 ?_
  obtain ⟨mo2, cap2, ea2, hL2, -, -, -⟩ := mo_ths hR0
  refine jr_iconst (v := 0) hX rfl dX5_carriedShare_19 ?_
  refine jr_istore_n (i := 1) hX rfl (by decide) rfl dX5_carriedShare_20 ?_
  refine jr_aload_n (i := 0) hX rfl rfl dX5_carriedShare_21 ?_
  refine jr_get (ci := 11) (k := 5) hX hx0 rfl in_X5 (by decide) q1735 rfl dX5_carriedShare_22 ?_
  refine jr_callV (As := []) (bc1 := (0)) (bs1 := (0)) hX (met_iterator l D s0 b0 A _ (ad 32 2 0) (s_rg (s_o S).length (fun v => ad 46 v 0)) mo2 cap2 ea2 hL2) (cwV 0 hX.ts (lw_V q1937 q855 q2208 q68 q857) rfl rfl rfl (by decide +kernel) ⟨Nat.le_of_ble_eq_true rfl, Nat.le_of_ble_eq_true rfl⟩) hL2.1 rfl rfl (Nat.le_of_ble_eq_true rfl) (by first | omega | (dsimp only; omega) | (show _ ≤ _; simp only []; omega)) (by first | omega | (dsimp only; omega) | (show _ ≤ _; simp only []; omega)) rfl dX5_carriedShare_25 (fun v_25 G_25 hp_25 => ?_)
  obtain ⟨it, rfl, hn, hA, e9⟩ := hp_25
  rw [e9]
  have hL3 := (jNw.new hn (c := jo 1 [.int 0, .int (-1), .int mo2, .ref (ad 32 2 0)])).jLS hL2
  refine jr_astore_n (i := 2) hX rfl (by decide) rfl dX5_carriedShare_28 ?_
  refine jr_aload_n (i := 2) hX rfl rfl dX5_carriedShare_29 ?_
  refine jr_callF (As := []) (bc1 := (0)) (bs1 := (0)) hX (met_hasNext l D s0 b0 A _ (ad 32 2 0) (s_rg (s_o S).length (fun v => ad 46 v 0)) mo2 cap2 ea2 hL3 it 0 (-1) jup_s (Nat.zero_le _)) (va_cwF 0 hX.ts (lw_F q1939 q882 q884 q96 q886) rfl rfl rfl (hX.S.fw ⟨by decide +kernel, by decide +kernel⟩ q880 q879 q885 q883 q881) (by decide +kernel) ⟨Nat.le_of_ble_eq_true rfl, Nat.le_of_ble_eq_true rfl⟩) jup_s rfl rfl (Nat.le_of_ble_eq_true rfl) (by first | omega | (dsimp only; omega) | (show _ ≤ _; simp only []; omega)) (by first | omega | (dsimp only; omega) | (show _ ≤ _; simp only []; omega)) rfl dX5_carriedShare_30 (fun v_30 G_30 hp_30 => ?_)
  obtain ⟨rfl, e9⟩ := hp_30
  rw [e9, rg_len, hl0]
  refine jr_if_eq hX (tgt := 70) (by decide) dX5_carriedShare_35 (fun c_35 => ?_) (fun c_35 => absurd rfl c_35)
  refine jr_aload_n (i := 0) hX rfl rfl dX5_carriedShare_70 ?_
  refine jr_get (ci := 11) (k := 0) hX (jup_f hx0 hn) rfl in_X5 (by decide) q1730 rfl dX5_carriedShare_71 ?_
  refine jr_if_le hX (tgt := 81) (by decide) dX5_carriedShare_74 (fun c_74 => absurd c_74 (by decide)) (fun c_74 => ?_)
  refine jr_fconst0 hX dX5_carriedShare_77 ?_
  refine jr_goto hX (tgt := 92) (by decide) dX5_carriedShare_78 ?_
  exact jr_fret hX hlk hr ⟨rfl, jRep.nw hR0 (jNw.new hn), hF0.trans (jFm.new hn)⟩ dX5_carriedShare_92

set_option maxHeartbeats 4000000 in
set_option maxRecDepth 100000 in
theorem met_meanC (l : Launch) (D : va_G) (s0 : State) (b0 : Nat) (A : Nat → Prop) (G : jG) (S : sSt) (ad : jN) (T : jT) (hR : jCo D s0 b0 S ad T G) (hs : sWs S) (hmp : 0 < s_mny S 3) : jM l yX1_meanFrames (ws_ yX1_meanFrames cX1_meanFrames 7 (some .double)) (jR 4 0 0) D s0 b0 A G [.ref (ad 1 0 0)] (fun w G1 => w = some (.double (FP.ddiv (FP.i2d (nI (s_sum S 3))) (FP.i2d (nI (s_mny S 3))))) ∧ G1 = G) := by
  have hxx := co_x hR
  obtain ⟨hsu, hmu⟩ := sum_le hs 3 (Nat.le_refl _)
  refine jM.of (by decide +kernel) (own := RX1) rfl (Nat.le_of_ble_eq_true rfl) ?_
  intro p e s m args below meth c hX hr hlk hnm
  refine jr_iconst (v := 0) hX rfl dX1_meanFrames_0 ?_
  refine jr_istore_n (i := 1) hX rfl (by decide) rfl dX1_meanFrames_1 ?_
  refine jr_iconst (v := 0) hX rfl dX1_meanFrames_2 ?_
  refine jr_istore_n (i := 2) hX rfl (by decide) rfl dX1_meanFrames_3 ?_
  refine jr_aload_n (i := 0) hX rfl rfl dX1_meanFrames_4 ?_
  refine jr_get (ci := 2) (k := 2) hX hxx rfl in_X1 (by decide) q365 rfl dX1_meanFrames_5 ?_
  refine jr_astore_n (i := 3) hX rfl (by decide) rfl dX1_meanFrames_8 ?_
  refine jr_aload_n (i := 3) hX rfl rfl dX1_meanFrames_9 ?_
  refine jr_alen (t := 2) hX (co_strs hR) rfl (v := 3) rfl dX1_meanFrames_10 ?_
  refine jr_istore hX (by decide) rfl dX1_meanFrames_11 ?_
  refine jr_iconst (v := 0) hX rfl dX1_meanFrames_13 ?_
  refine jr_istore hX (by decide) rfl dX1_meanFrames_14 ?_
  have loop : ∀ (n9 : Nat) (i : Nat), 3 - i = n9 → i ≤ 3 → Jg p l e (jR 4 0 0) s m args below meth c (MQ below (jQ D A (fun w G1 => w = some (.double (FP.ddiv (FP.i2d (nI (s_sum S 3))) (FP.i2d (nI (s_mny S 3))))) ∧ G1 = G)) args s 0 0 A) D A 7 G 0 0 16 [(5, .int (nI i)), (2, .int (nI (s_mny S i))), (1, .int (nI (s_sum S i))), (4, .int 3), (3, .ref (ad 3 0 0)), (0, .ref (ad 1 0 0))] [] := by
    intro n9
    induction n9 using Nat.strongRecOn with
    | ind n9 ih0 =>
    intro i hn9 hil
    have ih : ∀ m9, m9 < n9 → ∀ (i : Nat), 3 - i = m9 → i ≤ 3 → Jg p l e (jR 4 0 0) s m args below meth c (MQ below (jQ D A (fun w G1 => w = some (.double (FP.ddiv (FP.i2d (nI (s_sum S 3))) (FP.i2d (nI (s_mny S 3))))) ∧ G1 = G)) args s 0 0 A) D A 7 G 0 0 16 [(5, .int (nI i)), (2, .int (nI (s_mny S i))), (1, .int (nI (s_sum S i))), (4, .int 3), (3, .ref (ad 3 0 0)), (0, .ref (ad 1 0 0))] [] := fun m9 hm => ih0 m9 hm
    refine jr_iload hX rfl dX1_meanFrames_16 ?_
    refine jr_iload hX rfl dX1_meanFrames_18 ?_
    refine jr_icmp_ge hX (tgt := 64) (by decide) dX1_meanFrames_20 (fun c_20 => ?_) (fun c_20 => ?_)
    · have hi3 : 3 ≤ i := Nat.not_lt.mp fun z => absurd c_20 (nI_ge (b := 3) z (by omega))
      rw [show i = 3 by omega]
      refine jr_iload_n (i := 2) hX rfl rfl dX1_meanFrames_64 ?_
      refine jr_if_le hX (tgt := 72) (by decide) dX1_meanFrames_65 (fun c_65 => absurd c_65 (nI_nle hmp (by omega))) (fun c_65 => ?_)
      refine jr_iconst (v := 1) hX rfl dX1_meanFrames_68 ?_
      refine jr_goto hX (tgt := 73) (by decide) dX1_meanFrames_69 ?_
      refine jr_callS (As := [.int 1]) (bc1 := (0)) (bs1 := (0)) hX (met_requireNumber l D s0 b0 A _ ) (va_cwS 1 hX.ts (lw_S q1640 q1641 q65 q1642) rfl rfl rfl (by decide +kernel) ⟨Nat.le_of_ble_eq_true rfl, Nat.le_of_ble_eq_true rfl⟩) rfl (Nat.le_of_ble_eq_true rfl) (by first | omega | (dsimp only; omega) | (show _ ≤ _; simp only []; omega)) (by first | omega | (dsimp only; omega) | (show _ ≤ _; simp only []; omega)) rfl dX1_meanFrames_73 (fun v_73 G_73 hp_73 => ?_)
      obtain ⟨rfl, e9⟩ := hp_73
      rw [e9]
      refine jr_iload_n (i := 1) hX rfl rfl dX1_meanFrames_76 ?_
      refine jr_i2d hX dX1_meanFrames_77 ?_
      refine jr_iload_n (i := 2) hX rfl rfl dX1_meanFrames_78 ?_
      refine jr_i2d hX dX1_meanFrames_79 ?_
      refine jr_ddiv hX (nn_d _ (by omega) _ (by omega) hmp) dX1_meanFrames_80 ?_
      exact jr_dret hX hlk hr ⟨rfl, rfl⟩ dX1_meanFrames_81
    · have hi3 : i < 3 := Nat.not_le.mp fun z => c_20 (nI_le (a := 3) z (by omega))
      obtain ⟨moF, capF, eaF, hFL, -, -, -⟩ := co_frl hR hi3
      have hst9 := (hs i hi3).1
      refine jr_aload_n (i := 3) hX rfl rfl dX1_meanFrames_23 ?_
      refine jr_iload hX rfl dX1_meanFrames_24 ?_
      refine jr_aald (t := 2) (v := .ref (ad 5 i 0)) hX (co_strs hR) rfl rfl (nI3 hi3) (by rw [nI_clamp (by omega)]; rfl) dX1_meanFrames_26 ?_
      refine jr_astore hX (by decide) rfl dX1_meanFrames_27 ?_
      refine jr_iload_n (i := 1) hX rfl rfl dX1_meanFrames_29 ?_
      refine jr_aload hX rfl dX1_meanFrames_30 ?_
      refine jr_getN (ci := 3) (k := 0) hX (co_str hR hi3) rfl in_X2 (by decide) q159 rfl dX1_meanFrames_32 ?_
      refine jr_callF (As := []) (bc1 := (0)) (bs1 := (0)) hX (met_size l D s0 b0 A _ (ad 6 i 0) (s_rg (s_s S i).2.length (fun q => ad 8 i q)) moF capF eaF hFL) (va_cwF 0 hX.ts (lw_F q405 q408 q410 q68 q412) rfl rfl rfl (hX.S.fw ⟨by decide +kernel, by decide +kernel⟩ q407 q406 q411 q409 q183) (by decide +kernel) ⟨Nat.le_of_ble_eq_true rfl, Nat.le_of_ble_eq_true rfl⟩) hFL.1 rfl rfl (Nat.le_of_ble_eq_true rfl) (by first | omega | (dsimp only; omega) | (show _ ≤ _; simp only []; omega)) (by first | omega | (dsimp only; omega) | (show _ ≤ _; simp only []; omega)) rfl dX1_meanFrames_35 (fun v_35 G_35 hp_35 => ?_)
      obtain ⟨rfl, e9⟩ := hp_35
      rw [e9, rg_len]
      refine jr_iadd hX dX1_meanFrames_40 ?_
      rw [nI_add]
      refine jr_istore_n (i := 1) hX rfl (by decide) rfl dX1_meanFrames_41 ?_
      refine jr_iload_n (i := 2) hX rfl rfl dX1_meanFrames_42 ?_
      refine jr_aload hX rfl dX1_meanFrames_43 ?_
      refine jr_callV (As := []) (bc1 := (0)) (bs1 := (0)) hX (met_isAlive l D s0 b0 A _ (ad 5 i 0) (ad 6 i 0) (s_s S i).1 (co_str hR hi3) hst9) (cwV 0 hX.ts (lw_V q947 q948 q949 q69 q950) rfl rfl rfl (by decide +kernel) ⟨Nat.le_of_ble_eq_true rfl, Nat.le_of_ble_eq_true rfl⟩) (co_str hR hi3) rfl rfl (Nat.le_of_ble_eq_true rfl) (by first | omega | (dsimp only; omega) | (show _ ≤ _; simp only []; omega)) (by first | omega | (dsimp only; omega) | (show _ ≤ _; simp only []; omega)) rfl dX1_meanFrames_45 (fun v_45 G_45 hp_45 => ?_)
      obtain ⟨rfl, e9⟩ := hp_45
      rw [e9]
      refine jr_if_eq hX (tgt := 55) (by decide) dX1_meanFrames_48 (fun c_48 => ?_) (fun c_48 => ?_)
      · refine jr_iconst (v := 0) hX rfl dX1_meanFrames_55 ?_
        refine jr_iadd hX dX1_meanFrames_56 ?_
        rw [Int32.add_zero, show s_mny S i = s_mny S (i + 1) from by show _ = s_mny S i + (if s_al (s_s S i).1 = true then 1 else 0); rw [jbz_0 c_48]; rfl]
        refine jr_istore_n (i := 2) hX rfl (by decide) rfl dX1_meanFrames_57 ?_
        refine jr_iinc (w := 1) hX rfl rfl (by decide) rfl dX1_meanFrames_58 ?_
        rw [show nI i + 1 = nI (i + 1) from nI_1 i]
        refine jr_goto hX (tgt := 16) (by decide) dX1_meanFrames_61 ?_
        refine jr_lvm [(5, .int (nI (i + 1))), (2, .int (nI (s_mny S (i + 1)))), (1, .int (nI (s_sum S (i + 1)))), (4, .int 3), (3, .ref (ad 3 0 0)), (0, .ref (ad 1 0 0))] rfl ?_
        exact ih _ (by omega) (i + 1) rfl (by omega)
      · refine jr_iconst (v := 1) hX rfl dX1_meanFrames_51 ?_
        refine jr_goto hX (tgt := 56) (by decide) dX1_meanFrames_52 ?_
        refine jr_iadd hX dX1_meanFrames_56 ?_
        rw [nI_1, show s_mny S i + 1 = s_mny S (i + 1) from by show _ = s_mny S i + (if s_al (s_s S i).1 = true then 1 else 0); rw [jbz_1 c_48]; rfl]
        refine jr_istore_n (i := 2) hX rfl (by decide) rfl dX1_meanFrames_57 ?_
        refine jr_iinc (w := 1) hX rfl rfl (by decide) rfl dX1_meanFrames_58 ?_
        rw [show nI i + 1 = nI (i + 1) from nI_1 i]
        refine jr_goto hX (tgt := 16) (by decide) dX1_meanFrames_61 ?_
        refine jr_lvm [(5, .int (nI (i + 1))), (2, .int (nI (s_mny S (i + 1)))), (1, .int (nI (s_sum S (i + 1)))), (4, .int 3), (3, .ref (ad 3 0 0)), (0, .ref (ad 1 0 0))] rfl ?_
        exact ih _ (by omega) (i + 1) rfl (by omega)
  refine jr_lvm [(5, .int (nI 0)), (2, .int (nI (s_mny S 0))), (1, .int (nI (s_sum S 0))), (4, .int 3), (3, .ref (ad 3 0 0)), (0, .ref (ad 1 0 0))] rfl ?_
  exact loop _ 0 rfl (Nat.zero_le _)
