/-! the model's fieldIn, isTouched, change; where arguments aren't valid -/
set_option maxHeartbeats 4000000 in
set_option maxRecDepth 100000 in
theorem mm_fieldInC (l : Launch) (D : va_G) (s0 : State) (b0 : Nat) (A : Nat → Prop) (G : jG) (S : sSt) (th : Nat) (ad : jN) (T : jT) (hR : jMo D s0 b0 th S ad T G) (o : Nat) (t : sTh) (ht : (s_o S)[o]? = some t) (hol : (s_o S).length < 10000) (hv : sWv S) (htv : t.1 < s_m S) (hk : t.2.1 < 3) (a : Nat) (ha : a < s_m S) (f : Nat) (hf : f < (s_ver S a).2.1 t.2.1) : jM l yX5_fieldIn (ws_ yX5_fieldIn cX5_fieldIn 6 (some .int)) (jR 5 5 20) D s0 b0 A G [.ref (ad 31 0 0), .int (nI o), .int (nI a), .int (nI f)] (fun w G1 => w = some (.int (s_car S t.2.1 t.1 a t.2.2 f)) ∧ jMo D s0 b0 0 S ad T G1 ∧ jFm 31 60 T G T G1) := by
  have hxx := mo_x hR
  have ho9 := lt_ofl ht
  have hin := len_yes hol ho9
  have hvu := hv.2.1
  have hmm : s_m S = (s_v S).length - 1 := rfl
  have hin3 := len_yes (n := s_m S) (by omega) ha
  have hnf := (hv.2.2 a (by omega)).2.1 t.2.1 hk
  have hin2 := len_yes (n := (s_ver S a).2.1 t.2.1) (by omega) hf
  refine jM.of (by decide +kernel) (own := RX5) rfl (Nat.le_of_ble_eq_true rfl) ?_
  intro p e s m args below meth c hX hr hlk hnm
  refine jr_aload_n (i := 0) hX rfl rfl dX5_fieldIn_0 ?_
  refine jr_iload_n (i := 1) hX rfl rfl dX5_fieldIn_1 ?_
  refine jr_callV (As := [.int (nI o)]) (bc1 := (5)) (bs1 := (20)) hX (mm_noObject l D s0 b0 A _ S th ad T hR (nI o)) (cwV 1 hX.ts (lw_V q2144 q2146 qs62 q78 q2147) rfl rfl rfl (by decide +kernel) ⟨Nat.le_of_ble_eq_true rfl, Nat.le_of_ble_eq_true rfl⟩) hxx rfl rfl (Nat.le_of_ble_eq_true rfl) (by first | omega | (dsimp only; omega) | (show _ ≤ _; simp only []; omega)) (by first | omega | (dsimp only; omega) | (show _ ≤ _; simp only []; omega)) rfl dX5_fieldIn_2 (fun v_2 G_2 hp_2 => ?_)
  obtain ⟨rfl, hR1, hF1⟩ := hp_2
  rw [if_pos hin] at hR1
  rw [decide_eq_true hin]
  have hxx1 := mo_x hR1
  obtain ⟨moO, capO, eaO, hOL, -, -, -⟩ := mo_ths hR1
  obtain ⟨moV, capV, eaV, hVL, -, -, -⟩ := mo_vs hR1
  refine jr_if_ne hX (tgt := 25) (by decide) dX5_fieldIn_5 (fun c_5 => absurd c_5 (fun h => h rfl)) (fun c_5 => ?_)
  refine jr_iload_n (i := 2) hX rfl rfl dX5_fieldIn_8 ?_
  refine jr_iconst (v := 0) hX rfl dX5_fieldIn_9 ?_
  refine jr_aload_n (i := 0) hX rfl rfl dX5_fieldIn_10 ?_
  refine jr_get (ci := 11) (k := 1) hX hxx1 rfl in_X5 (by decide) q1731 rfl dX5_fieldIn_11 ?_
  refine jr_callV (As := []) (bc1 := (5)) (bs1 := (20)) hX (met_size l D s0 b0 A _ (ad 32 0 0) (s_rg (s_m S) (fun v => ad 37 v 0)) moV capV eaV hVL) (cwV 0 hX.ts (lw_V q1834 q410 q2205 q68 q412) rfl rfl rfl (by decide +kernel) ⟨Nat.le_of_ble_eq_true rfl, Nat.le_of_ble_eq_true rfl⟩) hVL.1 rfl rfl (Nat.le_of_ble_eq_true rfl) (by first | omega | (dsimp only; omega) | (show _ ≤ _; simp only []; omega)) (by first | omega | (dsimp only; omega) | (show _ ≤ _; simp only []; omega)) rfl dX5_fieldIn_14 (fun v_14 G_14 hp_14 => ?_)
  obtain ⟨rfl, e9⟩ := hp_14
  rw [e9, rg_len]
  refine jr_iconst (v := 1) hX rfl dX5_fieldIn_17 ?_
  refine jr_isub hX dX5_fieldIn_18 ?_
  refine jr_callS (As := [.int (nI a), .int 0, .int (nI (s_m S) - 1)]) (bc1 := (5)) (bs1 := (20)) hX (mm_in l D s0 b0 A _ (nI a) 0 (nI (s_m S) - 1)) (va_cwS 3 hX.ts (lw_S q1784 q1785 q78 q1786) rfl rfl rfl (by decide +kernel) ⟨Nat.le_of_ble_eq_true rfl, Nat.le_of_ble_eq_true rfl⟩) rfl (Nat.le_of_ble_eq_true rfl) (by first | omega | (dsimp only; omega) | (show _ ≤ _; simp only []; omega)) (by first | omega | (dsimp only; omega) | (show _ ≤ _; simp only []; omega)) rfl dX5_fieldIn_19 (fun v_19 G_19 hp_19 => ?_)
  obtain ⟨rfl, e9⟩ := hp_19
  rw [e9, decide_eq_true hin3]
  refine jr_if_ne hX (tgt := 31) (by decide) dX5_fieldIn_22 (fun c_22 => ?_) (fun c_22 => absurd c_22 (by decide))
  refine jr_aload_n (i := 0) hX rfl rfl dX5_fieldIn_31 ?_
  refine jr_get (ci := 11) (k := 5) hX hxx1 rfl in_X5 (by decide) q1735 rfl dX5_fieldIn_32 ?_
  refine jr_iload_n (i := 1) hX rfl rfl dX5_fieldIn_35 ?_
  refine jr_callV (As := [.int (nI o)]) (bc1 := (5)) (bs1 := (20)) hX (met_get l D s0 b0 A _ (ad 32 2 0) (s_rg (s_o S).length (fun v => ad 46 v 0)) moO capO eaO hOL o (ad 46 o 0) (rg_at ho9)) (cwV 1 hX.ts (lw_V q1712 q304 q2203 q68 q306) rfl rfl rfl (by decide +kernel) ⟨Nat.le_of_ble_eq_true rfl, Nat.le_of_ble_eq_true rfl⟩) hOL.1 rfl rfl (Nat.le_of_ble_eq_true rfl) (by first | omega | (dsimp only; omega) | (show _ ≤ _; simp only []; omega)) (by first | omega | (dsimp only; omega) | (show _ ≤ _; simp only []; omega)) rfl dX5_fieldIn_36 (fun v_36 G_36 hp_36 => ?_)
  obtain ⟨rfl, e9⟩ := hp_36
  rw [e9]
  refine jr_castS hX (mo_th hR1 ht) rfl q1959 dX5_fieldIn_39 ?_
  refine jr_astore hX (by decide) rfl dX5_fieldIn_42 ?_
  refine jr_aload_n (i := 0) hX rfl rfl dX5_fieldIn_44 ?_
  refine jr_aload hX rfl dX5_fieldIn_45 ?_
  refine jr_getN (ci := 16) (k := 0) hX (mo_th hR1 ht) rfl in_X17 (by decide) q1993 rfl dX5_fieldIn_47 ?_
  refine jr_aload hX rfl dX5_fieldIn_50 ?_
  refine jr_getN (ci := 16) (k := 2) hX (mo_th hR1 ht) rfl in_X17 (by decide) q1997 rfl dX5_fieldIn_52 ?_
  refine jr_aload hX rfl dX5_fieldIn_55 ?_
  refine jr_getN (ci := 16) (k := 1) hX (mo_th hR1 ht) rfl in_X17 (by decide) q1995 rfl dX5_fieldIn_57 ?_
  refine jr_iload_n (i := 2) hX rfl rfl dX5_fieldIn_60 ?_
  refine jr_callV (As := [.int (nI t.2.1), .ref (ad 47 o 0), .int (nI t.1), .int (nI a)]) (bc1 := (0)) (bs1 := (0)) hX (mm_carryI l D s0 b0 A _ S 0 ad T hR1 hv t.2.1 t.1 a (ad 47 o 0) t.2.2 hk htv ha (mo_thf hR1 ht)) (cwV 4 hX.ts (lw_V q1964 q1966 qs51 q78 q1967) rfl rfl rfl (by decide +kernel) ⟨Nat.le_of_ble_eq_true rfl, Nat.le_of_ble_eq_true rfl⟩) hxx1 rfl rfl (Nat.le_of_ble_eq_true rfl) (by first | omega | (dsimp only; omega) | (show _ ≤ _; simp only []; omega)) (by first | omega | (dsimp only; omega) | (show _ ≤ _; simp only []; omega)) rfl dX5_fieldIn_61 (fun v_61 G_61 hp_61 => ?_)
  obtain ⟨q9, rfl, hn, hq9, -⟩ := hp_61
  have hRn := jRep.nw hR1 hn
  have hFn := hF1.trans (jNw.fm (T := T) (lo := 31) (hi := 60) hn)
  refine jr_astore hX (by decide) rfl dX5_fieldIn_64 ?_
  refine jr_iload_n (i := 3) hX rfl rfl dX5_fieldIn_66 ?_
  refine jr_iconst (v := 0) hX rfl dX5_fieldIn_67 ?_
  refine jr_aload hX rfl dX5_fieldIn_68 ?_
  refine jr_alen (t := 0) hX hq9 rfl rfl dX5_fieldIn_70 ?_
  refine jr_iconst (v := 1) hX rfl dX5_fieldIn_71 ?_
  refine jr_isub hX dX5_fieldIn_72 ?_
  refine jr_callS (As := [.int (nI f), .int 0, .int (nI ((s_ver S a).2.1 t.2.1) - 1)]) (bc1 := (0)) (bs1 := (0)) hX (mm_in l D s0 b0 A _ (nI f) 0 (nI ((s_ver S a).2.1 t.2.1) - 1)) (va_cwS 3 hX.ts (lw_S q1784 q1785 q78 q1786) rfl rfl rfl (by decide +kernel) ⟨Nat.le_of_ble_eq_true rfl, Nat.le_of_ble_eq_true rfl⟩) rfl (Nat.le_of_ble_eq_true rfl) (by first | omega | (dsimp only; omega) | (show _ ≤ _; simp only []; omega)) (by first | omega | (dsimp only; omega) | (show _ ≤ _; simp only []; omega)) rfl dX5_fieldIn_73 (fun v_73 G_73 hp_73 => ?_)
  obtain ⟨rfl, e9⟩ := hp_73
  rw [e9, decide_eq_true hin2]
  refine jr_if_eq hX (tgt := 86) (by decide) dX5_fieldIn_76 (fun c_76 => absurd c_76 (by decide)) (fun c_76 => ?_)
  refine jr_aload hX rfl dX5_fieldIn_79 ?_
  refine jr_iload_n (i := 3) hX rfl rfl dX5_fieldIn_81 ?_
  refine jr_iald hX hq9 (vp_in_nI hf (by omega)) dX5_fieldIn_82 ?_
  rw [nI_clamp (by omega)]
  refine jr_goto hX (tgt := 91) (by decide) dX5_fieldIn_83 ?_
  exact jr_iret hX hlk hr ⟨rfl, hRn, hFn⟩ dX5_fieldIn_91

set_option maxHeartbeats 4000000 in
set_option maxRecDepth 100000 in
theorem mm_fieldInE3 (l : Launch) (D : va_G) (s0 : State) (b0 : Nat) (A : Nat → Prop) (G : jG) (S : sSt) (th : Nat) (ad : jN) (T : jT) (hR : jMo D s0 b0 th S ad T G) (o : Nat) (t : sTh) (ht : (s_o S)[o]? = some t) (hol : (s_o S).length < 10000) (hv : sWv S) (htv : t.1 < s_m S) (hk : t.2.1 < 3) (a : Nat) (ha : a < s_m S) (y : Int32) (hin2 : ¬ ((0 : Int32) ≤ y ∧ y ≤ nI ((s_ver S a).2.1 t.2.1) - 1)) : jM l yX5_fieldIn (ws_ yX5_fieldIn cX5_fieldIn 6 (some .int)) (jR 5 5 20) D s0 b0 A G [.ref (ad 31 0 0), .int (nI o), .int (nI a), .int y] (fun w G1 => w = some (.int 0) ∧ jMo D s0 b0 1 S ad T G1 ∧ jFm 31 60 T G T G1) := by
  have hxx := mo_x hR
  have ho9 := lt_ofl ht
  have hin := len_yes hol ho9
  have hvu := hv.2.1
  have hmm : s_m S = (s_v S).length - 1 := rfl
  have hin3 := len_yes (n := s_m S) (by omega) ha
  have hnf := (hv.2.2 a (by omega)).2.1 t.2.1 hk
  refine jM.of (by decide +kernel) (own := RX5) rfl (Nat.le_of_ble_eq_true rfl) ?_
  intro p e s m args below meth c hX hr hlk hnm
  refine jr_aload_n (i := 0) hX rfl rfl dX5_fieldIn_0 ?_
  refine jr_iload_n (i := 1) hX rfl rfl dX5_fieldIn_1 ?_
  refine jr_callV (As := [.int (nI o)]) (bc1 := (5)) (bs1 := (20)) hX (mm_noObject l D s0 b0 A _ S th ad T hR (nI o)) (cwV 1 hX.ts (lw_V q2144 q2146 qs62 q78 q2147) rfl rfl rfl (by decide +kernel) ⟨Nat.le_of_ble_eq_true rfl, Nat.le_of_ble_eq_true rfl⟩) hxx rfl rfl (Nat.le_of_ble_eq_true rfl) (by first | omega | (dsimp only; omega) | (show _ ≤ _; simp only []; omega)) (by first | omega | (dsimp only; omega) | (show _ ≤ _; simp only []; omega)) rfl dX5_fieldIn_2 (fun v_2 G_2 hp_2 => ?_)
  obtain ⟨rfl, hR1, hF1⟩ := hp_2
  rw [if_pos hin] at hR1
  rw [decide_eq_true hin]
  have hxx1 := mo_x hR1
  obtain ⟨moO, capO, eaO, hOL, -, -, -⟩ := mo_ths hR1
  obtain ⟨moV, capV, eaV, hVL, -, -, -⟩ := mo_vs hR1
  refine jr_if_ne hX (tgt := 25) (by decide) dX5_fieldIn_5 (fun c_5 => absurd c_5 (fun h => h rfl)) (fun c_5 => ?_)
  refine jr_iload_n (i := 2) hX rfl rfl dX5_fieldIn_8 ?_
  refine jr_iconst (v := 0) hX rfl dX5_fieldIn_9 ?_
  refine jr_aload_n (i := 0) hX rfl rfl dX5_fieldIn_10 ?_
  refine jr_get (ci := 11) (k := 1) hX hxx1 rfl in_X5 (by decide) q1731 rfl dX5_fieldIn_11 ?_
  refine jr_callV (As := []) (bc1 := (5)) (bs1 := (20)) hX (met_size l D s0 b0 A _ (ad 32 0 0) (s_rg (s_m S) (fun v => ad 37 v 0)) moV capV eaV hVL) (cwV 0 hX.ts (lw_V q1834 q410 q2205 q68 q412) rfl rfl rfl (by decide +kernel) ⟨Nat.le_of_ble_eq_true rfl, Nat.le_of_ble_eq_true rfl⟩) hVL.1 rfl rfl (Nat.le_of_ble_eq_true rfl) (by first | omega | (dsimp only; omega) | (show _ ≤ _; simp only []; omega)) (by first | omega | (dsimp only; omega) | (show _ ≤ _; simp only []; omega)) rfl dX5_fieldIn_14 (fun v_14 G_14 hp_14 => ?_)
  obtain ⟨rfl, e9⟩ := hp_14
  rw [e9, rg_len]
  refine jr_iconst (v := 1) hX rfl dX5_fieldIn_17 ?_
  refine jr_isub hX dX5_fieldIn_18 ?_
  refine jr_callS (As := [.int (nI a), .int 0, .int (nI (s_m S) - 1)]) (bc1 := (5)) (bs1 := (20)) hX (mm_in l D s0 b0 A _ (nI a) 0 (nI (s_m S) - 1)) (va_cwS 3 hX.ts (lw_S q1784 q1785 q78 q1786) rfl rfl rfl (by decide +kernel) ⟨Nat.le_of_ble_eq_true rfl, Nat.le_of_ble_eq_true rfl⟩) rfl (Nat.le_of_ble_eq_true rfl) (by first | omega | (dsimp only; omega) | (show _ ≤ _; simp only []; omega)) (by first | omega | (dsimp only; omega) | (show _ ≤ _; simp only []; omega)) rfl dX5_fieldIn_19 (fun v_19 G_19 hp_19 => ?_)
  obtain ⟨rfl, e9⟩ := hp_19
  rw [e9, decide_eq_true hin3]
  refine jr_if_ne hX (tgt := 31) (by decide) dX5_fieldIn_22 (fun c_22 => ?_) (fun c_22 => absurd c_22 (by decide))
  refine jr_aload_n (i := 0) hX rfl rfl dX5_fieldIn_31 ?_
  refine jr_get (ci := 11) (k := 5) hX hxx1 rfl in_X5 (by decide) q1735 rfl dX5_fieldIn_32 ?_
  refine jr_iload_n (i := 1) hX rfl rfl dX5_fieldIn_35 ?_
  refine jr_callV (As := [.int (nI o)]) (bc1 := (5)) (bs1 := (20)) hX (met_get l D s0 b0 A _ (ad 32 2 0) (s_rg (s_o S).length (fun v => ad 46 v 0)) moO capO eaO hOL o (ad 46 o 0) (rg_at ho9)) (cwV 1 hX.ts (lw_V q1712 q304 q2203 q68 q306) rfl rfl rfl (by decide +kernel) ⟨Nat.le_of_ble_eq_true rfl, Nat.le_of_ble_eq_true rfl⟩) hOL.1 rfl rfl (Nat.le_of_ble_eq_true rfl) (by first | omega | (dsimp only; omega) | (show _ ≤ _; simp only []; omega)) (by first | omega | (dsimp only; omega) | (show _ ≤ _; simp only []; omega)) rfl dX5_fieldIn_36 (fun v_36 G_36 hp_36 => ?_)
  obtain ⟨rfl, e9⟩ := hp_36
  rw [e9]
  refine jr_castS hX (mo_th hR1 ht) rfl q1959 dX5_fieldIn_39 ?_
  refine jr_astore hX (by decide) rfl dX5_fieldIn_42 ?_
  refine jr_aload_n (i := 0) hX rfl rfl dX5_fieldIn_44 ?_
  refine jr_aload hX rfl dX5_fieldIn_45 ?_
  refine jr_getN (ci := 16) (k := 0) hX (mo_th hR1 ht) rfl in_X17 (by decide) q1993 rfl dX5_fieldIn_47 ?_
  refine jr_aload hX rfl dX5_fieldIn_50 ?_
  refine jr_getN (ci := 16) (k := 2) hX (mo_th hR1 ht) rfl in_X17 (by decide) q1997 rfl dX5_fieldIn_52 ?_
  refine jr_aload hX rfl dX5_fieldIn_55 ?_
  refine jr_getN (ci := 16) (k := 1) hX (mo_th hR1 ht) rfl in_X17 (by decide) q1995 rfl dX5_fieldIn_57 ?_
  refine jr_iload_n (i := 2) hX rfl rfl dX5_fieldIn_60 ?_
  refine jr_callV (As := [.int (nI t.2.1), .ref (ad 47 o 0), .int (nI t.1), .int (nI a)]) (bc1 := (0)) (bs1 := (0)) hX (mm_carryI l D s0 b0 A _ S 0 ad T hR1 hv t.2.1 t.1 a (ad 47 o 0) t.2.2 hk htv ha (mo_thf hR1 ht)) (cwV 4 hX.ts (lw_V q1964 q1966 qs51 q78 q1967) rfl rfl rfl (by decide +kernel) ⟨Nat.le_of_ble_eq_true rfl, Nat.le_of_ble_eq_true rfl⟩) hxx1 rfl rfl (Nat.le_of_ble_eq_true rfl) (by first | omega | (dsimp only; omega) | (show _ ≤ _; simp only []; omega)) (by first | omega | (dsimp only; omega) | (show _ ≤ _; simp only []; omega)) rfl dX5_fieldIn_61 (fun v_61 G_61 hp_61 => ?_)
  obtain ⟨q9, rfl, hn, hq9, -⟩ := hp_61
  have hRn := jRep.nw hR1 hn
  have hFn := hF1.trans (jNw.fm (T := T) (lo := 31) (hi := 60) hn)
  refine jr_astore hX (by decide) rfl dX5_fieldIn_64 ?_
  refine jr_iload_n (i := 3) hX rfl rfl dX5_fieldIn_66 ?_
  refine jr_iconst (v := 0) hX rfl dX5_fieldIn_67 ?_
  refine jr_aload hX rfl dX5_fieldIn_68 ?_
  refine jr_alen (t := 0) hX hq9 rfl rfl dX5_fieldIn_70 ?_
  refine jr_iconst (v := 1) hX rfl dX5_fieldIn_71 ?_
  refine jr_isub hX dX5_fieldIn_72 ?_
  refine jr_callS (As := [.int y, .int 0, .int (nI ((s_ver S a).2.1 t.2.1) - 1)]) (bc1 := (0)) (bs1 := (0)) hX (mm_in l D s0 b0 A _ y 0 (nI ((s_ver S a).2.1 t.2.1) - 1)) (va_cwS 3 hX.ts (lw_S q1784 q1785 q78 q1786) rfl rfl rfl (by decide +kernel) ⟨Nat.le_of_ble_eq_true rfl, Nat.le_of_ble_eq_true rfl⟩) rfl (Nat.le_of_ble_eq_true rfl) (by first | omega | (dsimp only; omega) | (show _ ≤ _; simp only []; omega)) (by first | omega | (dsimp only; omega) | (show _ ≤ _; simp only []; omega)) rfl dX5_fieldIn_73 (fun v_73 G_73 hp_73 => ?_)
  obtain ⟨rfl, e9⟩ := hp_73
  rw [e9, decide_eq_false hin2]
  refine jr_if_eq hX (tgt := 86) (by decide) dX5_fieldIn_76 (fun c_76 => ?_) (fun c_76 => absurd rfl c_76)
  refine jr_aload_n (i := 0) hX rfl rfl dX5_fieldIn_86 ?_
  refine jr_iconst (v := 1) hX rfl dX5_fieldIn_87 ?_
  refine jr_callV (As := [.int (nI 1)]) (bc1 := (0)) (bs1 := (0)) hX (mm_raises l D s0 b0 A _ S 0 ad T hRn 1) (cwV 1 hX.ts (lw_V q1876 q1878 qs41 q78 q1879) rfl rfl rfl (by decide +kernel) ⟨Nat.le_of_ble_eq_true rfl, Nat.le_of_ble_eq_true rfl⟩) (mo_x hRn) rfl rfl (Nat.le_of_ble_eq_true rfl) (by first | omega | (dsimp only; omega) | (show _ ≤ _; simp only []; omega)) (by first | omega | (dsimp only; omega) | (show _ ≤ _; simp only []; omega)) rfl dX5_fieldIn_88 (fun v_88 G_88 hp_88 => ?_)
  obtain ⟨rfl, hR2, hF2⟩ := hp_88
  exact jr_iret hX hlk hr ⟨rfl, hR2, hFn.trans hF2⟩ dX5_fieldIn_91

set_option maxHeartbeats 4000000 in
set_option maxRecDepth 100000 in
theorem mm_fieldInE2 (l : Launch) (D : va_G) (s0 : State) (b0 : Nat) (A : Nat → Prop) (G : jG) (S : sSt) (th : Nat) (ad : jN) (T : jT) (hR : jMo D s0 b0 th S ad T G) (o : Nat) (t : sTh) (ht : (s_o S)[o]? = some t) (hol : (s_o S).length < 10000) (y z : Int32) (hin3 : ¬ ((0 : Int32) ≤ y ∧ y ≤ nI (s_m S) - 1)) : jM l yX5_fieldIn (ws_ yX5_fieldIn cX5_fieldIn 6 (some .int)) (jR 5 5 20) D s0 b0 A G [.ref (ad 31 0 0), .int (nI o), .int y, .int z] (fun w G1 => w = some (.int 0) ∧ jMo D s0 b0 1 S ad T G1 ∧ jFm 31 60 T G T G1) := by
  have hxx := mo_x hR
  have ho9 := lt_ofl ht
  have hin := len_yes hol ho9
  refine jM.of (by decide +kernel) (own := RX5) rfl (Nat.le_of_ble_eq_true rfl) ?_
  intro p e s m args below meth c hX hr hlk hnm
  refine jr_aload_n (i := 0) hX rfl rfl dX5_fieldIn_0 ?_
  refine jr_iload_n (i := 1) hX rfl rfl dX5_fieldIn_1 ?_
  refine jr_callV (As := [.int (nI o)]) (bc1 := (5)) (bs1 := (20)) hX (mm_noObject l D s0 b0 A _ S th ad T hR (nI o)) (cwV 1 hX.ts (lw_V q2144 q2146 qs62 q78 q2147) rfl rfl rfl (by decide +kernel) ⟨Nat.le_of_ble_eq_true rfl, Nat.le_of_ble_eq_true rfl⟩) hxx rfl rfl (Nat.le_of_ble_eq_true rfl) (by first | omega | (dsimp only; omega) | (show _ ≤ _; simp only []; omega)) (by first | omega | (dsimp only; omega) | (show _ ≤ _; simp only []; omega)) rfl dX5_fieldIn_2 (fun v_2 G_2 hp_2 => ?_)
  obtain ⟨rfl, hR1, hF1⟩ := hp_2
  rw [if_pos hin] at hR1
  rw [decide_eq_true hin]
  have hxx1 := mo_x hR1
  obtain ⟨moO, capO, eaO, hOL, -, -, -⟩ := mo_ths hR1
  obtain ⟨moV, capV, eaV, hVL, -, -, -⟩ := mo_vs hR1
  refine jr_if_ne hX (tgt := 25) (by decide) dX5_fieldIn_5 (fun c_5 => absurd c_5 (fun h => h rfl)) (fun c_5 => ?_)
  refine jr_iload_n (i := 2) hX rfl rfl dX5_fieldIn_8 ?_
  refine jr_iconst (v := 0) hX rfl dX5_fieldIn_9 ?_
  refine jr_aload_n (i := 0) hX rfl rfl dX5_fieldIn_10 ?_
  refine jr_get (ci := 11) (k := 1) hX hxx1 rfl in_X5 (by decide) q1731 rfl dX5_fieldIn_11 ?_
  refine jr_callV (As := []) (bc1 := (5)) (bs1 := (20)) hX (met_size l D s0 b0 A _ (ad 32 0 0) (s_rg (s_m S) (fun v => ad 37 v 0)) moV capV eaV hVL) (cwV 0 hX.ts (lw_V q1834 q410 q2205 q68 q412) rfl rfl rfl (by decide +kernel) ⟨Nat.le_of_ble_eq_true rfl, Nat.le_of_ble_eq_true rfl⟩) hVL.1 rfl rfl (Nat.le_of_ble_eq_true rfl) (by first | omega | (dsimp only; omega) | (show _ ≤ _; simp only []; omega)) (by first | omega | (dsimp only; omega) | (show _ ≤ _; simp only []; omega)) rfl dX5_fieldIn_14 (fun v_14 G_14 hp_14 => ?_)
  obtain ⟨rfl, e9⟩ := hp_14
  rw [e9, rg_len]
  refine jr_iconst (v := 1) hX rfl dX5_fieldIn_17 ?_
  refine jr_isub hX dX5_fieldIn_18 ?_
  refine jr_callS (As := [.int y, .int 0, .int (nI (s_m S) - 1)]) (bc1 := (5)) (bs1 := (20)) hX (mm_in l D s0 b0 A _ y 0 (nI (s_m S) - 1)) (va_cwS 3 hX.ts (lw_S q1784 q1785 q78 q1786) rfl rfl rfl (by decide +kernel) ⟨Nat.le_of_ble_eq_true rfl, Nat.le_of_ble_eq_true rfl⟩) rfl (Nat.le_of_ble_eq_true rfl) (by first | omega | (dsimp only; omega) | (show _ ≤ _; simp only []; omega)) (by first | omega | (dsimp only; omega) | (show _ ≤ _; simp only []; omega)) rfl dX5_fieldIn_19 (fun v_19 G_19 hp_19 => ?_)
  obtain ⟨rfl, e9⟩ := hp_19
  rw [e9, decide_eq_false hin3]
  refine jr_if_ne hX (tgt := 31) (by decide) dX5_fieldIn_22 (fun c_22 => absurd c_22 (fun h => h rfl)) (fun c_22 => ?_)
  refine jr_aload_n (i := 0) hX rfl rfl dX5_fieldIn_25 ?_
  refine jr_iconst (v := 1) hX rfl dX5_fieldIn_26 ?_
  refine jr_callV (As := [.int (nI 1)]) (bc1 := (5)) (bs1 := (20)) hX (mm_raises l D s0 b0 A _ S 0 ad T hR1 1) (cwV 1 hX.ts (lw_V q1876 q1878 qs41 q78 q1879) rfl rfl rfl (by decide +kernel) ⟨Nat.le_of_ble_eq_true rfl, Nat.le_of_ble_eq_true rfl⟩) (mo_x hR1) rfl rfl (Nat.le_of_ble_eq_true rfl) (by first | omega | (dsimp only; omega) | (show _ ≤ _; simp only []; omega)) (by first | omega | (dsimp only; omega) | (show _ ≤ _; simp only []; omega)) rfl dX5_fieldIn_27 (fun v_27 G_27 hp_27 => ?_)
  obtain ⟨rfl, hR2, hF2⟩ := hp_27
  exact jr_iret hX hlk hr ⟨rfl, hR2, hF1.trans hF2⟩ dX5_fieldIn_30

set_option maxHeartbeats 4000000 in
set_option maxRecDepth 100000 in
theorem mm_fieldInE1 (l : Launch) (D : va_G) (s0 : State) (b0 : Nat) (A : Nat → Prop) (G : jG) (S : sSt) (th : Nat) (ad : jN) (T : jT) (hR : jMo D s0 b0 th S ad T G) (x : Int32) (hin : ¬ ((0 : Int32) ≤ x ∧ x ≤ nI (s_o S).length - 1)) (y z : Int32) : jM l yX5_fieldIn (ws_ yX5_fieldIn cX5_fieldIn 6 (some .int)) (jR 5 5 20) D s0 b0 A G [.ref (ad 31 0 0), .int x, .int y, .int z] (fun w G1 => w = some (.int 0) ∧ jMo D s0 b0 1 S ad T G1 ∧ jFm 31 60 T G T G1) := by
  have hxx := mo_x hR
  refine jM.of (by decide +kernel) (own := RX5) rfl (Nat.le_of_ble_eq_true rfl) ?_
  intro p e s m args below meth c hX hr hlk hnm
  refine jr_aload_n (i := 0) hX rfl rfl dX5_fieldIn_0 ?_
  refine jr_iload_n (i := 1) hX rfl rfl dX5_fieldIn_1 ?_
  refine jr_callV (As := [.int x]) (bc1 := (5)) (bs1 := (20)) hX (mm_noObject l D s0 b0 A _ S th ad T hR x) (cwV 1 hX.ts (lw_V q2144 q2146 qs62 q78 q2147) rfl rfl rfl (by decide +kernel) ⟨Nat.le_of_ble_eq_true rfl, Nat.le_of_ble_eq_true rfl⟩) hxx rfl rfl (Nat.le_of_ble_eq_true rfl) (by first | omega | (dsimp only; omega) | (show _ ≤ _; simp only []; omega)) (by first | omega | (dsimp only; omega) | (show _ ≤ _; simp only []; omega)) rfl dX5_fieldIn_2 (fun v_2 G_2 hp_2 => ?_)
  obtain ⟨rfl, hR1, hF1⟩ := hp_2
  rw [if_neg hin] at hR1
  rw [decide_eq_false hin]
  have hxx1 := mo_x hR1
  obtain ⟨moO, capO, eaO, hOL, -, -, -⟩ := mo_ths hR1
  obtain ⟨moV, capV, eaV, hVL, -, -, -⟩ := mo_vs hR1
  refine jr_if_ne hX (tgt := 25) (by decide) dX5_fieldIn_5 (fun c_5 => ?_) (fun c_5 => absurd c_5 (by decide))
  refine jr_aload_n (i := 0) hX rfl rfl dX5_fieldIn_25 ?_
  refine jr_iconst (v := 1) hX rfl dX5_fieldIn_26 ?_
  refine jr_callV (As := [.int (nI 1)]) (bc1 := (5)) (bs1 := (20)) hX (mm_raises l D s0 b0 A _ S 1 ad T hR1 1) (cwV 1 hX.ts (lw_V q1876 q1878 qs41 q78 q1879) rfl rfl rfl (by decide +kernel) ⟨Nat.le_of_ble_eq_true rfl, Nat.le_of_ble_eq_true rfl⟩) (mo_x hR1) rfl rfl (Nat.le_of_ble_eq_true rfl) (by first | omega | (dsimp only; omega) | (show _ ≤ _; simp only []; omega)) (by first | omega | (dsimp only; omega) | (show _ ≤ _; simp only []; omega)) rfl dX5_fieldIn_27 (fun v_27 G_27 hp_27 => ?_)
  obtain ⟨rfl, hR2, hF2⟩ := hp_27
  exact jr_iret hX hlk hr ⟨rfl, hR2, hF1.trans hF2⟩ dX5_fieldIn_30

set_option maxHeartbeats 4000000 in
set_option maxRecDepth 100000 in
theorem mm_isTouchedC (l : Launch) (D : va_G) (s0 : State) (b0 : Nat) (A : Nat → Prop) (G : jG) (S : sSt) (th : Nat) (ad : jN) (T : jT) (hR : jMo D s0 b0 th S ad T G) (hi : sWi S) (hv : sWv S) (v f : Nat) (hvm : v + 1 < s_m S) (hf : f < 5) : jM l yX5_isTouched (ws_ yX5_isTouched cX5_isTouched 3 (some .boolean)) (jR 5 0 0) D s0 b0 A G [.ref (ad 31 0 0), .int (nI v), .int (nI f)] (fun w G1 => w = some (.int (jbz (s_tch S v f))) ∧ jMo D s0 b0 0 S ad T G1 ∧ jFm 31 60 T G T G1) := by
  have hxx := mo_x hR
  have hR0 := mo_wth hR 0
  have hx0 := mo_x hR0
  obtain ⟨moV, capV, eaV, hVL, -, -, -⟩ := mo_vs hR
  have hvu := hv.2.1
  have hmm : s_m S = (s_v S).length - 1 := rfl
  have hin : (0 : Int32) ≤ nI v ∧ nI v ≤ nI (s_m S) - 2 := by
    rw [show nI (s_m S) - 2 = nI (s_m S - 2) from by rw [show (2 : Int32) = 1 + 1 from rfl, ← Int32.sub_sub, nI_s1 (by omega), nI_s1 (by omega)]; rfl]
    exact ⟨nI_pos' (by omega), nI_le (by omega) (by omega)⟩
  have hin2 : (0 : Int32) ≤ nI f ∧ nI f ≤ 4 := ⟨nI_pos' (by omega), nI_le (b := 4) (by omega) (by omega)⟩
  refine jM.of (by decide +kernel) (own := RX5) rfl (Nat.le_of_ble_eq_true rfl) ?_
  intro p e s m args below meth c hX hr hlk hnm
  refine jr_aload_n (i := 0) hX rfl rfl dX5_isTouched_0 ?_
  refine jr_iload_n (i := 1) hX rfl rfl dX5_isTouched_1 ?_
  refine jr_iconst (v := 0) hX rfl dX5_isTouched_2 ?_
  refine jr_aload_n (i := 0) hX rfl rfl dX5_isTouched_3 ?_
  refine jr_get (ci := 11) (k := 1) hX hxx rfl in_X5 (by decide) q1731 rfl dX5_isTouched_4 ?_
  refine jr_callV (As := []) (bc1 := (0)) (bs1 := (0)) hX (met_size l D s0 b0 A _ (ad 32 0 0) (s_rg (s_m S) (fun v => ad 37 v 0)) moV capV eaV hVL) (cwV 0 hX.ts (lw_V q1834 q410 q2205 q68 q412) rfl rfl rfl (by decide +kernel) ⟨Nat.le_of_ble_eq_true rfl, Nat.le_of_ble_eq_true rfl⟩) hVL.1 rfl rfl (Nat.le_of_ble_eq_true rfl) (by first | omega | (dsimp only; omega) | (show _ ≤ _; simp only []; omega)) (by first | omega | (dsimp only; omega) | (show _ ≤ _; simp only []; omega)) rfl dX5_isTouched_7 (fun v_7 G_7 hp_7 => ?_)
  obtain ⟨rfl, e9⟩ := hp_7
  rw [e9, rg_len]
  refine jr_iconst (v := 2) hX rfl dX5_isTouched_10 ?_
  refine jr_isub hX dX5_isTouched_11 ?_
  refine jr_callS (As := [.int (nI v), .int 0, .int (nI (s_m S) - 2)]) (bc1 := (0)) (bs1 := (0)) hX (mm_in l D s0 b0 A _ (nI v) 0 (nI (s_m S) - 2)) (va_cwS 3 hX.ts (lw_S q1784 q1785 q78 q1786) rfl rfl rfl (by decide +kernel) ⟨Nat.le_of_ble_eq_true rfl, Nat.le_of_ble_eq_true rfl⟩) rfl (Nat.le_of_ble_eq_true rfl) (by first | omega | (dsimp only; omega) | (show _ ≤ _; simp only []; omega)) (by first | omega | (dsimp only; omega) | (show _ ≤ _; simp only []; omega)) rfl dX5_isTouched_12 (fun v_12 G_12 hp_12 => ?_)
  obtain ⟨rfl, e9⟩ := hp_12
  rw [e9, decide_eq_true hin]
  refine jr_if_ne hX (tgt := 22) (by decide) dX5_isTouched_15 (fun c_15 => ?_) (fun c_15 => absurd c_15 (by decide))
  refine jr_iload_n (i := 2) hX rfl rfl dX5_isTouched_22 ?_
  refine jr_callS (As := [.int (nI f)]) (bc1 := (0)) (bs1 := (0)) hX (mm_isFunction l D s0 b0 A _ (nI f)) (va_cwS 1 hX.ts (lw_S q1781 q1782 q78 q1783) rfl rfl rfl (by decide +kernel) ⟨Nat.le_of_ble_eq_true rfl, Nat.le_of_ble_eq_true rfl⟩) rfl (Nat.le_of_ble_eq_true rfl) (by first | omega | (dsimp only; omega) | (show _ ≤ _; simp only []; omega)) (by first | omega | (dsimp only; omega) | (show _ ≤ _; simp only []; omega)) rfl dX5_isTouched_23 (fun v_23 G_23 hp_23 => ?_)
  obtain ⟨rfl, e9⟩ := hp_23
  rw [e9, decide_eq_true hin2]
  refine jr_if_ne hX (tgt := 33) (by decide) dX5_isTouched_26 (fun c_26 => ?_) (fun c_26 => absurd c_26 (by decide))
  refine jr_iconst (v := 0) hX rfl dX5_isTouched_33 ?_
  refine jr_put (ci := 11) (k := 0) hX hxx rfl in_X5 (by decide) tyX5 tyX5_ok nmX5 q1730 rfl (by first | rfl | assumption) (by first | rfl | assumption) (Nat.le_of_ble_eq_true rfl) dX5_isTouched_34 ?_
  refine jr_aload_n (i := 0) hX rfl rfl dX5_isTouched_37 ?_
  refine jr_get (ci := 11) (k := 0) hX hx0 rfl in_X5 (by decide) q1730 rfl dX5_isTouched_38 ?_
  refine jr_if_ne hX (tgt := 57) (by decide) dX5_isTouched_41 (fun c_41 => absurd c_41 (fun h => h rfl)) (fun c_41 => ?_)
  refine jr_aload_n (i := 0) hX rfl rfl dX5_isTouched_44 ?_
  refine jr_iload_n (i := 1) hX rfl rfl dX5_isTouched_45 ?_
  refine jr_iload_n (i := 2) hX rfl rfl dX5_isTouched_46 ?_
  refine jr_callV (As := [.int (nI v), .int (nI f)]) (bc1 := (0)) (bs1 := (0)) hX (mm_touches l D s0 b0 A _ S 0 ad T hR0 hi hv v f hvm hf) (cwV 2 hX.ts (lw_V q1852 q1854 qs39 q78 q1855) rfl rfl rfl (by decide +kernel) ⟨Nat.le_of_ble_eq_true rfl, Nat.le_of_ble_eq_true rfl⟩) hx0 rfl rfl (Nat.le_of_ble_eq_true rfl) (by first | omega | (dsimp only; omega) | (show _ ≤ _; simp only []; omega)) (by first | omega | (dsimp only; omega) | (show _ ≤ _; simp only []; omega)) rfl dX5_isTouched_47 (fun v_47 G_47 hp_47 => ?_)
  obtain ⟨rfl, e9⟩ := hp_47
  rw [e9]
  refine jr_if_eq hX (tgt := 57) (by decide) dX5_isTouched_50 (fun c_50 => ?_) (fun c_50 => ?_)
  · refine jr_iconst (v := 0) hX rfl dX5_isTouched_57 ?_
    exact jr_zret hX hlk hr (by decide) ⟨by rw [jbz_0 c_50]; rfl, hR0, jFm.pt (mo_t31 hR) (by decide)⟩ dX5_isTouched_58
  · refine jr_iconst (v := 1) hX rfl dX5_isTouched_53 ?_
    refine jr_goto hX (tgt := 58) (by decide) dX5_isTouched_54 ?_
    exact jr_zret hX hlk hr (by decide) ⟨by rw [jbz_1 c_50]; rfl, hR0, jFm.pt (mo_t31 hR) (by decide)⟩ dX5_isTouched_58

set_option maxHeartbeats 4000000 in
set_option maxRecDepth 100000 in
theorem mm_isTouchedE1 (l : Launch) (D : va_G) (s0 : State) (b0 : Nat) (A : Nat → Prop) (G : jG) (S : sSt) (th : Nat) (ad : jN) (T : jT) (hR : jMo D s0 b0 th S ad T G) (x y : Int32) (hin : ¬ ((0 : Int32) ≤ x ∧ x ≤ nI (s_m S) - 2)) : jM l yX5_isTouched (ws_ yX5_isTouched cX5_isTouched 3 (some .boolean)) (jR 5 0 0) D s0 b0 A G [.ref (ad 31 0 0), .int x, .int y] (fun w G1 => w = some (.int 0) ∧ jMo D s0 b0 1 S ad T G1 ∧ jFm 31 60 T G T G1) := by
  have hxx := mo_x hR
  have hR0 := mo_wth hR 1
  have hx0 := mo_x hR0
  obtain ⟨moV, capV, eaV, hVL, -, -, -⟩ := mo_vs hR
  refine jM.of (by decide +kernel) (own := RX5) rfl (Nat.le_of_ble_eq_true rfl) ?_
  intro p e s m args below meth c hX hr hlk hnm
  refine jr_aload_n (i := 0) hX rfl rfl dX5_isTouched_0 ?_
  refine jr_iload_n (i := 1) hX rfl rfl dX5_isTouched_1 ?_
  refine jr_iconst (v := 0) hX rfl dX5_isTouched_2 ?_
  refine jr_aload_n (i := 0) hX rfl rfl dX5_isTouched_3 ?_
  refine jr_get (ci := 11) (k := 1) hX hxx rfl in_X5 (by decide) q1731 rfl dX5_isTouched_4 ?_
  refine jr_callV (As := []) (bc1 := (0)) (bs1 := (0)) hX (met_size l D s0 b0 A _ (ad 32 0 0) (s_rg (s_m S) (fun v => ad 37 v 0)) moV capV eaV hVL) (cwV 0 hX.ts (lw_V q1834 q410 q2205 q68 q412) rfl rfl rfl (by decide +kernel) ⟨Nat.le_of_ble_eq_true rfl, Nat.le_of_ble_eq_true rfl⟩) hVL.1 rfl rfl (Nat.le_of_ble_eq_true rfl) (by first | omega | (dsimp only; omega) | (show _ ≤ _; simp only []; omega)) (by first | omega | (dsimp only; omega) | (show _ ≤ _; simp only []; omega)) rfl dX5_isTouched_7 (fun v_7 G_7 hp_7 => ?_)
  obtain ⟨rfl, e9⟩ := hp_7
  rw [e9, rg_len]
  refine jr_iconst (v := 2) hX rfl dX5_isTouched_10 ?_
  refine jr_isub hX dX5_isTouched_11 ?_
  refine jr_callS (As := [.int x, .int 0, .int (nI (s_m S) - 2)]) (bc1 := (0)) (bs1 := (0)) hX (mm_in l D s0 b0 A _ x 0 (nI (s_m S) - 2)) (va_cwS 3 hX.ts (lw_S q1784 q1785 q78 q1786) rfl rfl rfl (by decide +kernel) ⟨Nat.le_of_ble_eq_true rfl, Nat.le_of_ble_eq_true rfl⟩) rfl (Nat.le_of_ble_eq_true rfl) (by first | omega | (dsimp only; omega) | (show _ ≤ _; simp only []; omega)) (by first | omega | (dsimp only; omega) | (show _ ≤ _; simp only []; omega)) rfl dX5_isTouched_12 (fun v_12 G_12 hp_12 => ?_)
  obtain ⟨rfl, e9⟩ := hp_12
  rw [e9, decide_eq_false hin]
  refine jr_if_ne hX (tgt := 22) (by decide) dX5_isTouched_15 (fun c_15 => absurd c_15 (fun h => h rfl)) (fun c_15 => ?_)
  refine jr_iconst (v := 1) hX rfl dX5_isTouched_18 ?_
  refine jr_goto hX (tgt := 34) (by decide) dX5_isTouched_19 ?_
  refine jr_put (ci := 11) (k := 0) hX hxx rfl in_X5 (by decide) tyX5 tyX5_ok nmX5 q1730 rfl (by first | rfl | assumption) (by first | rfl | assumption) (Nat.le_of_ble_eq_true rfl) dX5_isTouched_34 ?_
  refine jr_aload_n (i := 0) hX rfl rfl dX5_isTouched_37 ?_
  refine jr_get (ci := 11) (k := 0) hX hx0 rfl in_X5 (by decide) q1730 rfl dX5_isTouched_38 ?_
  refine jr_if_ne hX (tgt := 57) (by decide) dX5_isTouched_41 (fun c_41 => ?_) (fun c_41 => absurd c_41 (by decide))
  refine jr_iconst (v := 0) hX rfl dX5_isTouched_57 ?_
  exact jr_zret hX hlk hr (by decide) ⟨rfl, hR0, jFm.pt (mo_t31 hR) (by decide)⟩ dX5_isTouched_58

set_option maxHeartbeats 4000000 in
set_option maxRecDepth 100000 in
theorem mm_isTouchedE2 (l : Launch) (D : va_G) (s0 : State) (b0 : Nat) (A : Nat → Prop) (G : jG) (S : sSt) (th : Nat) (ad : jN) (T : jT) (hR : jMo D s0 b0 th S ad T G) (x y : Int32) (hin : (0 : Int32) ≤ x ∧ x ≤ nI (s_m S) - 2) (hin2 : ¬ ((0 : Int32) ≤ y ∧ y ≤ 4)) : jM l yX5_isTouched (ws_ yX5_isTouched cX5_isTouched 3 (some .boolean)) (jR 5 0 0) D s0 b0 A G [.ref (ad 31 0 0), .int x, .int y] (fun w G1 => w = some (.int 0) ∧ jMo D s0 b0 2 S ad T G1 ∧ jFm 31 60 T G T G1) := by
  have hxx := mo_x hR
  have hR0 := mo_wth hR 2
  have hx0 := mo_x hR0
  obtain ⟨moV, capV, eaV, hVL, -, -, -⟩ := mo_vs hR
  refine jM.of (by decide +kernel) (own := RX5) rfl (Nat.le_of_ble_eq_true rfl) ?_
  intro p e s m args below meth c hX hr hlk hnm
  refine jr_aload_n (i := 0) hX rfl rfl dX5_isTouched_0 ?_
  refine jr_iload_n (i := 1) hX rfl rfl dX5_isTouched_1 ?_
  refine jr_iconst (v := 0) hX rfl dX5_isTouched_2 ?_
  refine jr_aload_n (i := 0) hX rfl rfl dX5_isTouched_3 ?_
  refine jr_get (ci := 11) (k := 1) hX hxx rfl in_X5 (by decide) q1731 rfl dX5_isTouched_4 ?_
  refine jr_callV (As := []) (bc1 := (0)) (bs1 := (0)) hX (met_size l D s0 b0 A _ (ad 32 0 0) (s_rg (s_m S) (fun v => ad 37 v 0)) moV capV eaV hVL) (cwV 0 hX.ts (lw_V q1834 q410 q2205 q68 q412) rfl rfl rfl (by decide +kernel) ⟨Nat.le_of_ble_eq_true rfl, Nat.le_of_ble_eq_true rfl⟩) hVL.1 rfl rfl (Nat.le_of_ble_eq_true rfl) (by first | omega | (dsimp only; omega) | (show _ ≤ _; simp only []; omega)) (by first | omega | (dsimp only; omega) | (show _ ≤ _; simp only []; omega)) rfl dX5_isTouched_7 (fun v_7 G_7 hp_7 => ?_)
  obtain ⟨rfl, e9⟩ := hp_7
  rw [e9, rg_len]
  refine jr_iconst (v := 2) hX rfl dX5_isTouched_10 ?_
  refine jr_isub hX dX5_isTouched_11 ?_
  refine jr_callS (As := [.int x, .int 0, .int (nI (s_m S) - 2)]) (bc1 := (0)) (bs1 := (0)) hX (mm_in l D s0 b0 A _ x 0 (nI (s_m S) - 2)) (va_cwS 3 hX.ts (lw_S q1784 q1785 q78 q1786) rfl rfl rfl (by decide +kernel) ⟨Nat.le_of_ble_eq_true rfl, Nat.le_of_ble_eq_true rfl⟩) rfl (Nat.le_of_ble_eq_true rfl) (by first | omega | (dsimp only; omega) | (show _ ≤ _; simp only []; omega)) (by first | omega | (dsimp only; omega) | (show _ ≤ _; simp only []; omega)) rfl dX5_isTouched_12 (fun v_12 G_12 hp_12 => ?_)
  obtain ⟨rfl, e9⟩ := hp_12
  rw [e9, decide_eq_true hin]
  refine jr_if_ne hX (tgt := 22) (by decide) dX5_isTouched_15 (fun c_15 => ?_) (fun c_15 => absurd c_15 (by decide))
  refine jr_iload_n (i := 2) hX rfl rfl dX5_isTouched_22 ?_
  refine jr_callS (As := [.int y]) (bc1 := (0)) (bs1 := (0)) hX (mm_isFunction l D s0 b0 A _ y) (va_cwS 1 hX.ts (lw_S q1781 q1782 q78 q1783) rfl rfl rfl (by decide +kernel) ⟨Nat.le_of_ble_eq_true rfl, Nat.le_of_ble_eq_true rfl⟩) rfl (Nat.le_of_ble_eq_true rfl) (by first | omega | (dsimp only; omega) | (show _ ≤ _; simp only []; omega)) (by first | omega | (dsimp only; omega) | (show _ ≤ _; simp only []; omega)) rfl dX5_isTouched_23 (fun v_23 G_23 hp_23 => ?_)
  obtain ⟨rfl, e9⟩ := hp_23
  rw [e9, decide_eq_false hin2]
  refine jr_if_ne hX (tgt := 33) (by decide) dX5_isTouched_26 (fun c_26 => absurd c_26 (fun h => h rfl)) (fun c_26 => ?_)
  refine jr_iconst (v := 2) hX rfl dX5_isTouched_29 ?_
  refine jr_goto hX (tgt := 34) (by decide) dX5_isTouched_30 ?_
  refine jr_put (ci := 11) (k := 0) hX hxx rfl in_X5 (by decide) tyX5 tyX5_ok nmX5 q1730 rfl (by first | rfl | assumption) (by first | rfl | assumption) (Nat.le_of_ble_eq_true rfl) dX5_isTouched_34 ?_
  refine jr_aload_n (i := 0) hX rfl rfl dX5_isTouched_37 ?_
  refine jr_get (ci := 11) (k := 0) hX hx0 rfl in_X5 (by decide) q1730 rfl dX5_isTouched_38 ?_
  refine jr_if_ne hX (tgt := 57) (by decide) dX5_isTouched_41 (fun c_41 => ?_) (fun c_41 => absurd c_41 (by decide))
  refine jr_iconst (v := 0) hX rfl dX5_isTouched_57 ?_
  exact jr_zret hX hlk hr (by decide) ⟨rfl, hR0, jFm.pt (mo_t31 hR) (by decide)⟩ dX5_isTouched_58

set_option maxHeartbeats 4000000 in
set_option maxRecDepth 100000 in
theorem mm_stepE1 (l : Launch) (D : va_G) (s0 : State) (b0 : Nat) (A : Nat → Prop) (G : jG) (S : sSt) (th : Nat) (ad : jN) (T : jT) (hR : jMo D s0 b0 th S ad T G) (x : Int32) (hin : ¬ ((0 : Int32) ≤ x ∧ x ≤ 2)) (y : Int32) : jM l yX5_step (ws_ yX5_step cX5_step 4 (some .int)) (jR 4 0 0) D s0 b0 A G [.ref (ad 31 0 0), .int x, .int y] (fun w G1 => w = some (.int 0) ∧ jMo D s0 b0 1 S ad T G1 ∧ jFm 31 60 T G T G1) := by
  have hxx := mo_x hR
  refine jM.of (by decide +kernel) (own := RX5) rfl (Nat.le_of_ble_eq_true rfl) ?_
  intro p e s m args below meth c hX hr hlk hnm
  refine jr_aload_n (i := 0) hX rfl rfl dX5_step_0 ?_
  refine jr_iload_n (i := 1) hX rfl rfl dX5_step_1 ?_
  refine jr_callV (As := [.int x]) (bc1 := (0)) (bs1 := (0)) hX (mm_noThread l D s0 b0 A _ S th ad T hR x) (cwV 1 hX.ts (lw_V q1872 q1874 qs40 q78 q1875) rfl rfl rfl (by decide +kernel) ⟨Nat.le_of_ble_eq_true rfl, Nat.le_of_ble_eq_true rfl⟩) hxx rfl rfl (Nat.le_of_ble_eq_true rfl) (by first | omega | (dsimp only; omega) | (show _ ≤ _; simp only []; omega)) (by first | omega | (dsimp only; omega) | (show _ ≤ _; simp only []; omega)) rfl dX5_step_2 (fun v_2 G_2 hp_2 => ?_)
  obtain ⟨rfl, hR1, hF1⟩ := hp_2
  rw [if_neg hin] at hR1
  rw [decide_eq_false hin]
  have hxx1 := mo_x hR1
  obtain ⟨moL, capL, eaL, hLL, -, -, -⟩ := mo_lns hR1
  refine jr_if_ne hX (tgt := 18) (by decide) dX5_step_5 (fun c_5 => ?_) (fun c_5 => absurd c_5 (by decide))
  refine jr_aload_n (i := 0) hX rfl rfl dX5_step_18 ?_
  refine jr_iconst (v := 1) hX rfl dX5_step_19 ?_
  refine jr_callV (As := [.int (nI 1)]) (bc1 := (0)) (bs1 := (0)) hX (mm_raises l D s0 b0 A _ S 1 ad T hR1 1) (cwV 1 hX.ts (lw_V q1876 q1878 qs41 q78 q1879) rfl rfl rfl (by decide +kernel) ⟨Nat.le_of_ble_eq_true rfl, Nat.le_of_ble_eq_true rfl⟩) (mo_x hR1) rfl rfl (Nat.le_of_ble_eq_true rfl) (by first | omega | (dsimp only; omega) | (show _ ≤ _; simp only []; omega)) (by first | omega | (dsimp only; omega) | (show _ ≤ _; simp only []; omega)) rfl dX5_step_20 (fun v_20 G_20 hp_20 => ?_)
  obtain ⟨rfl, hR2, hF2⟩ := hp_20
  exact jr_iret hX hlk hr ⟨rfl, hR2, hF1.trans hF2⟩ dX5_step_23

set_option maxHeartbeats 4000000 in
set_option maxRecDepth 100000 in
theorem mm_startE1 (l : Launch) (D : va_G) (s0 : State) (b0 : Nat) (A : Nat → Prop) (G : jG) (S : sSt) (th : Nat) (ad : jN) (T : jT) (hR : jMo D s0 b0 th S ad T G) (x : Int32) (hin : ¬ ((0 : Int32) ≤ x ∧ x ≤ 2)) (y : Int32) : jM l yX5_start (ws_ yX5_start cX5_start 5 (some .int)) (jR 4 0 0) D s0 b0 A G [.ref (ad 31 0 0), .int x, .int y] (fun w G1 => w = some (.int 0) ∧ jMo D s0 b0 1 S ad T G1 ∧ jFm 31 60 T G T G1) := by
  have hxx := mo_x hR
  refine jM.of (by decide +kernel) (own := RX5) rfl (Nat.le_of_ble_eq_true rfl) ?_
  intro p e s m args below meth c hX hr hlk hnm
  refine jr_aload_n (i := 0) hX rfl rfl dX5_start_0 ?_
  refine jr_iload_n (i := 1) hX rfl rfl dX5_start_1 ?_
  refine jr_callV (As := [.int x]) (bc1 := (0)) (bs1 := (0)) hX (mm_noThread l D s0 b0 A _ S th ad T hR x) (cwV 1 hX.ts (lw_V q1872 q1874 qs40 q78 q1875) rfl rfl rfl (by decide +kernel) ⟨Nat.le_of_ble_eq_true rfl, Nat.le_of_ble_eq_true rfl⟩) hxx rfl rfl (Nat.le_of_ble_eq_true rfl) (by first | omega | (dsimp only; omega) | (show _ ≤ _; simp only []; omega)) (by first | omega | (dsimp only; omega) | (show _ ≤ _; simp only []; omega)) rfl dX5_start_2 (fun v_2 G_2 hp_2 => ?_)
  obtain ⟨rfl, hR1, hF1⟩ := hp_2
  rw [if_neg hin] at hR1
  rw [decide_eq_false hin]
  have hxx1 := mo_x hR1
  obtain ⟨moL, capL, eaL, hLL, -, -, -⟩ := mo_lns hR1
  refine jr_if_ne hX (tgt := 15) (by decide) dX5_start_5 (fun c_5 => ?_) (fun c_5 => absurd c_5 (by decide))
  refine jr_aload_n (i := 0) hX rfl rfl dX5_start_15 ?_
  refine jr_iconst (v := 1) hX rfl dX5_start_16 ?_
  refine jr_callV (As := [.int (nI 1)]) (bc1 := (0)) (bs1 := (0)) hX (mm_raises l D s0 b0 A _ S 1 ad T hR1 1) (cwV 1 hX.ts (lw_V q1876 q1878 qs41 q78 q1879) rfl rfl rfl (by decide +kernel) ⟨Nat.le_of_ble_eq_true rfl, Nat.le_of_ble_eq_true rfl⟩) (mo_x hR1) rfl rfl (Nat.le_of_ble_eq_true rfl) (by first | omega | (dsimp only; omega) | (show _ ≤ _; simp only []; omega)) (by first | omega | (dsimp only; omega) | (show _ ≤ _; simp only []; omega)) rfl dX5_start_17 (fun v_17 G_17 hp_17 => ?_)
  obtain ⟨rfl, hR2, hF2⟩ := hp_17
  exact jr_iret hX hlk hr ⟨rfl, hR2, hF1.trans hF2⟩ dX5_start_20

set_option maxHeartbeats 4000000 in
set_option maxRecDepth 100000 in
theorem mm_stepE2 (l : Launch) (D : va_G) (s0 : State) (b0 : Nat) (A : Nat → Prop) (G : jG) (S : sSt) (th : Nat) (ad : jN) (T : jT) (hR : jMo D s0 b0 th S ad T G) (i : Nat) (hi3 : i < 3) (y : Int32) (hin2 : ¬ ((1 : Int32) ≤ y ∧ y ≤ 99)) : jM l yX5_step (ws_ yX5_step cX5_step 4 (some .int)) (jR 4 0 0) D s0 b0 A G [.ref (ad 31 0 0), .int (nI i), .int y] (fun w G1 => w = some (.int 0) ∧ jMo D s0 b0 1 S ad T G1 ∧ jFm 31 60 T G T G1) := by
  have hxx := mo_x hR
  have hin : (0 : Int32) ≤ nI i ∧ nI i ≤ 2 := ⟨nI_pos' (by omega), nI_le (b := 2) (by omega) (by omega)⟩
  refine jM.of (by decide +kernel) (own := RX5) rfl (Nat.le_of_ble_eq_true rfl) ?_
  intro p e s m args below meth c hX hr hlk hnm
  refine jr_aload_n (i := 0) hX rfl rfl dX5_step_0 ?_
  refine jr_iload_n (i := 1) hX rfl rfl dX5_step_1 ?_
  refine jr_callV (As := [.int (nI i)]) (bc1 := (0)) (bs1 := (0)) hX (mm_noThread l D s0 b0 A _ S th ad T hR (nI i)) (cwV 1 hX.ts (lw_V q1872 q1874 qs40 q78 q1875) rfl rfl rfl (by decide +kernel) ⟨Nat.le_of_ble_eq_true rfl, Nat.le_of_ble_eq_true rfl⟩) hxx rfl rfl (Nat.le_of_ble_eq_true rfl) (by first | omega | (dsimp only; omega) | (show _ ≤ _; simp only []; omega)) (by first | omega | (dsimp only; omega) | (show _ ≤ _; simp only []; omega)) rfl dX5_step_2 (fun v_2 G_2 hp_2 => ?_)
  obtain ⟨rfl, hR1, hF1⟩ := hp_2
  rw [if_pos hin] at hR1
  rw [decide_eq_true hin]
  have hxx1 := mo_x hR1
  obtain ⟨moL, capL, eaL, hLL, -, -, -⟩ := mo_lns hR1
  refine jr_if_ne hX (tgt := 18) (by decide) dX5_step_5 (fun c_5 => absurd c_5 (fun h => h rfl)) (fun c_5 => ?_)
  refine jr_iload_n (i := 2) hX rfl rfl dX5_step_8 ?_
  refine jr_iconst (v := 1) hX rfl dX5_step_9 ?_
  refine jr_bipush (v := 99) hX (by decide) dX5_step_10 ?_
  refine jr_callS (As := [.int y, .int 1, .int 99]) (bc1 := (0)) (bs1 := (0)) hX (mm_in l D s0 b0 A _ y 1 99) (va_cwS 3 hX.ts (lw_S q1784 q1785 q78 q1786) rfl rfl rfl (by decide +kernel) ⟨Nat.le_of_ble_eq_true rfl, Nat.le_of_ble_eq_true rfl⟩) rfl (Nat.le_of_ble_eq_true rfl) (by first | omega | (dsimp only; omega) | (show _ ≤ _; simp only []; omega)) (by first | omega | (dsimp only; omega) | (show _ ≤ _; simp only []; omega)) rfl dX5_step_12 (fun v_12 G_12 hp_12 => ?_)
  obtain ⟨rfl, e9⟩ := hp_12
  rw [e9, decide_eq_false hin2]
  refine jr_if_ne hX (tgt := 24) (by decide) dX5_step_15 (fun c_15 => absurd c_15 (fun h => h rfl)) (fun c_15 => ?_)
  refine jr_aload_n (i := 0) hX rfl rfl dX5_step_18 ?_
  refine jr_iconst (v := 1) hX rfl dX5_step_19 ?_
  refine jr_callV (As := [.int (nI 1)]) (bc1 := (0)) (bs1 := (0)) hX (mm_raises l D s0 b0 A _ S 0 ad T hR1 1) (cwV 1 hX.ts (lw_V q1876 q1878 qs41 q78 q1879) rfl rfl rfl (by decide +kernel) ⟨Nat.le_of_ble_eq_true rfl, Nat.le_of_ble_eq_true rfl⟩) (mo_x hR1) rfl rfl (Nat.le_of_ble_eq_true rfl) (by first | omega | (dsimp only; omega) | (show _ ≤ _; simp only []; omega)) (by first | omega | (dsimp only; omega) | (show _ ≤ _; simp only []; omega)) rfl dX5_step_20 (fun v_20 G_20 hp_20 => ?_)
  obtain ⟨rfl, hR2, hF2⟩ := hp_20
  exact jr_iret hX hlk hr ⟨rfl, hR2, hF1.trans hF2⟩ dX5_step_23

set_option maxHeartbeats 4000000 in
set_option maxRecDepth 100000 in
theorem mm_startE2 (l : Launch) (D : va_G) (s0 : State) (b0 : Nat) (A : Nat → Prop) (G : jG) (S : sSt) (th : Nat) (ad : jN) (T : jT) (hR : jMo D s0 b0 th S ad T G) (i : Nat) (hi3 : i < 3) (y : Int32) (hin2 : ¬ ((0 : Int32) ≤ y ∧ y ≤ 4)) : jM l yX5_start (ws_ yX5_start cX5_start 5 (some .int)) (jR 4 0 0) D s0 b0 A G [.ref (ad 31 0 0), .int (nI i), .int y] (fun w G1 => w = some (.int 0) ∧ jMo D s0 b0 1 S ad T G1 ∧ jFm 31 60 T G T G1) := by
  have hxx := mo_x hR
  have hin : (0 : Int32) ≤ nI i ∧ nI i ≤ 2 := ⟨nI_pos' (by omega), nI_le (b := 2) (by omega) (by omega)⟩
  refine jM.of (by decide +kernel) (own := RX5) rfl (Nat.le_of_ble_eq_true rfl) ?_
  intro p e s m args below meth c hX hr hlk hnm
  refine jr_aload_n (i := 0) hX rfl rfl dX5_start_0 ?_
  refine jr_iload_n (i := 1) hX rfl rfl dX5_start_1 ?_
  refine jr_callV (As := [.int (nI i)]) (bc1 := (0)) (bs1 := (0)) hX (mm_noThread l D s0 b0 A _ S th ad T hR (nI i)) (cwV 1 hX.ts (lw_V q1872 q1874 qs40 q78 q1875) rfl rfl rfl (by decide +kernel) ⟨Nat.le_of_ble_eq_true rfl, Nat.le_of_ble_eq_true rfl⟩) hxx rfl rfl (Nat.le_of_ble_eq_true rfl) (by first | omega | (dsimp only; omega) | (show _ ≤ _; simp only []; omega)) (by first | omega | (dsimp only; omega) | (show _ ≤ _; simp only []; omega)) rfl dX5_start_2 (fun v_2 G_2 hp_2 => ?_)
  obtain ⟨rfl, hR1, hF1⟩ := hp_2
  rw [if_pos hin] at hR1
  rw [decide_eq_true hin]
  have hxx1 := mo_x hR1
  obtain ⟨moL, capL, eaL, hLL, -, -, -⟩ := mo_lns hR1
  refine jr_if_ne hX (tgt := 15) (by decide) dX5_start_5 (fun c_5 => absurd c_5 (fun h => h rfl)) (fun c_5 => ?_)
  refine jr_iload_n (i := 2) hX rfl rfl dX5_start_8 ?_
  refine jr_callS (As := [.int y]) (bc1 := (0)) (bs1 := (0)) hX (mm_isFunction l D s0 b0 A _ y) (va_cwS 1 hX.ts (lw_S q1781 q1782 q78 q1783) rfl rfl rfl (by decide +kernel) ⟨Nat.le_of_ble_eq_true rfl, Nat.le_of_ble_eq_true rfl⟩) rfl (Nat.le_of_ble_eq_true rfl) (by first | omega | (dsimp only; omega) | (show _ ≤ _; simp only []; omega)) (by first | omega | (dsimp only; omega) | (show _ ≤ _; simp only []; omega)) rfl dX5_start_9 (fun v_9 G_9 hp_9 => ?_)
  obtain ⟨rfl, e9⟩ := hp_9
  rw [e9, decide_eq_false hin2]
  refine jr_if_ne hX (tgt := 21) (by decide) dX5_start_12 (fun c_12 => absurd c_12 (fun h => h rfl)) (fun c_12 => ?_)
  refine jr_aload_n (i := 0) hX rfl rfl dX5_start_15 ?_
  refine jr_iconst (v := 1) hX rfl dX5_start_16 ?_
  refine jr_callV (As := [.int (nI 1)]) (bc1 := (0)) (bs1 := (0)) hX (mm_raises l D s0 b0 A _ S 0 ad T hR1 1) (cwV 1 hX.ts (lw_V q1876 q1878 qs41 q78 q1879) rfl rfl rfl (by decide +kernel) ⟨Nat.le_of_ble_eq_true rfl, Nat.le_of_ble_eq_true rfl⟩) (mo_x hR1) rfl rfl (Nat.le_of_ble_eq_true rfl) (by first | omega | (dsimp only; omega) | (show _ ≤ _; simp only []; omega)) (by first | omega | (dsimp only; omega) | (show _ ≤ _; simp only []; omega)) rfl dX5_start_17 (fun v_17 G_17 hp_17 => ?_)
  obtain ⟨rfl, hR2, hF2⟩ := hp_17
  exact jr_iret hX hlk hr ⟨rfl, hR2, hF1.trans hF2⟩ dX5_start_20

set_option maxHeartbeats 4000000 in
set_option maxRecDepth 100000 in
theorem mm_startE3 (l : Launch) (D : va_G) (s0 : State) (b0 : Nat) (A : Nat → Prop) (G : jG) (S : sSt) (th : Nat) (ad : jN) (T : jT) (hR : jMo D s0 b0 th S ad T G) (i : Nat) (hi3 : i < 3) (hs : sWs S) (fn : Nat) (hfn : fn < 5) (hal : s_al (s_s S i).1 = true) : jM l yX5_start (ws_ yX5_start cX5_start 5 (some .int)) (jR 4 0 0) D s0 b0 A G [.ref (ad 31 0 0), .int (nI i), .int (nI fn)] (fun w G1 => w = some (.int 0) ∧ jMo D s0 b0 2 S ad T G1 ∧ jFm 31 60 T G T G1) := by
  have hxx := mo_x hR
  have hin : (0 : Int32) ≤ nI i ∧ nI i ≤ 2 := ⟨nI_pos' (by omega), nI_le (b := 2) (by omega) (by omega)⟩
  have hst9 := (hs i hi3).1
  have hin2 : (0 : Int32) ≤ nI fn ∧ nI fn ≤ 4 := ⟨nI_pos' (by omega), nI_le (b := 4) (by omega) (by omega)⟩
  refine jM.of (by decide +kernel) (own := RX5) rfl (Nat.le_of_ble_eq_true rfl) ?_
  intro p e s m args below meth c hX hr hlk hnm
  refine jr_aload_n (i := 0) hX rfl rfl dX5_start_0 ?_
  refine jr_iload_n (i := 1) hX rfl rfl dX5_start_1 ?_
  refine jr_callV (As := [.int (nI i)]) (bc1 := (0)) (bs1 := (0)) hX (mm_noThread l D s0 b0 A _ S th ad T hR (nI i)) (cwV 1 hX.ts (lw_V q1872 q1874 qs40 q78 q1875) rfl rfl rfl (by decide +kernel) ⟨Nat.le_of_ble_eq_true rfl, Nat.le_of_ble_eq_true rfl⟩) hxx rfl rfl (Nat.le_of_ble_eq_true rfl) (by first | omega | (dsimp only; omega) | (show _ ≤ _; simp only []; omega)) (by first | omega | (dsimp only; omega) | (show _ ≤ _; simp only []; omega)) rfl dX5_start_2 (fun v_2 G_2 hp_2 => ?_)
  obtain ⟨rfl, hR1, hF1⟩ := hp_2
  rw [if_pos hin] at hR1
  rw [decide_eq_true hin]
  have hxx1 := mo_x hR1
  obtain ⟨moL, capL, eaL, hLL, -, -, -⟩ := mo_lns hR1
  have hR2 := mo_wth hR1 2
  have hxx2 := mo_x hR2
  have hF2 := hF1.trans (jFm.pt (c := jo 11 [.int (nI 2), .ref (ad 32 0 0), .ref (ad 37 (s_m S) 0), .int (nI (s_p S)), .ref (ad 32 1 0), .ref (ad 32 2 0), .ref (ad 34 0 0), .ref (ad 32 3 0), .ref (ad 32 4 0), .int (jbz (s_w S)), .int (s_l S), .ref (ad 32 5 0), .ref (ad 32 6 0), .long (lN (s_n S))]) (mo_t31 hR1) (by decide))
  refine jr_if_ne hX (tgt := 15) (by decide) dX5_start_5 (fun c_5 => absurd c_5 (fun h => h rfl)) (fun c_5 => ?_)
  refine jr_iload_n (i := 2) hX rfl rfl dX5_start_8 ?_
  refine jr_callS (As := [.int (nI fn)]) (bc1 := (0)) (bs1 := (0)) hX (mm_isFunction l D s0 b0 A _ (nI fn)) (va_cwS 1 hX.ts (lw_S q1781 q1782 q78 q1783) rfl rfl rfl (by decide +kernel) ⟨Nat.le_of_ble_eq_true rfl, Nat.le_of_ble_eq_true rfl⟩) rfl (Nat.le_of_ble_eq_true rfl) (by first | omega | (dsimp only; omega) | (show _ ≤ _; simp only []; omega)) (by first | omega | (dsimp only; omega) | (show _ ≤ _; simp only []; omega)) rfl dX5_start_9 (fun v_9 G_9 hp_9 => ?_)
  obtain ⟨rfl, e9⟩ := hp_9
  rw [e9, decide_eq_true hin2]
  refine jr_if_ne hX (tgt := 21) (by decide) dX5_start_12 (fun c_12 => ?_) (fun c_12 => absurd c_12 (by decide))
  refine jr_aload_n (i := 0) hX rfl rfl dX5_start_21 ?_
  refine jr_get (ci := 11) (k := 4) hX hxx1 rfl in_X5 (by decide) q1734 rfl dX5_start_22 ?_
  refine jr_iload_n (i := 1) hX rfl rfl dX5_start_25 ?_
  refine jr_callV (As := [.int (nI i)]) (bc1 := (0)) (bs1 := (0)) hX (met_get l D s0 b0 A _ (ad 32 1 0) (s_rg 3 (fun v => ad 35 v 0)) moL capL eaL hLL i (ad 35 i 0) (rg_at hi3)) (cwV 1 hX.ts (lw_V q1712 q304 q2203 q68 q306) rfl rfl rfl (by decide +kernel) ⟨Nat.le_of_ble_eq_true rfl, Nat.le_of_ble_eq_true rfl⟩) hLL.1 rfl rfl (Nat.le_of_ble_eq_true rfl) (by first | omega | (dsimp only; omega) | (show _ ≤ _; simp only []; omega)) (by first | omega | (dsimp only; omega) | (show _ ≤ _; simp only []; omega)) rfl dX5_start_26 (fun v_26 G_26 hp_26 => ?_)
  obtain ⟨rfl, e9⟩ := hp_26
  rw [e9]
  refine jr_castS hX (mo_lan hR1 hi3) rfl q1713 dX5_start_29 ?_
  refine jr_astore_n (i := 3) hX rfl (by decide) rfl dX5_start_32 ?_
  refine jr_aload_n (i := 0) hX rfl rfl dX5_start_33 ?_
  refine jr_aload_n (i := 3) hX rfl rfl dX5_start_34 ?_
  refine jr_callV (As := []) (bc1 := (0)) (bs1 := (0)) hX (mm_isOpen l D s0 b0 A _ (ad 35 i 0) (ad 36 i 0) (s_s S i).1 (mo_lan hR1 hi3) hst9) (cwV 0 hX.ts (lw_V q1880 q1881 q1882 q80 q1883) rfl rfl rfl (by decide +kernel) ⟨Nat.le_of_ble_eq_true rfl, Nat.le_of_ble_eq_true rfl⟩) (mo_lan hR1 hi3) rfl rfl (Nat.le_of_ble_eq_true rfl) (by first | omega | (dsimp only; omega) | (show _ ≤ _; simp only []; omega)) (by first | omega | (dsimp only; omega) | (show _ ≤ _; simp only []; omega)) rfl dX5_start_35 (fun v_35 G_35 hp_35 => ?_)
  obtain ⟨rfl, e9⟩ := hp_35
  rw [e9, hal]
  refine jr_if_eq hX (tgt := 45) (by decide) dX5_start_38 (fun c_38 => absurd c_38 (by decide)) (fun c_38 => ?_)
  refine jr_iconst (v := 2) hX rfl dX5_start_41 ?_
  refine jr_goto hX (tgt := 46) (by decide) dX5_start_42 ?_
  refine jr_put (ci := 11) (k := 0) hX hxx1 rfl in_X5 (by decide) tyX5 tyX5_ok nmX5 q1730 rfl (by first | rfl | assumption) (by first | rfl | assumption) (Nat.le_of_ble_eq_true rfl) dX5_start_46 ?_
  refine jr_aload_n (i := 0) hX rfl rfl dX5_start_49 ?_
  refine jr_get (ci := 11) (k := 0) hX hxx2 rfl in_X5 (by decide) q1730 rfl dX5_start_50 ?_
  refine jr_if_le hX (tgt := 58) (by decide) dX5_start_53 (fun c_53 => absurd c_53 (by decide)) (fun c_53 => ?_)
  refine jr_iconst (v := 0) hX rfl dX5_start_56 ?_
  exact jr_iret hX hlk hr ⟨rfl, hR2, hF2⟩ dX5_start_57

set_option maxHeartbeats 4000000 in
set_option maxRecDepth 100000 in
theorem mm_releaseE1 (l : Launch) (D : va_G) (s0 : State) (b0 : Nat) (A : Nat → Prop) (G : jG) (S : sSt) (th : Nat) (ad : jN) (T : jT) (hR : jMo D s0 b0 th S ad T G) (x : Int32) (hin : ¬ ((0 : Int32) ≤ x ∧ x ≤ 2)) : jM l yX5_release (ws_ yX5_release cX5_release 3 (some .int)) (jR 4 0 0) D s0 b0 A G [.ref (ad 31 0 0), .int x] (fun w G1 => w = some (.int 0) ∧ jMo D s0 b0 1 S ad T G1 ∧ jFm 31 60 T G T G1) := by
  have hxx := mo_x hR
  refine jM.of (by decide +kernel) (own := RX5) rfl (Nat.le_of_ble_eq_true rfl) ?_
  intro p e s m args below meth c hX hr hlk hnm
  refine jr_aload_n (i := 0) hX rfl rfl dX5_release_0 ?_
  refine jr_iload_n (i := 1) hX rfl rfl dX5_release_1 ?_
  refine jr_callV (As := [.int x]) (bc1 := (0)) (bs1 := (0)) hX (mm_noThread l D s0 b0 A _ S th ad T hR x) (cwV 1 hX.ts (lw_V q1872 q1874 qs40 q78 q1875) rfl rfl rfl (by decide +kernel) ⟨Nat.le_of_ble_eq_true rfl, Nat.le_of_ble_eq_true rfl⟩) hxx rfl rfl (Nat.le_of_ble_eq_true rfl) (by first | omega | (dsimp only; omega) | (show _ ≤ _; simp only []; omega)) (by first | omega | (dsimp only; omega) | (show _ ≤ _; simp only []; omega)) rfl dX5_release_2 (fun v_2 G_2 hp_2 => ?_)
  obtain ⟨rfl, hR1, hF1⟩ := hp_2
  rw [if_neg hin] at hR1
  rw [decide_eq_false hin]
  have hxx1 := mo_x hR1
  obtain ⟨moL, capL, eaL, hLL, -, -, -⟩ := mo_lns hR1
  refine jr_if_eq hX (tgt := 10) (by decide) dX5_release_5 (fun c_5 => absurd c_5 (by decide)) (fun c_5 => ?_)
  refine jr_iconst (v := 0) hX rfl dX5_release_8 ?_
  exact jr_iret hX hlk hr ⟨rfl, hR1, hF1⟩ dX5_release_9

set_option maxHeartbeats 4000000 in
set_option maxRecDepth 100000 in
theorem mm_releaseE2 (l : Launch) (D : va_G) (s0 : State) (b0 : Nat) (A : Nat → Prop) (G : jG) (S : sSt) (th : Nat) (ad : jN) (T : jT) (hR : jMo D s0 b0 th S ad T G) (i : Nat) (hi3 : i < 3) (hs : sWs S) (hs9 : (s_s S i).1 ≠ 119) : jM l yX5_release (ws_ yX5_release cX5_release 3 (some .int)) (jR 4 0 0) D s0 b0 A G [.ref (ad 31 0 0), .int (nI i)] (fun w G1 => w = some (.int 0) ∧ jMo D s0 b0 2 S ad T G1 ∧ jFm 31 60 T G T G1) := by
  have hxx := mo_x hR
  have hin : (0 : Int32) ≤ nI i ∧ nI i ≤ 2 := ⟨nI_pos' (by omega), nI_le (b := 2) (by omega) (by omega)⟩
  have hst9 := (hs i hi3).1
  refine jM.of (by decide +kernel) (own := RX5) rfl (Nat.le_of_ble_eq_true rfl) ?_
  intro p e s m args below meth c hX hr hlk hnm
  refine jr_aload_n (i := 0) hX rfl rfl dX5_release_0 ?_
  refine jr_iload_n (i := 1) hX rfl rfl dX5_release_1 ?_
  refine jr_callV (As := [.int (nI i)]) (bc1 := (0)) (bs1 := (0)) hX (mm_noThread l D s0 b0 A _ S th ad T hR (nI i)) (cwV 1 hX.ts (lw_V q1872 q1874 qs40 q78 q1875) rfl rfl rfl (by decide +kernel) ⟨Nat.le_of_ble_eq_true rfl, Nat.le_of_ble_eq_true rfl⟩) hxx rfl rfl (Nat.le_of_ble_eq_true rfl) (by first | omega | (dsimp only; omega) | (show _ ≤ _; simp only []; omega)) (by first | omega | (dsimp only; omega) | (show _ ≤ _; simp only []; omega)) rfl dX5_release_2 (fun v_2 G_2 hp_2 => ?_)
  obtain ⟨rfl, hR1, hF1⟩ := hp_2
  rw [if_pos hin] at hR1
  rw [decide_eq_true hin]
  have hxx1 := mo_x hR1
  obtain ⟨moL, capL, eaL, hLL, -, -, -⟩ := mo_lns hR1
  have hR2 := mo_wth hR1 2
  have hxx2 := mo_x hR2
  have hF2 := hF1.trans (jFm.pt (c := jo 11 [.int (nI 2), .ref (ad 32 0 0), .ref (ad 37 (s_m S) 0), .int (nI (s_p S)), .ref (ad 32 1 0), .ref (ad 32 2 0), .ref (ad 34 0 0), .ref (ad 32 3 0), .ref (ad 32 4 0), .int (jbz (s_w S)), .int (s_l S), .ref (ad 32 5 0), .ref (ad 32 6 0), .long (lN (s_n S))]) (mo_t31 hR1) (by decide))
  refine jr_if_eq hX (tgt := 10) (by decide) dX5_release_5 (fun c_5 => ?_) (fun c_5 => absurd rfl c_5)
  refine jr_aload_n (i := 0) hX rfl rfl dX5_release_10 ?_
  refine jr_get (ci := 11) (k := 4) hX hxx1 rfl in_X5 (by decide) q1734 rfl dX5_release_11 ?_
  refine jr_iload_n (i := 1) hX rfl rfl dX5_release_14 ?_
  refine jr_callV (As := [.int (nI i)]) (bc1 := (0)) (bs1 := (0)) hX (met_get l D s0 b0 A _ (ad 32 1 0) (s_rg 3 (fun v => ad 35 v 0)) moL capL eaL hLL i (ad 35 i 0) (rg_at hi3)) (cwV 1 hX.ts (lw_V q1712 q304 q2203 q68 q306) rfl rfl rfl (by decide +kernel) ⟨Nat.le_of_ble_eq_true rfl, Nat.le_of_ble_eq_true rfl⟩) hLL.1 rfl rfl (Nat.le_of_ble_eq_true rfl) (by first | omega | (dsimp only; omega) | (show _ ≤ _; simp only []; omega)) (by first | omega | (dsimp only; omega) | (show _ ≤ _; simp only []; omega)) rfl dX5_release_15 (fun v_15 G_15 hp_15 => ?_)
  obtain ⟨rfl, e9⟩ := hp_15
  rw [e9]
  refine jr_castS hX (mo_lan hR1 hi3) rfl q1713 dX5_release_18 ?_
  refine jr_astore_n (i := 2) hX rfl (by decide) rfl dX5_release_21 ?_
  refine jr_aload_n (i := 0) hX rfl rfl dX5_release_22 ?_
  refine jr_aload_n (i := 2) hX rfl rfl dX5_release_23 ?_
  refine jr_getN (ci := 13) (k := 0) hX (mo_lan hR1 hi3) rfl in_X7 (by decide) q1722 rfl dX5_release_24 ?_
  refine jr_bipush (v := 119) hX (by decide) dX5_release_27 ?_
  refine jr_icmp_ne hX (tgt := 36) (by decide) dX5_release_29 (fun c_29 => ?_) (fun c_29 => absurd c_29 (fun z => hs9 ((nI_eq (b := 119) (by omega) (by omega)).mp z)))
  refine jr_iconst (v := 2) hX rfl dX5_release_36 ?_
  refine jr_put (ci := 11) (k := 0) hX hxx1 rfl in_X5 (by decide) tyX5 tyX5_ok nmX5 q1730 rfl (by first | rfl | assumption) (by first | rfl | assumption) (Nat.le_of_ble_eq_true rfl) dX5_release_37 ?_
  refine jr_aload_n (i := 0) hX rfl rfl dX5_release_40 ?_
  refine jr_get (ci := 11) (k := 0) hX hxx2 rfl in_X5 (by decide) q1730 rfl dX5_release_41 ?_
  refine jr_if_le hX (tgt := 49) (by decide) dX5_release_44 (fun c_44 => absurd c_44 (by decide)) (fun c_44 => ?_)
  refine jr_iconst (v := 0) hX rfl dX5_release_47 ?_
  exact jr_iret hX hlk hr ⟨rfl, hR2, hF2⟩ dX5_release_48

set_option maxHeartbeats 4000000 in
set_option maxRecDepth 100000 in
theorem mm_againstE (l : Launch) (D : va_G) (s0 : State) (b0 : Nat) (A : Nat → Prop) (G : jG) (S : sSt) (th : Nat) (ad : jN) (T : jT) (hR : jMo D s0 b0 th S ad T G) (hq : s_q S = []) : jM l yX5_against_2 (ws_ yX5_against_2 cX5_against_2 1 (some .int)) (jR 4 0 0) D s0 b0 A G [.ref (ad 31 0 0)] (fun w G1 => w = some (.int 0) ∧ jMo D s0 b0 1 S ad T G1 ∧ jFm 31 60 T G T G1) := by
  have hxx := mo_x hR
  obtain ⟨moQ, capQ, eaQ, hQL, -, hQc, hQt⟩ := mo_que hR
  have hR0 := mo_wth hR 1
  have hx0 := mo_x hR0
  refine jM.of (by decide +kernel) (own := RX5) rfl (Nat.le_of_ble_eq_true rfl) ?_
  intro p e s m args below meth c hX hr hlk hnm
  refine jr_aload_n (i := 0) hX rfl rfl dX5_against_2_0 ?_
  refine jr_aload_n (i := 0) hX rfl rfl dX5_against_2_1 ?_
  refine jr_get (ci := 11) (k := 8) hX hxx rfl in_X5 (by decide) q1738 rfl dX5_against_2_2 ?_
  refine jr_callV (As := []) (bc1 := (0)) (bs1 := (0)) hX (met_isEmpty l D s0 b0 A _ (ad 32 4 0) ((s_q S).map (fun v => ad 48 v 0)) moQ capQ eaQ hQL) (cwV 0 hX.ts (lw_V q1919 q996 q2207 q68 q998) rfl rfl rfl (by decide +kernel) ⟨Nat.le_of_ble_eq_true rfl, Nat.le_of_ble_eq_true rfl⟩) hQL.1 rfl rfl (Nat.le_of_ble_eq_true rfl) (by first | omega | (dsimp only; omega) | (show _ ≤ _; simp only []; omega)) (by first | omega | (dsimp only; omega) | (show _ ≤ _; simp only []; omega)) rfl dX5_against_2_5 (fun v_5 G_5 hp_5 => ?_)
  obtain ⟨rfl, e9⟩ := hp_5
  rw [e9]
  refine jr_if_eq hX (tgt := 15) (by decide) dX5_against_2_8 (fun c_8 => absurd c_8 (by rw [decide_eq_true (by rw [hq]; rfl)]; decide)) (fun c_8 => ?_)
  refine jr_iconst (v := 1) hX rfl dX5_against_2_11 ?_
  refine jr_goto hX (tgt := 16) (by decide) dX5_against_2_12 ?_
  refine jr_put (ci := 11) (k := 0) hX hxx rfl in_X5 (by decide) tyX5 tyX5_ok nmX5 q1730 rfl (by first | rfl | assumption) (by first | rfl | assumption) (Nat.le_of_ble_eq_true rfl) dX5_against_2_16 ?_
  refine jr_aload_n (i := 0) hX rfl rfl dX5_against_2_19 ?_
  refine jr_get (ci := 11) (k := 0) hX hx0 rfl in_X5 (by decide) q1730 rfl dX5_against_2_20 ?_
  refine jr_if_le hX (tgt := 30) (by decide) dX5_against_2_23 (fun c_23 => absurd c_23 (by decide)) (fun c_23 => ?_)
  refine jr_iconst (v := 0) hX rfl dX5_against_2_26 ?_
  refine jr_goto hX (tgt := 45) (by decide) dX5_against_2_27 ?_
  exact jr_iret hX hlk hr ⟨rfl, hR0, jFm.pt (mo_t31 hR) (by decide)⟩ dX5_against_2_45
