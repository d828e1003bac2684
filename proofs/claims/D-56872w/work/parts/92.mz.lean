/-! figures -/
theorem nn_f : ∀ a, a < 31 → ∀ b, b < 31 → 0 < b → vf_n32 (FP.fdiv (FP.i2f (nI a)) (FP.i2f (nI b))) := by unfold vf_n32; decide +kernel
theorem nn_d : ∀ a, a < 25 → ∀ b, b < 4 → 0 < b → vf_n64 (FP.ddiv (FP.i2d (nI a)) (FP.i2d (nI b))) := by unfold vf_n64; decide +kernel
/-- things of the present version -/
def s_shr (S : sSt) (k : Nat) : Nat := ((s_o S).take k).countP (fun t => decide (t.1 = s_p S))
theorem shr_le {S : sSt} {k : Nat} : s_shr S k ≤ (s_o S).length := Nat.le_trans List.countP_le_length (by rw [List.length_take]; exact Nat.min_le_right _ _)
theorem shr_s {S : sSt} {k : Nat} {t : sTh} (h : (s_o S)[k]? = some t) : s_shr S (k + 1) = s_shr S k + (if t.1 = s_p S then 1 else 0) := by
  unfold s_shr
  rw [cnt_tk h]
  by_cases e : t.1 = s_p S <;> simp [e]
def s_mny (S : sSt) : Nat → Nat
  | 0 => 0
  | i + 1 => s_mny S i + (if s_al (s_s S i).1 = true then 1 else 0)
def s_sum (S : sSt) : Nat → Nat
  | 0 => 0
  | i + 1 => s_sum S i + (s_s S i).2.length

set_option maxHeartbeats 4000000 in
set_option maxRecDepth 100000 in
theorem mm_shareC (l : Launch) (D : va_G) (s0 : State) (b0 : Nat) (A : Nat → Prop) (G : jG) (S : sSt) (th : Nat) (ad : jN) (T : jT) (hR : jMo D s0 b0 th S ad T G) (ho : sWo S) (hv : sWv S) (hp : s_p S < s_m S) (hne : s_o S ≠ []) : jM l yX5_carriedShare (ws_ yX5_carriedShare cX5_carriedShare 4 (some .float)) (jR 5 1 4) D s0 b0 A G [.ref (ad 31 0 0)] (fun w G1 => w = some (.float (FP.fdiv (FP.i2f (nI (s_shr S (s_o S).length))) (FP.i2f (nI (s_o S).length)))) ∧ jMo D s0 b0 0 S ad T G1 ∧ jFm 31 60 T G T G1) := by
  have hxx := mo_x hR
  obtain ⟨hol, hoe⟩ := ho
  have hvu := hv.2.1
  have hmm : s_m S = (s_v S).length - 1 := rfl
  have hpos : 0 < (s_o S).length := List.length_pos_iff.mpr hne
  have hsl := shr_le (S := S) (k := (s_o S).length)
  obtain ⟨mo9, cap9, ea9, hOL, -, -, -⟩ := mo_ths hR
  have hR0' := mo_wth hR 0
  have hF0' : jFm 31 60 T G T _ := jFm.pt (T := T) (G := G) (lo := 31) (hi := 60) (c := jo 11 [.int (nI 0), .ref (ad 32 0 0), .ref (ad 37 (s_m S) 0), .int (nI (s_p S)), .ref (ad 32 1 0), .ref (ad 32 2 0), .ref (ad 34 0 0), .ref (ad 32 3 0), .ref (ad 32 4 0), .int (jbz (s_w S)), .int (s_l S), .ref (ad 32 5 0), .ref (ad 32 6 0), .long (lN (s_n S))]) (mo_t31 hR) (by decide)
  refine jM.of (by decide +kernel) (own := RX5) rfl (Nat.le_of_ble_eq_true rfl) ?_
  intro p e s m args below meth c hX hr hlk hnm
  refine jr_aload_n (i := 0) hX rfl rfl dX5_carriedShare_0 ?_
  refine jr_aload_n (i := 0) hX rfl rfl dX5_carriedShare_1 ?_
  refine jr_get (ci := 11) (k := 5) hX hxx rfl in_X5 (by decide) q1735 rfl dX5_carriedShare_2 ?_
  refine jr_callV (As := []) (bc1 := (1)) (bs1 := (4)) hX (met_isEmpty l D s0 b0 A _ (ad 32 2 0) (s_rg (s_o S).length (fun v => ad 46 v 0)) mo9 cap9 ea9 hOL) (cwV 0 hX.ts (lw_V q1919 q996 q2207 q68 q998) rfl rfl rfl (by decide +kernel) ⟨Nat.le_of_ble_eq_true rfl, Nat.le_of_ble_eq_true rfl⟩) hOL.1 rfl rfl (Nat.le_of_ble_eq_true rfl) (by first | omega | (dsimp only; omega) | (show _ ≤ _; simp only []; omega)) (by first | omega | (dsimp only; omega) | (show _ ≤ _; simp only []; omega)) rfl dX5_carriedShare_5 (fun v_5 G_5 hp_5 => ?_)
  obtain ⟨rfl, e9⟩ := hp_5
  rw [e9]
  refine jr_if_eq hX (tgt := 15) (by decide) dX5_carriedShare_8 (fun c_8 => ?_) (fun c_8 => absurd (by rw [decide_eq_false (fun z => hne (List.length_eq_zero_iff.mp (by rw [← rg_len (n := (s_o S).length) (f := fun v => ad 46 v 0), z]; rfl)))]; rfl) c_8)
  refine jr_iconst (v := 0) hX rfl dX5_carriedShare_15 ?_
  refine jr_put (ci := 11) (k := 0) hX hxx rfl in_X5 (by decide) tyX5 tyX5_ok nmX5 q1730 rfl (by first | rfl | assumption) (by first | rfl | assumption) (Nat.le_of_ble_eq_true rfl) dX5_carriedShare_16 ?_
  refine jr_Gof rfl (fun G0 hG0 => ?_)
  have hR0 : jMo D s0 b0 0 S ad T G0 := by rw [hG0]; exact hR0'
  have hF0 : jFm 31 60 T G T G0 := by rw [hG0]; exact hF0'
  have hx0 := mo_x hR0
  obtain ⟨mo, cap, ea, hL0, -, -, -⟩ := mo_ths hR0
  have hL := hL0
  refine jr_iconst (v := 0) hX rfl dX5_carriedShare_19 ?_
  refine jr_istore_n (i := 1) hX rfl (by decide) rfl dX5_carriedShare_20 ?_
  refine jr_aload_n (i := 0) hX rfl rfl dX5_carriedShare_21 ?_
  refine jr_get (ci := 11) (k := 5) hX hx0 rfl in_X5 (by decide) q1735 rfl dX5_carriedShare_22 ?_
  refine jr_callV (As := []) (bc1 := (0)) (bs1 := (0)) hX (met_iterator l D s0 b0 A _ (ad 32 2 0) (s_rg (s_o S).length (fun v => ad 46 v 0)) mo cap ea hL) (cwV 0 hX.ts (lw_V q1937 q855 q2208 q68 q857) rfl rfl rfl (by decide +kernel) ⟨Nat.le_of_ble_eq_true rfl, Nat.le_of_ble_eq_true rfl⟩) hL.1 rfl rfl (Nat.le_of_ble_eq_true rfl) (by first | omega | (dsimp only; omega) | (show _ ≤ _; simp only []; omega)) (by first | omega | (dsimp only; omega) | (show _ ≤ _; simp only []; omega)) rfl dX5_carriedShare_25 (fun v_25 G_25 hp_25 => ?_)
  obtain ⟨it, rfl, hn, hA, e9⟩ := hp_25
  rw [e9]
  refine jr_astore_n (i := 2) hX rfl (by decide) rfl dX5_carriedShare_28 ?_
  have hnit := hn
  have hxl : (s_rg (s_o S).length (fun v => ad 46 v 0)).length = (s_o S).length := rg_len
  have loop : ∀ (n9 : Nat) (k : Nat) (Gc : jG) (lr : Int32), (s_o S).length - k = n9 → k ≤ (s_o S).length → jNw G0 Gc → Gc it = some (jo 1 [.int (nI k), .int lr, .int mo, .ref (ad 32 2 0)]) → Jg p l e (jR 5 1 4) s m args below meth c (MQ below (jQ D A (fun w G1 => w = some (.float (FP.fdiv (FP.i2f (nI (s_shr S (s_o S).length))) (FP.i2f (nI (s_o S).length)))) ∧ jMo D s0 b0 0 S ad T G1 ∧ jFm 31 60 T G T G1)) args s 1 4 A) D A 4 Gc 0 0 29 [(1, .int (nI (s_shr S k))), (2, .ref it), (0, .ref (ad 31 0 0))] [] := by
    intro n9
    induction n9 using Nat.strongRecOn with
    | ind n9 ih0 =>
    intro k Gc lr hn9 hkl hnw hit
    have ih : ∀ m9, m9 < n9 → ∀ (k : Nat) (Gc : jG) (lr : Int32), (s_o S).length - k = m9 → k ≤ (s_o S).length → jNw G0 Gc → Gc it = some (jo 1 [.int (nI k), .int lr, .int mo, .ref (ad 32 2 0)]) → Jg p l e (jR 5 1 4) s m args below meth c (MQ below (jQ D A (fun w G1 => w = some (.float (FP.fdiv (FP.i2f (nI (s_shr S (s_o S).length))) (FP.i2f (nI (s_o S).length)))) ∧ jMo D s0 b0 0 S ad T G1 ∧ jFm 31 60 T G T G1)) args s 1 4 A) D A 4 Gc 0 0 29 [(1, .int (nI (s_shr S k))), (2, .ref it), (0, .ref (ad 31 0 0))] [] := fun m9 hm => ih0 m9 hm
    have hL := hnw.jLS hL0
    refine jr_aload_n (i := 2) hX rfl rfl dX5_carriedShare_29 ?_
    refine jr_callF (As := []) (bc1 := (0)) (bs1 := (0)) hX (met_hasNext l D s0 b0 A _ (ad 32 2 0) (s_rg (s_o S).length (fun v => ad 46 v 0)) mo cap ea hL it (k) lr hit (by rw [hxl]; omega)) (va_cwF 0 hX.ts (lw_F q1939 q882 q884 q96 q886) rfl rfl rfl (hX.S.fw ⟨by decide +kernel, by decide +kernel⟩ q880 q879 q885 q883 q881) (by decide +kernel) ⟨Nat.le_of_ble_eq_true rfl, Nat.le_of_ble_eq_true rfl⟩) hit rfl rfl (Nat.le_of_ble_eq_true rfl) (by first | omega | (dsimp only; omega) | (show _ ≤ _; simp only []; omega)) (by first | omega | (dsimp only; omega) | (show _ ≤ _; simp only []; omega)) rfl dX5_carriedShare_30 (fun v_30 G_30 hp_30 => ?_)
    obtain ⟨rfl, e9⟩ := hp_30
    rw [e9, hxl]
    refine jr_if_eq hX (tgt := 70) (by decide) dX5_carriedShare_35 (fun c_35 => ?_) (fun c_35 => ?_)
    · have hk2 : ¬ k < (s_o S).length := of_decide_eq_false (jbz_0 c_35)
      rw [show k = (s_o S).length by omega]
      refine jr_aload_n (i := 0) hX rfl rfl dX5_carriedShare_70 ?_
      refine jr_get (ci := 11) (k := 0) hX (hnw _ _ hx0) rfl in_X5 (by decide) q1730 rfl dX5_carriedShare_71 ?_
      refine jr_if_le hX (tgt := 81) (by decide) dX5_carriedShare_74 (fun c_74 => ?_) (fun c_74 => absurd (by decide) c_74)
      refine jr_iload_n (i := 1) hX rfl rfl dX5_carriedShare_81 ?_
      refine jr_i2f hX dX5_carriedShare_82 ?_
      refine jr_aload_n (i := 0) hX rfl rfl dX5_carriedShare_83 ?_
      refine jr_get (ci := 11) (k := 5) hX (hnw _ _ hx0) rfl in_X5 (by decide) q1735 rfl dX5_carriedShare_84 ?_
      refine jr_callV (As := []) (bc1 := (0)) (bs1 := (0)) hX (met_size l D s0 b0 A _ (ad 32 2 0) (s_rg (s_o S).length (fun v => ad 46 v 0)) mo cap ea hL) (cwV 0 hX.ts (lw_V q1834 q410 q2205 q68 q412) rfl rfl rfl (by decide +kernel) ⟨Nat.le_of_ble_eq_true rfl, Nat.le_of_ble_eq_true rfl⟩) hL.1 rfl rfl (Nat.le_of_ble_eq_true rfl) (by first | omega | (dsimp only; omega) | (show _ ≤ _; simp only []; omega)) (by first | omega | (dsimp only; omega) | (show _ ≤ _; simp only []; omega)) rfl dX5_carriedShare_87 (fun v_87 G_87 hp_87 => ?_)
      obtain ⟨rfl, e9⟩ := hp_87
      rw [e9, hxl]
      refine jr_i2f hX dX5_carriedShare_90 ?_
      refine jr_fdiv hX (nn_f _ (by omega) _ (by omega) hpos) dX5_carriedShare_91 ?_
      exact jr_fret hX hlk hr ⟨rfl, jRep.nw hR0 hnw, hF0.trans (jNw.fm hnw)⟩ dX5_carriedShare_92
    · have hk2 : k < (s_o S).length := of_decide_eq_true (jbz_1 c_35)
      obtain ⟨t, ht⟩ : ∃ t, (s_o S)[k]? = some t := ⟨_, List.getElem?_eq_getElem hk2⟩
      have htv := (hoe k t ht).1
      refine jr_aload_n (i := 2) hX rfl rfl dX5_carriedShare_38 ?_
      refine jr_callF (As := []) (bc1 := (0)) (bs1 := (0)) hX (met_next l D s0 b0 A _ (ad 32 2 0) (s_rg (s_o S).length (fun v => ad 46 v 0)) mo cap ea hL it (k) lr hit (ad 46 k 0) (rg_at hk2)) (va_cwF 0 hX.ts (lw_F q1941 q891 q893 q96 q895) rfl rfl rfl (hX.S.fw ⟨by decide +kernel, by decide +kernel⟩ q890 q889 q894 q892 q881) (by decide +kernel) ⟨Nat.le_of_ble_eq_true rfl, Nat.le_of_ble_eq_true rfl⟩) hit rfl rfl (Nat.le_of_ble_eq_true rfl) (by first | omega | (dsimp only; omega) | (show _ ≤ _; simp only []; omega)) (by first | omega | (dsimp only; omega) | (show _ ≤ _; simp only []; omega)) rfl dX5_carriedShare_39 (fun v_39 G_39 hp_39 => ?_)
      obtain ⟨rfl, e9⟩ := hp_39
      rw [e9]
      have hw2 : jNw G0 (jup Gc it (jo 1 [.int (nI (k + 1)), .int (nI k), .int mo, .ref (ad 32 2 0)])) := jNw.fr hnw hnit
      have hTh := hw2 _ _ (mo_th hR0 ht)
      have hxx2 := hw2 _ _ hx0
      refine jr_castS hX hTh rfl q1959 dX5_carriedShare_44 ?_
      refine jr_astore_n (i := 3) hX rfl (by decide) rfl dX5_carriedShare_47 ?_
      refine jr_iload_n (i := 1) hX rfl rfl dX5_carriedShare_48 ?_
      refine jr_aload_n (i := 3) hX rfl rfl dX5_carriedShare_49 ?_
      refine jr_getN (ci := 16) (k := 1) hX hTh rfl in_X17 (by decide) q1995 rfl dX5_carriedShare_50 ?_
      refine jr_aload_n (i := 0) hX rfl rfl dX5_carriedShare_53 ?_
      refine jr_get (ci := 11) (k := 3) hX hxx2 rfl in_X5 (by decide) q1733 rfl dX5_carriedShare_54 ?_
      refine jr_icmp_ne hX (tgt := 64) (by decide) dX5_carriedShare_57 (fun c_57 => ?_) (fun c_57 => ?_)
      · refine jr_iconst (v := 0) hX rfl dX5_carriedShare_64 ?_
        refine jr_iadd hX dX5_carriedShare_65 ?_
        rw [Int32.add_zero, show s_shr S k = s_shr S (k + 1) from by rw [shr_s ht, if_neg (fun z => c_57 (by rw [z]))]; rfl]
        refine jr_istore_n (i := 1) hX rfl (by decide) rfl dX5_carriedShare_66 ?_
        refine jr_goto hX (tgt := 29) (by decide) dX5_carriedShare_67 ?_
        refine jr_lvm [(1, .int (nI (s_shr S (k + 1)))), (2, .ref it), (0, .ref (ad 31 0 0))] rfl ?_
        exact ih _ (by omega) (k + 1) _ _ rfl (by omega) hw2 jup_s
      · refine jr_iconst (v := 1) hX rfl dX5_carriedShare_60 ?_
        refine jr_goto hX (tgt := 65) (by decide) dX5_carriedShare_61 ?_
        refine jr_iadd hX dX5_carriedShare_65 ?_
        rw [nI_1, show s_shr S k + 1 = s_shr S (k + 1) from by rw [shr_s ht, if_pos ((nI_eq (by omega) (by omega)).mp c_57)]]
        refine jr_istore_n (i := 1) hX rfl (by decide) rfl dX5_carriedShare_66 ?_
        refine jr_goto hX (tgt := 29) (by decide) dX5_carriedShare_67 ?_
        refine jr_lvm [(1, .int (nI (s_shr S (k + 1)))), (2, .ref it), (0, .ref (ad 31 0 0))] rfl ?_
        exact ih _ (by omega) (k + 1) _ _ rfl (by omega) hw2 jup_s
  refine jr_lvm [(1, .int (nI (s_shr S 0))), (2, .ref it), (0, .ref (ad 31 0 0))] rfl ?_
  exact loop _ 0 _ (-1) rfl (Nat.zero_le _) (jNw.new hn) jup_s
