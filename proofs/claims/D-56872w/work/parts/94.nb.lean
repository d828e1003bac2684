/-! the model's meanFrames -/
set_option maxHeartbeats 4000000 in
set_option maxRecDepth 100000 in
theorem mm_meanC (l : Launch) (D : va_G) (s0 : State) (b0 : Nat) (A : Nat → Prop) (G : jG) (S : sSt) (th : Nat) (ad : jN) (T : jT) (hR : jMo D s0 b0 th S ad T G) (hs : sWs S) (hl : sWl S) (hmp : 0 < s_mny S 3) : jM l yX5_meanFrames (ws_ yX5_meanFrames cX5_meanFrames 5 (some .double)) (jR 4 1 4) D s0 b0 A G [.ref (ad 31 0 0)] (fun w G1 => w = some (.double (FP.ddiv (FP.i2d (nI (s_sum S 3))) (FP.i2d (nI (s_mny S 3))))) ∧ jMo D s0 b0 0 S ad T G1 ∧ jFm 31 60 T G T G1) := by
  have hxx := mo_x hR
  obtain ⟨hsu, hmu⟩ := sum_le hs 3 (Nat.le_refl _)
  obtain ⟨mo, cap, ea, hL0, -, -, -⟩ := mo_lns hR
  have hL := hL0
  refine jM.of (by decide +kernel) (own := RX5) rfl (Nat.le_of_ble_eq_true rfl) ?_
  intro p e s m args below meth c hX hr hlk hnm
  refine jr_iconst (v := 0) hX rfl dX5_meanFrames_0 ?_
  refine jr_istore_n (i := 1) hX rfl (by decide) rfl dX5_meanFrames_1 ?_
  refine jr_iconst (v := 0) hX rfl dX5_meanFrames_2 ?_
  refine jr_istore_n (i := 2) hX rfl (by decide) rfl dX5_meanFrames_3 ?_
  refine jr_aload_n (i := 0) hX rfl rfl dX5_meanFrames_4 ?_
  refine jr_get (ci := 11) (k := 4) hX hxx rfl in_X5 (by decide) q1734 rfl dX5_meanFrames_5 ?_
  refine jr_callV (As := []) (bc1 := (0)) (bs1 := (0)) hX (met_iterator l D s0 b0 A _ (ad 32 1 0) (s_rg 3 (fun v => ad 35 v 0)) mo cap ea hL) (cwV 0 hX.ts (lw_V q1937 q855 q2208 q68 q857) rfl rfl rfl (by decide +kernel) ⟨Nat.le_of_ble_eq_true rfl, Nat.le_of_ble_eq_true rfl⟩) hL.1 rfl rfl (Nat.le_of_ble_eq_true rfl) (by first | omega | (dsimp only; omega) | (show _ ≤ _; simp only []; omega)) (by first | omega | (dsimp only; omega) | (show _ ≤ _; simp only []; omega)) rfl dX5_meanFrames_8 (fun v_8 G_8 hp_8 => ?_)
  obtain ⟨it, rfl, hn, hA, e9⟩ := hp_8
  rw [e9]
  refine jr_astore_n (i := 3) hX rfl (by decide) rfl dX5_meanFrames_11 ?_
  have hnit := hn
  have hxl : (s_rg 3 (fun v => ad 35 v 0)).length = 3 := rg_len
  have loop : ∀ (n9 : Nat) (i : Nat) (Gc : jG) (lr : Int32), 3 - i = n9 → i ≤ 3 → jNw G Gc → Gc it = some (jo 1 [.int (nI i), .int lr, .int mo, .ref (ad 32 1 0)]) → Jg p l e (jR 4 1 4) s m args below meth c (MQ below (jQ D A (fun w G1 => w = some (.double (FP.ddiv (FP.i2d (nI (s_sum S 3))) (FP.i2d (nI (s_mny S 3))))) ∧ jMo D s0 b0 0 S ad T G1 ∧ jFm 31 60 T G T G1)) args s 1 4 A) D A 5 Gc 0 0 12 [(2, .int (nI (s_sum S i))), (1, .int (nI (s_mny S i))), (3, .ref it), (0, .ref (ad 31 0 0))] [] := by
    intro n9
    induction n9 using Nat.strongRecOn with
    | ind n9 ih0 =>
    intro i Gc lr hn9 hil hnw hit
    have ih : ∀ m9, m9 < n9 → ∀ (i : Nat) (Gc : jG) (lr : Int32), 3 - i = m9 → i ≤ 3 → jNw G Gc → Gc it = some (jo 1 [.int (nI i), .int lr, .int mo, .ref (ad 32 1 0)]) → Jg p l e (jR 4 1 4) s m args below meth c (MQ below (jQ D A (fun w G1 => w = some (.double (FP.ddiv (FP.i2d (nI (s_sum S 3))) (FP.i2d (nI (s_mny S 3))))) ∧ jMo D s0 b0 0 S ad T G1 ∧ jFm 31 60 T G T G1)) args s 1 4 A) D A 5 Gc 0 0 12 [(2, .int (nI (s_sum S i))), (1, .int (nI (s_mny S i))), (3, .ref it), (0, .ref (ad 31 0 0))] [] := fun m9 hm => ih0 m9 hm
    have hL := hnw.jLS hL0
    refine jr_aload_n (i := 3) hX rfl rfl dX5_meanFrames_12 ?_
    refine jr_callF (As := []) (bc1 := (0)) (bs1 := (0)) hX (met_hasNext l D s0 b0 A _ (ad 32 1 0) (s_rg 3 (fun v => ad 35 v 0)) mo cap ea hL it (i) lr hit (by rw [hxl]; omega)) (va_cwF 0 hX.ts (lw_F q1939 q882 q884 q96 q886) rfl rfl rfl (hX.S.fw ⟨by decide +kernel, by decide +kernel⟩ q880 q879 q885 q883 q881) (by decide +kernel) ⟨Nat.le_of_ble_eq_true rfl, Nat.le_of_ble_eq_true rfl⟩) hit rfl rfl (Nat.le_of_ble_eq_true rfl) (by first | omega | (dsimp only; omega) | (show _ ≤ _; simp only []; omega)) (by first | omega | (dsimp only; omega) | (show _ ≤ _; simp only []; omega)) rfl dX5_meanFrames_13 (fun v_13 G_13 hp_13 => ?_)
    obtain ⟨rfl, e9⟩ := hp_13
    rw [e9, hxl]
    refine jr_if_eq hX (tgt := 74) (by decide) dX5_meanFrames_18 (fun c_18 => ?_) (fun c_18 => ?_)
    · have hi3 : 3 ≤ i := Nat.not_lt.mp fun z => absurd z (of_decide_eq_false (jbz_0 c_18))
      rw [show i = 3 by omega]
      have hR1 := jRep.nw hR hnw
      have hxx1 := mo_x hR1
      refine jr_aload_n (i := 0) hX rfl rfl dX5_meanFrames_74 ?_
      refine jr_iload_n (i := 1) hX rfl rfl dX5_meanFrames_75 ?_
      refine jr_if_ne hX (tgt := 83) (by decide) dX5_meanFrames_76 (fun c_76 => ?_) (fun c_76 => absurd c_76 (nI_ne0 hmp (by omega)))
      refine jr_iconst (v := 0) hX rfl dX5_meanFrames_83 ?_
      refine jr_put (ci := 11) (k := 0) hX hxx1 rfl in_X5 (by decide) tyX5 tyX5_ok nmX5 q1730 rfl (by first | rfl | assumption) (by first | rfl | assumption) (Nat.le_of_ble_eq_true rfl) dX5_meanFrames_84 ?_
      refine jr_aload_n (i := 0) hX rfl rfl dX5_meanFrames_87 ?_
      refine jr_get (ci := 11) (k := 0) hX jup_s rfl in_X5 (by decide) q1730 rfl dX5_meanFrames_88 ?_
      refine jr_if_le hX (tgt := 98) (by decide) dX5_meanFrames_91 (fun c_91 => ?_) (fun c_91 => absurd (by decide) c_91)
      refine jr_iload_n (i := 2) hX rfl rfl dX5_meanFrames_98 ?_
      refine jr_i2d hX dX5_meanFrames_99 ?_
      refine jr_iload_n (i := 1) hX rfl rfl dX5_meanFrames_100 ?_
      refine jr_i2d hX dX5_meanFrames_101 ?_
      refine jr_ddiv hX (nn_d _ (by omega) _ (by omega) hmp) dX5_meanFrames_102 ?_
      exact jr_dret hX hlk hr ⟨rfl, mo_wth hR1 0, (jNw.fm hnw).trans (jFm.pt (mo_t31 hR1) (by decide))⟩ dX5_meanFrames_103
    · have hi3 : i < 3 := of_decide_eq_true (jbz_1 c_18)
      obtain ⟨moF, capF, eaF, hFL0, -, -, -⟩ := mo_frl hR hi3
      have hst9 := (hs i hi3).1
      have hll9 := hl i hi3
      refine jr_aload_n (i := 3) hX rfl rfl dX5_meanFrames_21 ?_
      refine jr_callF (As := []) (bc1 := (0)) (bs1 := (0)) hX (met_next l D s0 b0 A _ (ad 32 1 0) (s_rg 3 (fun v => ad 35 v 0)) mo cap ea hL it (i) lr hit (ad 35 i 0) (rg_at hi3)) (va_cwF 0 hX.ts (lw_F q1941 q891 q893 q96 q895) rfl rfl rfl (hX.S.fw ⟨by decide +kernel, by decide +kernel⟩ q890 q889 q894 q892 q881) (by decide +kernel) ⟨Nat.le_of_ble_eq_true rfl, Nat.le_of_ble_eq_true rfl⟩) hit rfl rfl (Nat.le_of_ble_eq_true rfl) (by first | omega | (dsimp only; omega) | (show _ ≤ _; simp only []; omega)) (by first | omega | (dsimp only; omega) | (show _ ≤ _; simp only []; omega)) rfl dX5_meanFrames_22 (fun v_22 G_22 hp_22 => ?_)
      obtain ⟨rfl, e9⟩ := hp_22
      rw [e9]
      have hw2 : jNw G (jup Gc it (jo 1 [.int (nI (i + 1)), .int (nI i), .int mo, .ref (ad 32 1 0)])) := jNw.fr hnw hnit
      have hLn := hw2 _ _ (mo_lan hR hi3)
      have hFL := hw2.jLS hFL0
      refine jr_castS hX hLn rfl q1713 dX5_meanFrames_27 ?_
      refine jr_astore hX (by decide) rfl dX5_meanFrames_30 ?_
      refine jr_iload_n (i := 1) hX rfl rfl dX5_meanFrames_32 ?_
      refine jr_aload hX rfl dX5_meanFrames_33 ?_
      refine jr_callV (As := []) (bc1 := (0)) (bs1 := (0)) hX (mm_isOpen l D s0 b0 A _ (ad 35 i 0) (ad 36 i 0) (s_s S i).1 hLn hst9) (cwV 0 hX.ts (lw_V q1880 q1881 q1882 q80 q1883) rfl rfl rfl (by decide +kernel) ⟨Nat.le_of_ble_eq_true rfl, Nat.le_of_ble_eq_true rfl⟩) hLn rfl rfl (Nat.le_of_ble_eq_true rfl) (by first | omega | (dsimp only; omega) | (show _ ≤ _; simp only []; omega)) (by first | omega | (dsimp only; omega) | (show _ ≤ _; simp only []; omega)) rfl dX5_meanFrames_35 (fun v_35 G_35 hp_35 => ?_)
      obtain ⟨rfl, e9⟩ := hp_35
      rw [e9]
      refine jr_if_eq hX (tgt := 45) (by decide) dX5_meanFrames_38 (fun c_38 => ?_) (fun c_38 => ?_)
      · refine jr_iconst (v := 0) hX rfl dX5_meanFrames_45 ?_
        refine jr_iadd hX dX5_meanFrames_46 ?_
        rw [Int32.add_zero, show s_mny S i = s_mny S (i + 1) from by show _ = s_mny S i + (if s_al (s_s S i).1 = true then 1 else 0); rw [jbz_0 c_38]; rfl]
        refine jr_istore_n (i := 1) hX rfl (by decide) rfl dX5_meanFrames_47 ?_
        refine jr_iload_n (i := 2) hX rfl rfl dX5_meanFrames_48 ?_
        refine jr_aload hX rfl dX5_meanFrames_49 ?_
        refine jr_callV (As := []) (bc1 := (0)) (bs1 := (0)) hX (mm_isOpen l D s0 b0 A _ (ad 35 i 0) (ad 36 i 0) (s_s S i).1 hLn hst9) (cwV 0 hX.ts (lw_V q1880 q1881 q1882 q80 q1883) rfl rfl rfl (by decide +kernel) ⟨Nat.le_of_ble_eq_true rfl, Nat.le_of_ble_eq_true rfl⟩) hLn rfl rfl (Nat.le_of_ble_eq_true rfl) (by first | omega | (dsimp only; omega) | (show _ ≤ _; simp only []; omega)) (by first | omega | (dsimp only; omega) | (show _ ≤ _; simp only []; omega)) rfl dX5_meanFrames_51 (fun v_51 G_51 hp_51 => ?_)
        obtain ⟨rfl, e9⟩ := hp_51
        rw [e9]
        refine jr_if_eq hX (tgt := 68) (by decide) dX5_meanFrames_54 (fun c_54 => ?_) (fun c_54 => absurd c_38 c_54)
        refine jr_iconst (v := 0) hX rfl dX5_meanFrames_68 ?_
        refine jr_iadd hX dX5_meanFrames_69 ?_
        have hz9 : (s_s S i).2.length = 0 := Nat.eq_zero_of_not_pos fun z => absurd (hll9.mpr z) (by rw [jbz_0 c_38]; simp)
        rw [Int32.add_zero, show s_sum S i = s_sum S (i + 1) from by show _ = s_sum S i + (s_s S i).2.length; omega]
        refine jr_istore_n (i := 2) hX rfl (by decide) rfl dX5_meanFrames_70 ?_
        refine jr_goto hX (tgt := 12) (by decide) dX5_meanFrames_71 ?_
        refine jr_lvm [(2, .int (nI (s_sum S (i + 1)))), (1, .int (nI (s_mny S (i + 1)))), (3, .ref it), (0, .ref (ad 31 0 0))] rfl ?_
        exact ih _ (by omega) (i + 1) _ _ rfl (by omega) hw2 jup_s
      · refine jr_iconst (v := 1) hX rfl dX5_meanFrames_41 ?_
        refine jr_goto hX (tgt := 46) (by decide) dX5_meanFrames_42 ?_
        refine jr_iadd hX dX5_meanFrames_46 ?_
        rw [nI_1, show s_mny S i + 1 = s_mny S (i + 1) from by show _ = s_mny S i + (if s_al (s_s S i).1 = true then 1 else 0); rw [jbz_1 c_38]; rfl]
        refine jr_istore_n (i := 1) hX rfl (by decide) rfl dX5_meanFrames_47 ?_
        refine jr_iload_n (i := 2) hX rfl rfl dX5_meanFrames_48 ?_
        refine jr_aload hX rfl dX5_meanFrames_49 ?_
        refine jr_callV (As := []) (bc1 := (0)) (bs1 := (0)) hX (mm_isOpen l D s0 b0 A _ (ad 35 i 0) (ad 36 i 0) (s_s S i).1 hLn hst9) (cwV 0 hX.ts (lw_V q1880 q1881 q1882 q80 q1883) rfl rfl rfl (by decide +kernel) ⟨Nat.le_of_ble_eq_true rfl, Nat.le_of_ble_eq_true rfl⟩) hLn rfl rfl (Nat.le_of_ble_eq_true rfl) (by first | omega | (dsimp only; omega) | (show _ ≤ _; simp only []; omega)) (by first | omega | (dsimp only; omega) | (show _ ≤ _; simp only []; omega)) rfl dX5_meanFrames_51 (fun v_51 G_51 hp_51 => ?_)
        obtain ⟨rfl, e9⟩ := hp_51
        rw [e9]
        refine jr_if_eq hX (tgt := 68) (by decide) dX5_meanFrames_54 (fun c_54 => absurd c_54 c_38) (fun c_54 => ?_)
        refine jr_aload hX rfl dX5_meanFrames_57 ?_
        refine jr_getN (ci := 13) (k := 1) hX hLn rfl in_X7 (by decide) q1724 rfl dX5_meanFrames_59 ?_
        refine jr_callV (As := []) (bc1 := (0)) (bs1 := (0)) hX (met_size l D s0 b0 A _ (ad 36 i 0) (s_rg (s_s S i).2.length (fun q => ad 38 i q)) moF capF eaF hFL) (cwV 0 hX.ts (lw_V q1834 q410 q2205 q68 q412) rfl rfl rfl (by decide +kernel) ⟨Nat.le_of_ble_eq_true rfl, Nat.le_of_ble_eq_true rfl⟩) hFL.1 rfl rfl (Nat.le_of_ble_eq_true rfl) (by first | omega | (dsimp only; omega) | (show _ ≤ _; simp only []; omega)) (by first | omega | (dsimp only; omega) | (show _ ≤ _; simp only []; omega)) rfl dX5_meanFrames_62 (fun v_62 G_62 hp_62 => ?_)
        obtain ⟨rfl, e9⟩ := hp_62
        rw [e9, rg_len]
        refine jr_goto hX (tgt := 69) (by decide) dX5_meanFrames_65 ?_
        refine jr_iadd hX dX5_meanFrames_69 ?_
        rw [nI_add, show s_sum S i + (s_s S i).2.length = s_sum S (i + 1) from rfl]
        refine jr_istore_n (i := 2) hX rfl (by decide) rfl dX5_meanFrames_70 ?_
        refine jr_goto hX (tgt := 12) (by decide) dX5_meanFrames_71 ?_
        refine jr_lvm [(2, .int (nI (s_sum S (i + 1)))), (1, .int (nI (s_mny S (i + 1)))), (3, .ref it), (0, .ref (ad 31 0 0))] rfl ?_
        exact ih _ (by omega) (i + 1) _ _ rfl (by omega) hw2 jup_s
  refine jr_lvm [(2, .int (nI (s_sum S 0))), (1, .int (nI (s_mny S 0))), (3, .ref it), (0, .ref (ad 31 0 0))] rfl ?_
  exact loop _ 0 _ (-1) rfl (Nat.zero_le _) (jNw.new hn) jup_s

set_option maxHeartbeats 4000000 in
set_option maxRecDepth 100000 in
theorem mm_meanE (l : Launch) (D : va_G) (s0 : State) (b0 : Nat) (A : Nat → Prop) (G : jG) (S : sSt) (th : Nat) (ad : jN) (T : jT) (hR : jMo D s0 b0 th S ad T G) (hs : sWs S) (hl : sWl S) (hmp : s_mny S 3 = 0) : jM l yX5_meanFrames (ws_ yX5_meanFrames cX5_meanFrames 5 (some .double)) (jR 4 1 4) D s0 b0 A G [.ref (ad 31 0 0)] (fun w G1 => w = some (.double FP.dconst0) ∧ jMo D s0 b0 1 S ad T G1 ∧ jFm 31 60 T G T G1) := by
  have hxx := mo_x hR
  obtain ⟨hsu, hmu⟩ := sum_le hs 3 (Nat.le_refl _)
  obtain ⟨mo, cap, ea, hL0, -, -, -⟩ := mo_lns hR
  have hL := hL0
  refine jM.of (by decide +kernel) (own := RX5) rfl (Nat.le_of_ble_eq_true rfl) ?_
  intro p e s m args below meth c hX hr hlk hnm
  refine jr_iconst (v := 0) hX rfl dX5_meanFrames_0 ?_
  refine jr_istore_n (i := 1) hX rfl (by decide) rfl dX5_meanFrames_1 ?_
  refine jr_iconst (v := 0) hX rfl dX5_meanFrames_2 ?_
  refine jr_istore_n (i := 2) hX rfl (by decide) rfl dX5_meanFrames_3 ?_
  refine jr_aload_n (i := 0) hX rfl rfl dX5_meanFrames_4 ?_
  refine jr_get (ci := 11) (k := 4) hX hxx rfl in_X5 (by decide) q1734 rfl dX5_meanFrames_5 ?_
  refine jr_callV (As := []) (bc1 := (0)) (bs1 := (0)) hX (met_iterator l D s0 b0 A _ (ad 32 1 0) (s_rg 3 (fun v => ad 35 v 0)) mo cap ea hL) (cwV 0 hX.ts (lw_V q1937 q855 q2208 q68 q857) rfl rfl rfl (by decide +kernel) ⟨Nat.le_of_ble_eq_true rfl, Nat.le_of_ble_eq_true rfl⟩) hL.1 rfl rfl (Nat.le_of_ble_eq_true rfl) (by first | omega | (dsimp only; omega) | (show _ ≤ _; simp only []; omega)) (by first | omega | (dsimp only; omega) | (show _ ≤ _; simp only []; omega)) rfl dX5_meanFrames_8 (fun v_8 G_8 hp_8 => ?_)
  obtain ⟨it, rfl, hn, hA, e9⟩ := hp_8
  rw [e9]
  refine jr_astore_n (i := 3) hX rfl (by decide) rfl dX5_meanFrames_11 ?_
  have hnit := hn
  have hxl : (s_rg 3 (fun v => ad 35 v 0)).length = 3 := rg_len
  have loop : ∀ (n9 : Nat) (i : Nat) (Gc : jG) (lr : Int32), 3 - i = n9 → i ≤ 3 → jNw G Gc → Gc it = some (jo 1 [.int (nI i), .int lr, .int mo, .ref (ad 32 1 0)]) → Jg p l e (jR 4 1 4) s m args below meth c (MQ below (jQ D A (fun w G1 => w = some (.double FP.dconst0) ∧ jMo D s0 b0 1 S ad T G1 ∧ jFm 31 60 T G T G1)) args s 1 4 A) D A 5 Gc 0 0 12 [(2, .int (nI (s_sum S i))), (1, .int (nI (s_mny S i))), (3, .ref it), (0, .ref (ad 31 0 0))] [] := by
    intro n9
    induction n9 using Nat.strongRecOn with
    | ind n9 ih0 =>
    intro i Gc lr hn9 hil hnw hit
    have ih : ∀ m9, m9 < n9 → ∀ (i : Nat) (Gc : jG) (lr : Int32), 3 - i = m9 → i ≤ 3 → jNw G Gc → Gc it = some (jo 1 [.int (nI i), .int lr, .int mo, .ref (ad 32 1 0)]) → Jg p l e (jR 4 1 4) s m args below meth c (MQ below (jQ D A (fun w G1 => w = some (.double FP.dconst0) ∧ jMo D s0 b0 1 S ad T G1 ∧ jFm 31 60 T G T G1)) args s 1 4 A) D A 5 Gc 0 0 12 [(2, .int (nI (s_sum S i))), (1, .int (nI (s_mny S i))), (3, .ref it), (0, .ref (ad 31 0 0))] [] := fun m9 hm => ih0 m9 hm
    have hL := hnw.jLS hL0
    refine jr_aload_n (i := 3) hX rfl rfl dX5_meanFrames_12 ?_
    refine jr_callF (As := []) (bc1 := (0)) (bs1 := (0)) hX (met_hasNext l D s0 b0 A _ (ad 32 1 0) (s_rg 3 (fun v => ad 35 v 0)) mo cap ea hL it (i) lr hit (by rw [hxl]; omega)) (va_cwF 0 hX.ts (lw_F q1939 q882 q884 q96 q886) rfl rfl rfl (hX.S.fw ⟨by decide +kernel, by decide +kernel⟩ q880 q879 q885 q883 q881) (by decide +kernel) ⟨Nat.le_of_ble_eq_true rfl, Nat.le_of_ble_eq_true rfl⟩) hit rfl rfl (Nat.le_of_ble_eq_true rfl) (by first | omega | (dsimp only; omega) | (show _ ≤ _; simp only []; omega)) (by first | omega | (dsimp only; omega) | (show _ ≤ _; simp only []; omega)) rfl dX5_meanFrames_13 (fun v_13 G_13 hp_13 => ?_)
    obtain ⟨rfl, e9⟩ := hp_13
    rw [e9, hxl]
    refine jr_if_eq hX (tgt := 74) (by decide) dX5_meanFrames_18 (fun c_18 => ?_) (fun c_18 => ?_)
    · have hi3 : 3 ≤ i := Nat.not_lt.mp fun z => absurd z (of_decide_eq_false (jbz_0 c_18))
      rw [show i = 3 by omega]
      have hR1 := jRep.nw hR hnw
      have hxx1 := mo_x hR1
      refine jr_aload_n (i := 0) hX rfl rfl dX5_meanFrames_74 ?_
      refine jr_iload_n (i := 1) hX rfl rfl dX5_meanFrames_75 ?_
      refine jr_if_ne hX (tgt := 83) (by decide) dX5_meanFrames_76 (fun c_76 => absurd c_76 (fun z => z (by rw [hmp]; rfl))) (fun c_76 => ?_)
      refine jr_iconst (v := 1) hX rfl dX5_meanFrames_79 ?_
      refine jr_goto hX (tgt := 84) (by decide) dX5_meanFrames_80 ?_
      refine jr_put (ci := 11) (k := 0) hX hxx1 rfl in_X5 (by decide) tyX5 tyX5_ok nmX5 q1730 rfl (by first | rfl | assumption) (by first | rfl | assumption) (Nat.le_of_ble_eq_true rfl) dX5_meanFrames_84 ?_
      refine jr_aload_n (i := 0) hX rfl rfl dX5_meanFrames_87 ?_
      refine jr_get (ci := 11) (k := 0) hX jup_s rfl in_X5 (by decide) q1730 rfl dX5_meanFrames_88 ?_
      refine jr_if_le hX (tgt := 98) (by decide) dX5_meanFrames_91 (fun c_91 => absurd c_91 (by decide)) (fun c_91 => ?_)
      refine jr_dconst0 hX dX5_meanFrames_94 ?_
      refine jr_goto hX (tgt := 103) (by decide) dX5_meanFrames_95 ?_
      exact jr_dret hX hlk hr ⟨rfl, mo_wth hR1 1, (jNw.fm hnw).trans (jFm.pt (mo_t31 hR1) (by decide))⟩ dX5_meanFrames_103
    · have hi3 : i < 3 := of_decide_eq_true (jbz_1 c_18)
      obtain ⟨moF, capF, eaF, hFL0, -, -, -⟩ := mo_frl hR hi3
      have hst9 := (hs i hi3).1
      have hll9 := hl i hi3
      refine jr_aload_n (i := 3) hX rfl rfl dX5_meanFrames_21 ?_
      refine jr_callF (As := []) (bc1 := (0)) (bs1 := (0)) hX (met_next l D s0 b0 A _ (ad 32 1 0) (s_rg 3 (fun v => ad 35 v 0)) mo cap ea hL it (i) lr hit (ad 35 i 0) (rg_at hi3)) (va_cwF 0 hX.ts (lw_F q1941 q891 q893 q96 q895) rfl rfl rfl (hX.S.fw ⟨by decide +kernel, by decide +kernel⟩ q890 q889 q894 q892 q881) (by decide +kernel) ⟨Nat.le_of_ble_eq_true rfl, Nat.le_of_ble_eq_true rfl⟩) hit rfl rfl (Nat.le_of_ble_eq_true rfl) (by first | omega | (dsimp only; omega) | (show _ ≤ _; simp only []; omega)) (by first | omega | (dsimp only; omega) | (show _ ≤ _; simp only []; omega)) rfl dX5_meanFrames_22 (fun v_22 G_22 hp_22 => ?_)
      obtain ⟨rfl, e9⟩ := hp_22
      rw [e9]
      have hw2 : jNw G (jup Gc it (jo 1 [.int (nI (i + 1)), .int (nI i), .int mo, .ref (ad 32 1 0)])) := jNw.fr hnw hnit
      have hLn := hw2 _ _ (mo_lan hR hi3)
      have hFL := hw2.jLS hFL0
      refine jr_castS hX hLn rfl q1713 dX5_meanFrames_27 ?_
      refine jr_astore hX (by decide) rfl dX5_meanFrames_30 ?_
      refine jr_iload_n (i := 1) hX rfl rfl dX5_meanFrames_32 ?_
      refine jr_aload hX rfl dX5_meanFrames_33 ?_
      refine jr_callV (As := []) (bc1 := (0)) (bs1 := (0)) hX (mm_isOpen l D s0 b0 A _ (ad 35 i 0) (ad 36 i 0) (s_s S i).1 hLn hst9) (cwV 0 hX.ts (lw_V q1880 q1881 q1882 q80 q1883) rfl rfl rfl (by decide +kernel) ⟨Nat.le_of_ble_eq_true rfl, Nat.le_of_ble_eq_true rfl⟩) hLn rfl rfl (Nat.le_of_ble_eq_true rfl) (by first | omega | (dsimp only; omega) | (show _ ≤ _; simp only []; omega)) (by first | omega | (dsimp only; omega) | (show _ ≤ _; simp only []; omega)) rfl dX5_meanFrames_35 (fun v_35 G_35 hp_35 => ?_)
      obtain ⟨rfl, e9⟩ := hp_35
      rw [e9]
      refine jr_if_eq hX (tgt := 45) (by decide) dX5_meanFrames_38 (fun c_38 => ?_) (fun c_38 => ?_)
      · refine jr_iconst (v := 0) hX rfl dX5_meanFrames_45 ?_
        refine jr_iadd hX dX5_meanFrames_46 ?_
        rw [Int32.add_zero, show s_mny S i = s_mny S (i + 1) from by show _ = s_mny S i + (if s_al (s_s S i).1 = true then 1 else 0); rw [jbz_0 c_38]; rfl]
        refine jr_istore_n (i := 1) hX rfl (by decide) rfl dX5_meanFrames_47 ?_
        refine jr_iload_n (i := 2) hX rfl rfl dX5_meanFrames_48 ?_
        refine jr_aload hX rfl dX5_meanFrames_49 ?_
        refine jr_callV (As := []) (bc1 := (0)) (bs1 := (0)) hX (mm_isOpen l D s0 b0 A _ (ad 35 i 0) (ad 36 i 0) (s_s S i).1 hLn hst9) (cwV 0 hX.ts (lw_V q1880 q1881 q1882 q80 q1883) rfl rfl rfl (by decide +kernel) ⟨Nat.le_of_ble_eq_true rfl, Nat.le_of_ble_eq_true rfl⟩) hLn rfl rfl (Nat.le_of_ble_eq_true rfl) (by first | omega | (dsimp only; omega) | (show _ ≤ _; simp only []; omega)) (by first | omega | (dsimp only; omega) | (show _ ≤ _; simp only []; omega)) rfl dX5_meanFrames_51 (fun v_51 G_51 hp_51 => ?_)
        obtain ⟨rfl, e9⟩ := hp_51
        rw [e9]
        refine jr_if_eq hX (tgt := 68) (by decide) dX5_meanFrames_54 (fun c_54 => ?_) (fun c_54 => absurd c_38 c_54)
        refine jr_iconst (v := 0) hX rfl dX5_meanFrames_68 ?_
        refine jr_iadd hX dX5_meanFrames_69 ?_
        have hz9 : (s_s S i).2.length = 0 := Nat.eq_zero_of_not_pos fun z => absurd (hll9.mpr z) (by rw [jbz_0 c_38]; simp)
        rw [Int32.add_zero, show s_sum S i = s_sum S (i + 1) from by show _ = s_sum S i + (s_s S i).2.length; omega]
        refine jr_istore_n (i := 2) hX rfl (by decide) rfl dX5_meanFrames_70 ?_
        refine jr_goto hX (tgt := 12) (by decide) dX5_meanFrames_71 ?_
        refine jr_lvm [(2, .int (nI (s_sum S (i + 1)))), (1, .int (nI (s_mny S (i + 1)))), (3, .ref it), (0, .ref (ad 31 0 0))] rfl ?_
        exact ih _ (by omega) (i + 1) _ _ rfl (by omega) hw2 jup_s
      · refine jr_iconst (v := 1) hX rfl dX5_meanFrames_41 ?_
        refine jr_goto hX (tgt := 46) (by decide) dX5_meanFrames_42 ?_
        refine jr_iadd hX dX5_meanFrames_46 ?_
        rw [nI_1, show s_mny S i + 1 = s_mny S (i + 1) from by show _ = s_mny S i + (if s_al (s_s S i).1 = true then 1 else 0); rw [jbz_1 c_38]; rfl]
        refine jr_istore_n (i := 1) hX rfl (by decide) rfl dX5_meanFrames_47 ?_
        refine jr_iload_n (i := 2) hX rfl rfl dX5_meanFrames_48 ?_
        refine jr_aload hX rfl dX5_meanFrames_49 ?_
        refine jr_callV (As := []) (bc1 := (0)) (bs1 := (0)) hX (mm_isOpen l D s0 b0 A _ (ad 35 i 0) (ad 36 i 0) (s_s S i).1 hLn hst9) (cwV 0 hX.ts (lw_V q1880 q1881 q1882 q80 q1883) rfl rfl rfl (by decide +kernel) ⟨Nat.le_of_ble_eq_true rfl, Nat.le_of_ble_eq_true rfl⟩) hLn rfl rfl (Nat.le_of_ble_eq_true rfl) (by first | omega | (dsimp only; omega) | (show _ ≤ _; simp only []; omega)) (by first | omega | (dsimp only; omega) | (show _ ≤ _; simp only []; omega)) rfl dX5_meanFrames_51 (fun v_51 G_51 hp_51 => ?_)
        obtain ⟨rfl, e9⟩ := hp_51
        rw [e9]
        refine jr_if_eq hX (tgt := 68) (by decide) dX5_meanFrames_54 (fun c_54 => absurd c_54 c_38) (fun c_54 => ?_)
        refine jr_aload hX rfl dX5_meanFrames_57 ?_
        refine jr_getN (ci := 13) (k := 1) hX hLn rfl in_X7 (by decide) q1724 rfl dX5_meanFrames_59 ?_
        refine jr_callV (As := []) (bc1 := (0)) (bs1 := (0)) hX (met_size l D s0 b0 A _ (ad 36 i 0) (s_rg (s_s S i).2.length (fun q => ad 38 i q)) moF capF eaF hFL) (cwV 0 hX.ts (lw_V q1834 q410 q2205 q68 q412) rfl rfl rfl (by decide +kernel) ⟨Nat.le_of_ble_eq_true rfl, Nat.le_of_ble_eq_true rfl⟩) hFL.1 rfl rfl (Nat.le_of_ble_eq_true rfl) (by first | omega | (dsimp only; omega) | (show _ ≤ _; simp only []; omega)) (by first | omega | (dsimp only; omega) | (show _ ≤ _; simp only []; omega)) rfl dX5_meanFrames_62 (fun v_62 G_62 hp_62 => ?_)
        obtain ⟨rfl, e9⟩ := hp_62
        rw [e9, rg_len]
        refine jr_goto hX (tgt := 69) (by decide) dX5_meanFrames_65 ?_
        refine jr_iadd hX dX5_meanFrames_69 ?_
        rw [nI_add, show s_sum S i + (s_s S i).2.length = s_sum S (i + 1) from rfl]
        refine jr_istore_n (i := 2) hX rfl (by decide) rfl dX5_meanFrames_70 ?_
        refine jr_goto hX (tgt := 12) (by decide) dX5_meanFrames_71 ?_
        refine jr_lvm [(2, .int (nI (s_sum S (i + 1)))), (1, .int (nI (s_mny S (i + 1)))), (3, .ref it), (0, .ref (ad 31 0 0))] rfl ?_
        exact ih _ (by omega) (i + 1) _ _ rfl (by omega) hw2 jup_s
  refine jr_lvm [(2, .int (nI (s_sum S 0))), (1, .int (nI (s_mny S 0))), (3, .ref it), (0, .ref (ad 31 0 0))] rfl ?_
  exact loop _ 0 _ (-1) rfl (Nat.zero_le _) (jNw.new hn) jup_s
