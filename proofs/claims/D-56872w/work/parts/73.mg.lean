/-! the model: counting what stands against a change; moving frames; changes that are dropped -/

set_option maxHeartbeats 4000000 in
set_option maxRecDepth 100000 in
theorem mm_against (l : Launch) (D : va_G) (s0 : State) (b0 : Nat) (A : Nat → Prop) (G : jG) (S : sSt) (th : Nat) (ad : jN) (T : jT) (hR : jMo D s0 b0 th S ad T G) (ci : Nat) (ch : sCh) (hch : (s_c S)[ci]? = some ch) (hi : sWi S) (hv : sWv S) (hp : s_p S < s_m S) (hs : sWs S) (hcm : ch.1 < 1000) : jM l yX5_against (ws_ yX5_against cX5_against 7 (some .int)) (jR 6 4 16) D s0 b0 A G [.ref (ad 31 0 0), .ref (ad 48 ci 0)] (fun w G1 => w = some (.int (nI (s_agn S ch))) ∧ jNw G G1) := by
  have hxx := mo_x hR
  have hmm : s_m S = (s_v S).length - 1 := rfl
  obtain ⟨mo0, cap0, ea0, hLL0, -, -, -⟩ := mo_lns hR
  have hL0 := hLL0
  refine jM.of (by decide +kernel) (own := RX5) rfl (Nat.le_of_ble_eq_true rfl) ?_
  intro p e s m args below meth c hX hr hlk hnm
  refine jr_iconst (v := 0) hX rfl dX5_against_0 ?_
  refine jr_istore_n (i := 2) hX rfl (by decide) rfl dX5_against_1 ?_
  refine jr_aload_n (i := 0) hX rfl rfl dX5_against_2 ?_
  refine jr_get (ci := 11) (k := 4) hX hxx rfl in_X5 (by decide) q1734 rfl dX5_against_3 ?_
  refine jr_callV (As := []) (bc1 := (3)) (bs1 := (12)) hX (met_iterator l D s0 b0 A _ (ad 32 1 0) (s_rg 3 (fun v => ad 35 v 0)) mo0 cap0 ea0 hL0) (cwV 0 hX.ts (lw_V q1937 q855 q2208 q68 q857) rfl rfl rfl (by decide +kernel) ⟨Nat.le_of_ble_eq_true rfl, Nat.le_of_ble_eq_true rfl⟩) hL0.1 rfl rfl (Nat.le_of_ble_eq_true rfl) (by first | omega | (dsimp only; omega) | (show _ ≤ _; simp only []; omega)) (by first | omega | (dsimp only; omega) | (show _ ≤ _; simp only []; omega)) rfl dX5_against_6 (fun v_6 G_6 hp_6 => ?_)
  obtain ⟨it0, rfl, hn, hA, e9⟩ := hp_6
  rw [e9]
  refine jr_astore_n (i := 3) hX rfl (by decide) rfl dX5_against_9 ?_
  have hnit0 : G it0 = none := hn
  have hxl0 : (s_rg 3 (fun v => ad 35 v 0)).length = 3 := rg_len
  have loopO : ∀ (n9 : Nat) (i : Nat) (Gc : jG) (lr0 : Int32), 3 - i = n9 → i ≤ 3 → jNw G Gc → Gc it0 = some (jo 1 [.int (nI i), .int lr0, .int mo0, .ref (ad 32 1 0)]) → Jg p l e (jR 6 4 16) s m args below meth c (MQ below (jQ D A (fun w G1 => w = some (.int (nI (s_agn S ch))) ∧ jNw G G1)) args s 4 16 A) D A 7 Gc (3 - (i)) (4 * (3 - (i))) 10 [(2, .int (nI (s_ctP S (s_stn S ch) (i)))), (3, .ref it0), (0, .ref (ad 31 0 0)), (1, .ref (ad 48 ci 0))] [] := by
    intro n9
    induction n9 using Nat.strongRecOn with
    | ind n9 ih0 =>
    intro i Gc lr0 hn9 hil hnw hit0
    have ih : ∀ m9, m9 < n9 → ∀ (i : Nat) (Gc : jG) (lr0 : Int32), 3 - i = m9 → i ≤ 3 → jNw G Gc → Gc it0 = some (jo 1 [.int (nI i), .int lr0, .int mo0, .ref (ad 32 1 0)]) → Jg p l e (jR 6 4 16) s m args below meth c (MQ below (jQ D A (fun w G1 => w = some (.int (nI (s_agn S ch))) ∧ jNw G G1)) args s 4 16 A) D A 7 Gc (3 - (i)) (4 * (3 - (i))) 10 [(2, .int (nI (s_ctP S (s_stn S ch) (i)))), (3, .ref it0), (0, .ref (ad 31 0 0)), (1, .ref (ad 48 ci 0))] [] := fun m9 hm => ih0 m9 hm
    have hL0 := jNw.jLS hnw hLL0
    refine jr_aload_n (i := 3) hX rfl rfl dX5_against_10 ?_
    refine jr_callF (As := []) (bc1 := (3 - i)) (bs1 := (4 * (3 - i))) hX (met_hasNext l D s0 b0 A _ (ad 32 1 0) (s_rg 3 (fun v => ad 35 v 0)) mo0 cap0 ea0 hL0 it0 (i) lr0 hit0 (by rw [hxl0]; omega)) (va_cwF 0 hX.ts (lw_F q1939 q882 q884 q96 q886) rfl rfl rfl (hX.S.fw ⟨by decide +kernel, by decide +kernel⟩ q880 q879 q885 q883 q881) (by decide +kernel) ⟨Nat.le_of_ble_eq_true rfl, Nat.le_of_ble_eq_true rfl⟩) hit0 rfl rfl (Nat.le_of_ble_eq_true rfl) (by first | omega | (dsimp only; omega) | (show _ ≤ _; simp only []; omega)) (by first | omega | (dsimp only; omega) | (show _ ≤ _; simp only []; omega)) rfl dX5_against_11 (fun v_11 G_11 hp_11 => ?_)
    obtain ⟨rfl, e9⟩ := hp_11
    rw [e9, hxl0]
    refine jr_if_eq hX (tgt := 86) (by decide) dX5_against_16 (fun c_16 => ?_) (fun c_16 => ?_)
    · refine jr_iload_n (i := 2) hX rfl rfl dX5_against_86 ?_
      have hi3 : 3 ≤ i := Nat.not_lt.mp fun z => absurd z (of_decide_eq_false (jbz_0 c_16))
      exact jr_iret hX hlk hr ⟨by rw [show i = 3 by omega, stn_agn], hnw⟩ dX5_against_87
    · have hi3 : i < 3 := of_decide_eq_true (jbz_1 c_16)
      obtain ⟨mo, cap, ea, hLL, -, -, -⟩ := mo_frl hR hi3
      have hl8 := (hs i hi3).2.1
      refine jr_aload_n (i := 3) hX rfl rfl dX5_against_19 ?_
      refine jr_callF (As := []) (bc1 := (3 - i)) (bs1 := (4 * (3 - i))) hX (met_next l D s0 b0 A _ (ad 32 1 0) (s_rg 3 (fun v => ad 35 v 0)) mo0 cap0 ea0 hL0 it0 (i) lr0 hit0 (ad 35 i 0) (rg_at hi3)) (va_cwF 0 hX.ts (lw_F q1941 q891 q893 q96 q895) rfl rfl rfl (hX.S.fw ⟨by decide +kernel, by decide +kernel⟩ q890 q889 q894 q892 q881) (by decide +kernel) ⟨Nat.le_of_ble_eq_true rfl, Nat.le_of_ble_eq_true rfl⟩) hit0 rfl rfl (Nat.le_of_ble_eq_true rfl) (by first | omega | (dsimp only; omega) | (show _ ≤ _; simp only []; omega)) (by first | omega | (dsimp only; omega) | (show _ ≤ _; simp only []; omega)) rfl dX5_against_20 (fun v_20 G_20 hp_20 => ?_)
      obtain ⟨rfl, e9⟩ := hp_20
      rw [e9]
      have hw1 : jNw G (jup Gc it0 (jo 1 [.int (nI (i + 1)), .int (nI i), .int mo0, .ref (ad 32 1 0)])) := jNw.fr hnw hnit0
      have hLn := hw1 _ _ (mo_lan hR hi3)
      have hL := jNw.jLS hw1 hLL
      refine jr_castS hX hLn rfl q1713 dX5_against_25 ?_
      refine jr_astore hX (by decide) rfl dX5_against_28 ?_
      refine jr_aload hX rfl dX5_against_30 ?_
      refine jr_getN (ci := 13) (k := 1) hX hLn rfl in_X7 (by decide) q1724 rfl dX5_against_32 ?_
      refine jr_callV (As := []) (bc1 := (2 - i)) (bs1 := (4 * (2 - i))) hX (met_iterator l D s0 b0 A _ (ad 36 i 0) (s_rg (s_s S i).2.length (fun q => ad 38 i q)) mo cap ea hL) (cwV 0 hX.ts (lw_V q1937 q855 q2208 q68 q857) rfl rfl rfl (by decide +kernel) ⟨Nat.le_of_ble_eq_true rfl, Nat.le_of_ble_eq_true rfl⟩) hL.1 rfl rfl (Nat.le_of_ble_eq_true rfl) (by first | omega | (dsimp only; omega) | (show _ ≤ _; simp only []; omega)) (by first | omega | (dsimp only; omega) | (show _ ≤ _; simp only []; omega)) rfl dX5_against_35 (fun v_35 G_35 hp_35 => ?_)
      obtain ⟨it, rfl, hn, hA, e9⟩ := hp_35
      rw [e9]
      refine jr_astore hX (by decide) rfl dX5_against_38 ?_
      have cont : ∀ (Gc : jG) (lr0 : Int32), jNw G Gc → Gc it0 = some (jo 1 [.int (nI (i + 1)), .int lr0, .int mo0, .ref (ad 32 1 0)]) → Jg p l e (jR 6 4 16) s m args below meth c (MQ below (jQ D A (fun w G1 => w = some (.int (nI (s_agn S ch))) ∧ jNw G G1)) args s 4 16 A) D A 7 Gc (3 - (i + 1)) (4 * (3 - (i + 1))) 10 [(2, .int (nI (s_ctP S (s_stn S ch) (i + 1)))), (3, .ref it0), (0, .ref (ad 31 0 0)), (1, .ref (ad 48 ci 0))] [] := fun Gc lr0 z1 z2 => ih _ (by omega) (i + 1) Gc lr0 rfl (by omega) z1 z2
      have hne : it0 ≠ it := fun z => by rw [← z, jup_s] at hn; cases hn
      have hnit : G it = none := by
        cases z : G it with
        | none => rfl
        | some y => rw [hw1 _ _ z] at hn; cases hn
      have hxl : (s_rg (s_s S i).2.length (fun q => ad 38 i q)).length = (s_s S i).2.length := rg_len
      have hL0 := hLL
      have loopI : ∀ (n9 : Nat) (j : Nat) (Gc : jG) (lr : Int32), (s_s S i).2.length - j = n9 → j ≤ (s_s S i).2.length → jNw G Gc → Gc it0 = some (jo 1 [.int (nI (i + 1)), .int (nI i), .int mo0, .ref (ad 32 1 0)]) → Gc it = some (jo 1 [.int (nI j), .int lr, .int mo, .ref (ad 36 i 0)]) → Jg p l e (jR 6 4 16) s m args below meth c (MQ below (jQ D A (fun w G1 => w = some (.int (nI (s_agn S ch))) ∧ jNw G G1)) args s 4 16 A) D A 7 Gc (2 - i) (4 * (2 - i)) 40 [(2, .int (nI (s_ctP S (s_stn S ch) i + ((s_s S i).2.take j).countP (s_stn S ch)))), (5, .ref it), (3, .ref it0), (0, .ref (ad 31 0 0)), (1, .ref (ad 48 ci 0))] [] := by
        intro n9
        induction n9 using Nat.strongRecOn with
        | ind n9 ih0 =>
        intro j Gc lr hn9 hjl hnw hit0 hit
        have ih : ∀ m9, m9 < n9 → ∀ (j : Nat) (Gc : jG) (lr : Int32), (s_s S i).2.length - j = m9 → j ≤ (s_s S i).2.length → jNw G Gc → Gc it0 = some (jo 1 [.int (nI (i + 1)), .int (nI i), .int mo0, .ref (ad 32 1 0)]) → Gc it = some (jo 1 [.int (nI j), .int lr, .int mo, .ref (ad 36 i 0)]) → Jg p l e (jR 6 4 16) s m args below meth c (MQ below (jQ D A (fun w G1 => w = some (.int (nI (s_agn S ch))) ∧ jNw G G1)) args s 4 16 A) D A 7 Gc (2 - i) (4 * (2 - i)) 40 [(2, .int (nI (s_ctP S (s_stn S ch) i + ((s_s S i).2.take j).countP (s_stn S ch)))), (5, .ref it), (3, .ref it0), (0, .ref (ad 31 0 0)), (1, .ref (ad 48 ci 0))] [] := fun m9 hm => ih0 m9 hm
        have hL := jNw.jLS hnw hL0
        refine jr_aload hX rfl dX5_against_40 ?_
        refine jr_callF (As := []) (bc1 := (2 - i)) (bs1 := (4 * (2 - i))) hX (met_hasNext l D s0 b0 A _ (ad 36 i 0) (s_rg (s_s S i).2.length (fun q => ad 38 i q)) mo cap ea hL it (j) lr hit (by rw [hxl]; omega)) (va_cwF 0 hX.ts (lw_F q1939 q882 q884 q96 q886) rfl rfl rfl (hX.S.fw ⟨by decide +kernel, by decide +kernel⟩ q880 q879 q885 q883 q881) (by decide +kernel) ⟨Nat.le_of_ble_eq_true rfl, Nat.le_of_ble_eq_true rfl⟩) hit rfl rfl (Nat.le_of_ble_eq_true rfl) (by first | omega | (dsimp only; omega) | (show _ ≤ _; simp only []; omega)) (by first | omega | (dsimp only; omega) | (show _ ≤ _; simp only []; omega)) rfl dX5_against_42 (fun v_42 G_42 hp_42 => ?_)
        obtain ⟨rfl, e9⟩ := hp_42
        rw [e9, hxl]
        refine jr_if_eq hX (tgt := 83) (by decide) dX5_against_47 (fun c_47 => ?_) (fun c_47 => ?_)
        · refine jr_goto hX (tgt := 10) (by decide) dX5_against_83 ?_
          have hj2 : ¬ j < (s_s S i).2.length := of_decide_eq_false (jbz_0 c_47)
          rw [show s_ctP S (s_stn S ch) i + ((s_s S i).2.take j).countP (s_stn S ch) = s_ctP S (s_stn S ch) (i + 1) from by rw [List.take_of_length_le (by omega)]; rfl]
          refine jr_lvm [(2, .int (nI (s_ctP S (s_stn S ch) (i + 1)))), (3, .ref it0), (0, .ref (ad 31 0 0)), (1, .ref (ad 48 ci 0))] rfl ?_
          exact jr_wk (by omega) (by omega) (cont _ _ hnw hit0)
        · have hj2 : j < (s_s S i).2.length := of_decide_eq_true (jbz_1 c_47)
          obtain ⟨x, hx⟩ : ∃ x, (s_s S i).2[j]? = some x := ⟨_, List.getElem?_eq_getElem hj2⟩
          refine jr_aload hX rfl dX5_against_50 ?_
          refine jr_callF (As := []) (bc1 := (2 - i)) (bs1 := (4 * (2 - i))) hX (met_next l D s0 b0 A _ (ad 36 i 0) (s_rg (s_s S i).2.length (fun q => ad 38 i q)) mo cap ea hL it (j) lr hit (ad 38 i j) (rg_at hj2)) (va_cwF 0 hX.ts (lw_F q1941 q891 q893 q96 q895) rfl rfl rfl (hX.S.fw ⟨by decide +kernel, by decide +kernel⟩ q890 q889 q894 q892 q881) (by decide +kernel) ⟨Nat.le_of_ble_eq_true rfl, Nat.le_of_ble_eq_true rfl⟩) hit rfl rfl (Nat.le_of_ble_eq_true rfl) (by first | omega | (dsimp only; omega) | (show _ ≤ _; simp only []; omega)) (by first | omega | (dsimp only; omega) | (show _ ≤ _; simp only []; omega)) rfl dX5_against_52 (fun v_52 G_52 hp_52 => ?_)
          obtain ⟨rfl, e9⟩ := hp_52
          rw [e9]
          have hw2 : jNw G (jup Gc it (jo 1 [.int (nI (j + 1)), .int (nI j), .int mo, .ref (ad 36 i 0)])) := jNw.fr hnw hnit
          have hF := hw2 _ _ (mo_fr hR hi3 hx)
          refine jr_castS hX hF rfl q1889 dX5_against_57 ?_
          refine jr_astore hX (by decide) rfl dX5_against_60 ?_
          refine jr_iload_n (i := 2) hX rfl rfl dX5_against_62 ?_
          refine jr_aload_n (i := 0) hX rfl rfl dX5_against_63 ?_
          refine jr_aload hX rfl dX5_against_64 ?_
          refine jr_aload_n (i := 1) hX rfl rfl dX5_against_66 ?_
          refine jr_callV (As := [.ref (ad 38 i j), .ref (ad 48 ci 0)]) (bc1 := (2 - i)) (bs1 := (4 * (2 - i))) hX (mm_stands l D s0 b0 A _ S th ad T (jRep.nw hR hw2) ci ch hch hi hv hp i j x hi3 hx hs hcm) (cwV 2 hX.ts (lw_V q1942 q1944 qs46 q78 q1945) rfl rfl rfl (by decide +kernel) ⟨Nat.le_of_ble_eq_true rfl, Nat.le_of_ble_eq_true rfl⟩) (hw2 _ _ hxx) rfl rfl (Nat.le_of_ble_eq_true rfl) (by first | omega | (dsimp only; omega) | (show _ ≤ _; simp only []; omega)) (by first | omega | (dsimp only; omega) | (show _ ≤ _; simp only []; omega)) rfl dX5_against_67 (fun v_67 G_67 hp_67 => ?_)
          obtain ⟨rfl, e9⟩ := hp_67
          rw [e9]
          refine jr_if_eq hX (tgt := 77) (by decide) dX5_against_70 (fun c_70 => ?_) (fun c_70 => ?_)
          · refine jr_iconst (v := 0) hX rfl dX5_against_77 ?_
            refine jr_iadd hX dX5_against_78 ?_
            rw [Int32.add_zero, show s_ctP S (s_stn S ch) i + ((s_s S i).2.take j).countP (s_stn S ch) = s_ctP S (s_stn S ch) i + ((s_s S i).2.take (j + 1)).countP (s_stn S ch) from by rw [cnt_tk hx, if_neg (by rw [jbz_0 c_70]; simp)]; rfl]
            refine jr_istore_n (i := 2) hX rfl (by decide) rfl dX5_against_79 ?_
            refine jr_goto hX (tgt := 40) (by decide) dX5_against_80 ?_
            have hL := jNw.jLS hnw hL0
            refine jr_lvm [(2, .int (nI (s_ctP S (s_stn S ch) i + ((s_s S i).2.take (j + 1)).countP (s_stn S ch)))), (5, .ref it), (3, .ref it0), (0, .ref (ad 31 0 0)), (1, .ref (ad 48 ci 0))] rfl ?_
            exact ih _ (by omega) (j + 1) _ _ rfl (by omega) hw2 (by rw [jup_n hne]; exact hit0) jup_s
          · refine jr_iconst (v := 1) hX rfl dX5_against_73 ?_
            refine jr_goto hX (tgt := 78) (by decide) dX5_against_74 ?_
            refine jr_iadd hX dX5_against_78 ?_
            rw [nI_1, show s_ctP S (s_stn S ch) i + ((s_s S i).2.take j).countP (s_stn S ch) + 1 = s_ctP S (s_stn S ch) i + ((s_s S i).2.take (j + 1)).countP (s_stn S ch) from by rw [cnt_tk hx, if_pos (jbz_1 c_70)]; rfl]
            refine jr_istore_n (i := 2) hX rfl (by decide) rfl dX5_against_79 ?_
            refine jr_goto hX (tgt := 40) (by decide) dX5_against_80 ?_
            have hL := jNw.jLS hnw hL0
            refine jr_lvm [(2, .int (nI (s_ctP S (s_stn S ch) i + ((s_s S i).2.take (j + 1)).countP (s_stn S ch)))), (5, .ref it), (3, .ref it0), (0, .ref (ad 31 0 0)), (1, .ref (ad 48 ci 0))] rfl ?_
            exact ih _ (by omega) (j + 1) _ _ rfl (by omega) hw2 (by rw [jup_n hne]; exact hit0) jup_s
      refine jr_lvm [(2, .int (nI (s_ctP S (s_stn S ch) i + ((s_s S i).2.take 0).countP (s_stn S ch)))), (5, .ref it), (3, .ref it0), (0, .ref (ad 31 0 0)), (1, .ref (ad 48 ci 0))] rfl ?_
      exact jr_wk (by omega) (by omega) (loopI _ 0 _ (-1) rfl (Nat.zero_le _) (hw1.fr hnit) (by rw [jup_n hne]; exact jup_s) jup_s)
  refine jr_lvm [(2, .int (nI (s_ctP S (s_stn S ch) 0))), (3, .ref it0), (0, .ref (ad 31 0 0)), (1, .ref (ad 48 ci 0))] rfl ?_
  exact loopO _ 0 _ (-1) rfl (by omega) (jNw.new hnit0) jup_s

set_option maxHeartbeats 4000000 in
set_option maxRecDepth 100000 in
theorem mm_againstC (l : Launch) (D : va_G) (s0 : State) (b0 : Nat) (A : Nat → Prop) (G : jG) (S : sSt) (th : Nat) (ad : jN) (T : jT) (hR : jMo D s0 b0 th S ad T G) (ci : Nat) (r : List Nat) (hq : s_q S = ci :: r) (ch : sCh) (hch : (s_c S)[ci]? = some ch) (hi : sWi S) (hv : sWv S) (hp : s_p S < s_m S) (hs : sWs S) (hcm : ch.1 < 1000) : jM l yX5_against_2 (ws_ yX5_against_2 cX5_against_2 1 (some .int)) (jR 7 4 16) D s0 b0 A G [.ref (ad 31 0 0)] (fun w G1 => w = some (.int (nI (s_agn S ch))) ∧ jMo D s0 b0 0 S ad T G1 ∧ jFm 31 60 T G T G1) := by
  have hxx := mo_x hR
  obtain ⟨moQ, capQ, eaQ, hQL, -, hQc, hQt⟩ := mo_que hR
  refine jM.of (by decide +kernel) (own := RX5) rfl (Nat.le_of_ble_eq_true rfl) ?_
  intro p e s m args below meth c hX hr hlk hnm
  refine jr_aload_n (i := 0) hX rfl rfl dX5_against_2_0 ?_
  refine jr_aload_n (i := 0) hX rfl rfl dX5_against_2_1 ?_
  refine jr_get (ci := 11) (k := 8) hX hxx rfl in_X5 (by decide) q1738 rfl dX5_against_2_2 ?_
  refine jr_callV (As := []) (bc1 := (4)) (bs1 := (16)) hX (met_isEmpty l D s0 b0 A _ (ad 32 4 0) ((s_q S).map (fun v => ad 48 v 0)) moQ capQ eaQ hQL) (cwV 0 hX.ts (lw_V q1919 q996 q2207 q68 q998) rfl rfl rfl (by decide +kernel) ⟨Nat.le_of_ble_eq_true rfl, Nat.le_of_ble_eq_true rfl⟩) hQL.1 rfl rfl (Nat.le_of_ble_eq_true rfl) (by first | omega | (dsimp only; omega) | (show _ ≤ _; simp only []; omega)) (by first | omega | (dsimp only; omega) | (show _ ≤ _; simp only []; omega)) rfl dX5_against_2_5 (fun v_5 G_5 hp_5 => ?_)
  obtain ⟨rfl, e9⟩ := hp_5
  rw [e9]
  refine jr_if_eq hX (tgt := 15) (by decide) dX5_against_2_8 (fun c_8 => ?_) (fun c_8 => absurd (by rw [decide_eq_false (by rw [hq]; simp)]; rfl) c_8)
  refine jr_iconst (v := 0) hX rfl dX5_against_2_15 ?_
  refine jr_put (ci := 11) (k := 0) hX hxx rfl in_X5 (by decide) tyX5 tyX5_ok nmX5 q1730 rfl (by first | rfl | assumption) (by first | rfl | assumption) (Nat.le_of_ble_eq_true rfl) dX5_against_2_16 ?_
  have hR2 := mo_wth hR 0
  have hxx2 := mo_x hR2
  obtain ⟨moQ2, capQ2, eaQ2, hQL2, -, -, -⟩ := mo_que hR2
  refine jr_aload_n (i := 0) hX rfl rfl dX5_against_2_19 ?_
  refine jr_get (ci := 11) (k := 0) hX hxx2 rfl in_X5 (by decide) q1730 rfl dX5_against_2_20 ?_
  refine jr_if_le hX (tgt := 30) (by decide) dX5_against_2_23 (fun c_23 => ?_) (fun c_23 => absurd (by decide) c_23)
  refine jr_aload_n (i := 0) hX rfl rfl dX5_against_2_30 ?_
  refine jr_aload_n (i := 0) hX rfl rfl dX5_against_2_31 ?_
  refine jr_get (ci := 11) (k := 8) hX hxx2 rfl in_X5 (by decide) q1738 rfl dX5_against_2_32 ?_
  refine jr_iconst (v := 0) hX rfl dX5_against_2_35 ?_
  refine jr_callV (As := [.int (nI 0)]) (bc1 := (4)) (bs1 := (16)) hX (met_get l D s0 b0 A _ (ad 32 4 0) ((s_q S).map (fun v => ad 48 v 0)) moQ2 capQ2 eaQ2 hQL2 0 (ad 48 ci 0) (by rw [hq]; rfl)) (cwV 1 hX.ts (lw_V q1712 q304 q2203 q68 q306) rfl rfl rfl (by decide +kernel) ⟨Nat.le_of_ble_eq_true rfl, Nat.le_of_ble_eq_true rfl⟩) hQL2.1 rfl rfl (Nat.le_of_ble_eq_true rfl) (by first | omega | (dsimp only; omega) | (show _ ≤ _; simp only []; omega)) (by first | omega | (dsimp only; omega) | (show _ ≤ _; simp only []; omega)) rfl dX5_against_2_36 (fun v_36 G_36 hp_36 => ?_)
  obtain ⟨rfl, e9⟩ := hp_36
  rw [e9]
  refine jr_castS hX (mo_ch hR2 hch) rfl q1920 dX5_against_2_39 ?_
  refine jr_callV (As := [.ref (ad 48 ci 0)]) (bc1 := (0)) (bs1 := (0)) hX (mm_against l D s0 b0 A _ S 0 ad T hR2 ci ch hch hi hv hp hs hcm) (cwV 1 hX.ts (lw_V q1933 q1935 qs45 q78 q1936) rfl rfl rfl (by decide +kernel) ⟨Nat.le_of_ble_eq_true rfl, Nat.le_of_ble_eq_true rfl⟩) hxx2 rfl rfl (Nat.le_of_ble_eq_true rfl) (by first | omega | (dsimp only; omega) | (show _ ≤ _; simp only []; omega)) (by first | omega | (dsimp only; omega) | (show _ ≤ _; simp only []; omega)) rfl dX5_against_2_42 (fun v_42 G_42 hp_42 => ?_)
  obtain ⟨rfl, e9t⟩ := hp_42
  exact jr_iret hX hlk hr ⟨rfl, jRep.nw hR2 e9t, (jFm.pt (mo_t31 hR) (by decide)).trans (jNw.fm e9t)⟩ dX5_against_2_45

set_option maxHeartbeats 4000000 in
set_option maxRecDepth 100000 in
theorem mm_moves (l : Launch) (D : va_G) (s0 : State) (b0 : Nat) (A : Nat → Prop) (G : jG) (S : sSt) (th : Nat) (ad : jN) (T : jT) (hR : jMo D s0 b0 th S ad T G) (b : Bool) (md : Nat) (hmd : md ≠ 111) (hi : sWi S) (hv : sWv S) (hp : s_p S < s_m S) (hl : s_lead S b = true) (i j : Nat) (x : sFr) (hi3 : i < 3) (hx : (s_s S i).2[j]? = some x) (hs : sWs S) (hplc : x.1 = s_p S → s_tch S (s_lo S b) x.2.1 = true → s_pl S b x.2.1 x.2.2.2.2 ≠ -1) : jM l yX5_moves (ws_ yX5_moves cX5_moves 4 none) (jR 5 0 0) D s0 b0 A G [.ref (ad 31 0 0), .ref (ad 38 i j), .int (nI (s_to S b))] (fun w G1 => w = none ∧ jMo D s0 b0 th (s_fw S i j (s_mvF S b md x)) ad T G1 ∧ jFm 38 39 T G T G1) := by
  have hxx := mo_x hR
  have hF := mo_fr hR hi3 hx
  have hfx := (hs i hi3).2.2 j x hx
  have hmm : s_m S = (s_v S).length - 1 := rfl
  have hvu := hv.2.1
  obtain ⟨hlt1, hlt2⟩ := s_lt hl hp
  have hroleF : shM D s0 b0 th S ad 38 i j = some (.inl (jo 15 [.int (nI x.1), .int (nI x.2.1), .int (nI x.2.2.2.2), .ref (ad 39 i j), .int (nI x.2.2.1)])) := by
    show (if i < 3 then Option.map _ ((s_s S i).2[j]?) else none) = _
    rw [if_pos hi3, hx]; rfl
  refine jM.of (by decide +kernel) (own := RX5) rfl (Nat.le_of_ble_eq_true rfl) ?_
  intro p e s m args below meth c hX hr hlk hnm
  refine jr_aload_n (i := 1) hX rfl rfl dX5_moves_0 ?_
  refine jr_getN (ci := 15) (k := 0) hX hF rfl in_X14 (by decide) q1896 rfl dX5_moves_1 ?_
  refine jr_aload_n (i := 0) hX rfl rfl dX5_moves_4 ?_
  refine jr_get (ci := 11) (k := 3) hX hxx rfl in_X5 (by decide) q1733 rfl dX5_moves_5 ?_
  refine jr_icmp_ne hX (tgt := 61) (by decide) dX5_moves_8 (fun c_8 => ?_) (fun c_8 => ?_)
  · rw [show s_mvF S b md x = x from if_neg (fun q => c_8 (by rw [q.1]))]
    refine jr_vret hX hlk hr ⟨rfl, ?_, jFm.refl⟩ dX5_moves_61
    rw [s_fw_id hx]
    exact hR
  · have hxp : x.1 = s_p S := (nI_eq (by omega) (by omega)).mp c_8
    refine jr_aload_n (i := 0) hX rfl rfl dX5_moves_11 ?_
    refine jr_aload_n (i := 0) hX rfl rfl dX5_moves_12 ?_
    refine jr_get (ci := 11) (k := 3) hX hxx rfl in_X5 (by decide) q1733 rfl dX5_moves_13 ?_
    refine jr_iload_n (i := 2) hX rfl rfl dX5_moves_16 ?_
    refine jr_callS (As := [.int (nI (s_p S)), .int (nI (s_to S b))]) (bc1 := (0)) (bs1 := (0)) hX (met_min l D s0 b0 A _ (nI (s_p S)) (nI (s_to S b))) (va_cwS 2 hX.ts (lw_S q1946 q262 q72 q263) rfl rfl rfl (by decide +kernel) ⟨Nat.le_of_ble_eq_true rfl, Nat.le_of_ble_eq_true rfl⟩) rfl (Nat.le_of_ble_eq_true rfl) (by first | omega | (dsimp only; omega) | (show _ ≤ _; simp only []; omega)) (by first | omega | (dsimp only; omega) | (show _ ≤ _; simp only []; omega)) rfl dX5_moves_17 (fun v_17 G_17 hp_17 => ?_)
    obtain ⟨rfl, e9⟩ := hp_17
    rw [e9]
    rw [s_mn hl (by omega)]
    refine jr_aload_n (i := 1) hX rfl rfl dX5_moves_20 ?_
    refine jr_getN (ci := 15) (k := 1) hX hF rfl in_X14 (by decide) q1898 rfl dX5_moves_21 ?_
    refine jr_callV (As := [.int (nI (s_lo S b)), .int (nI x.2.1)]) (bc1 := (0)) (bs1 := (0)) hX (mm_touches l D s0 b0 A _ S th ad T hR hi hv (s_lo S b) x.2.1 hlt1 hfx.2.1) (cwV 2 hX.ts (lw_V q1852 q1854 qs39 q78 q1855) rfl rfl rfl (by decide +kernel) ⟨Nat.le_of_ble_eq_true rfl, Nat.le_of_ble_eq_true rfl⟩) hxx rfl rfl (Nat.le_of_ble_eq_true rfl) (by first | omega | (dsimp only; omega) | (show _ ≤ _; simp only []; omega)) (by first | omega | (dsimp only; omega) | (show _ ≤ _; simp only []; omega)) rfl dX5_moves_24 (fun v_24 G_24 hp_24 => ?_)
    obtain ⟨rfl, e9⟩ := hp_24
    rw [e9]
    refine jr_istore_n (i := 3) hX rfl (by decide) rfl dX5_moves_27 ?_
    refine jr_aload_n (i := 1) hX rfl rfl dX5_moves_28 ?_
    refine jr_iload_n (i := 3) hX rfl rfl dX5_moves_29 ?_
    refine jr_if_eq hX (tgt := 49) (by decide) dX5_moves_30 (fun c_30 => ?_) (fun c_30 => ?_)
    · refine jr_aload_n (i := 1) hX rfl rfl dX5_moves_49 ?_
      refine jr_getN (ci := 15) (k := 2) hX hF rfl in_X14 (by decide) q1899 rfl dX5_moves_50 ?_
      refine jr_putN (ci := 15) (k := 2) hX hF rfl in_X14 (by decide) tyX14 tyX14_ok nmX14 q1899 rfl (by first | rfl | assumption) (by first | rfl | assumption) (Nat.le_of_ble_eq_true rfl) dX5_moves_53 ?_
      refine jr_aload_n (i := 1) hX rfl rfl dX5_moves_56 ?_
      refine jr_iload_n (i := 2) hX rfl rfl dX5_moves_57 ?_
      refine jr_putN (ci := 15) (k := 0) hX jup_s rfl in_X14 (by decide) tyX14 tyX14_ok nmX14 q1896 rfl (by first | rfl | assumption) (by first | rfl | assumption) (Nat.le_of_ble_eq_true rfl) dX5_moves_58 ?_
      rw [jup_jup]
      refine jr_vret hX hlk hr ⟨rfl, ?_, ?_⟩ dX5_moves_61
      · have hfin := mo_wfr (y := s_mvF S b md x) hR hi3 hx (by unfold s_mvF; split <;> rfl)
        rw [show s_mvF S b md x = (s_to S b, x.2.1, x.2.2.1, x.2.2.2.1, if s_tch S (s_lo S b) x.2.1 = true then (s_pl S b x.2.1 x.2.2.2.2).toNatClampNeg else x.2.2.2.2) from if_pos ⟨hxp, hmd⟩] at hfin ⊢
        rw [if_neg (by rw [jbz_0 c_30]; simp)] at hfin ⊢
        exact hfin
      · exact jFm.put (by rw [hR.t (k := 38) (i := i) (j := j) hroleF]; simp)
    · refine jr_aload_n (i := 0) hX rfl rfl dX5_moves_33 ?_
      refine jr_aload_n (i := 1) hX rfl rfl dX5_moves_34 ?_
      refine jr_getN (ci := 15) (k := 1) hX hF rfl in_X14 (by decide) q1898 rfl dX5_moves_35 ?_
      refine jr_aload_n (i := 1) hX rfl rfl dX5_moves_38 ?_
      refine jr_getN (ci := 15) (k := 2) hX hF rfl in_X14 (by decide) q1899 rfl dX5_moves_39 ?_
      refine jr_iload_n (i := 2) hX rfl rfl dX5_moves_42 ?_
      refine jr_callV (As := [.int (nI x.2.1), .int (nI x.2.2.2.2), .int (nI (s_to S b))]) (bc1 := (0)) (bs1 := (0)) hX (mm_mapped l D s0 b0 A _ S th ad T hR hv hp b hl x.2.1 x.2.2.2.2 hfx.2.1 (by omega)) (cwV 3 hX.ts (lw_V q1947 q1949 qs47 q78 q1950) rfl rfl rfl (by decide +kernel) ⟨Nat.le_of_ble_eq_true rfl, Nat.le_of_ble_eq_true rfl⟩) hxx rfl rfl (Nat.le_of_ble_eq_true rfl) (by first | omega | (dsimp only; omega) | (show _ ≤ _; simp only []; omega)) (by first | omega | (dsimp only; omega) | (show _ ≤ _; simp only []; omega)) rfl dX5_moves_43 (fun v_43 G_43 hp_43 => ?_)
      obtain ⟨rfl, e9⟩ := hp_43
      rw [e9]
      obtain ⟨jp, hjp, hje⟩ : ∃ jp, jp ≤ 10 ∧ s_pl S b x.2.1 x.2.2.2.2 = nI jp := (s_pl_in hv (by omega) hfx.2.1 hfx.2.2.2).resolve_left (hplc hxp (jbz_1 c_30))
      rw [hje]
      refine jr_goto hX (tgt := 53) (by decide) dX5_moves_46 ?_
      refine jr_putN (ci := 15) (k := 2) hX hF rfl in_X14 (by decide) tyX14 tyX14_ok nmX14 q1899 rfl (by first | rfl | assumption) (by first | rfl | assumption) (Nat.le_of_ble_eq_true rfl) dX5_moves_53 ?_
      refine jr_aload_n (i := 1) hX rfl rfl dX5_moves_56 ?_
      refine jr_iload_n (i := 2) hX rfl rfl dX5_moves_57 ?_
      refine jr_putN (ci := 15) (k := 0) hX jup_s rfl in_X14 (by decide) tyX14 tyX14_ok nmX14 q1896 rfl (by first | rfl | assumption) (by first | rfl | assumption) (Nat.le_of_ble_eq_true rfl) dX5_moves_58 ?_
      rw [jup_jup]
      refine jr_vret hX hlk hr ⟨rfl, ?_, ?_⟩ dX5_moves_61
      · have hfin := mo_wfr (y := s_mvF S b md x) hR hi3 hx (by unfold s_mvF; split <;> rfl)
        rw [show s_mvF S b md x = (s_to S b, x.2.1, x.2.2.1, x.2.2.2.1, if s_tch S (s_lo S b) x.2.1 = true then (s_pl S b x.2.1 x.2.2.2.2).toNatClampNeg else x.2.2.2.2) from if_pos ⟨hxp, hmd⟩] at hfin ⊢
        rw [if_pos (jbz_1 c_30), hje, nI_clamp (by omega)] at hfin ⊢
        exact hfin
      · exact jFm.put (by rw [hR.t (k := 38) (i := i) (j := j) hroleF]; simp)

theorem ob_chM {D : va_G} {s0 : State} {b0 th : Nat} {S : sSt} {ad : jN} {T : jT} {G : jG} (h : jMo D s0 b0 th S ad T G) {v : Nat} (hv : v < (s_c S).length) : jOb s0 b0 D G (ad 48 v 0) := ob_o (mo_ch h (List.getElem?_eq_getElem hv)) (r := (RX18, TX18, 6)) rfl q2244
theorem ob_qM {D : va_G} {s0 : State} {b0 th : Nat} {S : sSt} {ad : jN} {T : jT} {G : jG} (h : jMo D s0 b0 th S ad T G) (hW : ∀ q ∈ s_q S, q < (s_c S).length) : ∀ y ∈ (s_q S).map (fun v => ad 48 v 0), jOb s0 b0 D G y := fun y hy => by
  obtain ⟨v, hv, rfl⟩ := List.mem_map.mp hy
  exact ob_chM h (hW v hv)
theorem q_inj {D : va_G} {s0 : State} {b0 th : Nat} {S : sSt} {ad : jN} {T : jT} {G : jG} (h : jMo D s0 b0 th S ad T G) (hW : ∀ q ∈ s_q S, q < (s_c S).length) (hnd : (s_q S).Nodup) {k ci : Nat} (hk : (s_q S)[k]? = some ci) : ∀ j, j < k → ((s_q S).map (fun v => ad 48 v 0))[j]? ≠ some (ad 48 ci 0) := fun j hj z => by
  rw [List.getElem?_map] at z
  cases hc : (s_q S)[j]? with
  | none => rw [hc] at z; cases z
  | some cj =>
    rw [hc] at z
    have e : ad 48 cj 0 = ad 48 ci 0 := Option.some.inj z
    have t1 := mo_t48 h (List.getElem?_eq_getElem (hW cj (List.mem_of_getElem? hc)))
    have t2 := mo_t48 h (List.getElem?_eq_getElem (hW ci (List.mem_of_getElem? hk)))
    rw [e, t2] at t1
    have e2 : ci = cj := congrArg (fun z : Nat × Nat × Nat => z.2.1) t1
    have hjl := lt_ofl hc
    have hkl := lt_ofl hk
    have g1 := Option.some.inj ((List.getElem?_eq_getElem hjl).symm.trans hc)
    have g2 := Option.some.inj ((List.getElem?_eq_getElem hkl).symm.trans hk)
    exact (List.pairwise_iff_getElem.mp hnd) j k hjl hkl hj (g1.trans (e2.symm.trans g2.symm))

set_option maxHeartbeats 4000000 in
set_option maxRecDepth 100000 in
theorem mm_drops (l : Launch) (D : va_G) (s0 : State) (b0 : Nat) (A : Nat → Prop) (G : jG) (S : sSt) (th : Nat) (ad : jN) (T : jT) (hR : jMo D s0 b0 th S ad T G) (ci : Nat) (ch : sCh) (hch : (s_c S)[ci]? = some ch) (hW : sWc S) (k : Nat) (hk : (s_q S)[k]? = some ci) : jM l yX5_drops (ws_ yX5_drops cX5_drops 2 none) (jR 4 0 0) D s0 b0 A G [.ref (ad 31 0 0), .ref (ad 48 ci 0)] (fun w G1 => w = none ∧ ∃ T1 : jT, jMo D s0 b0 th (sw_q (s_cw S ci ch 100) ((s_q S).eraseIdx k)) ad T1 G1 ∧ jFm 31 60 T G T1 G1) := by
  have hC := mo_ch hR hch
  refine jM.of (by decide +kernel) (own := RX5) rfl (Nat.le_of_ble_eq_true rfl) ?_
  intro p e s m args below meth c hX hr hlk hnm
  refine jr_aload_n (i := 1) hX rfl rfl dX5_drops_0 ?_
  refine jr_bipush (v := 100) hX (by decide) dX5_drops_1 ?_
  refine jr_putN (ci := 17) (k := 5) hX hC rfl in_X18 (by decide) tyX18 tyX18_ok nmX18 q2061 rfl (by first | rfl | assumption) (by first | rfl | assumption) (Nat.le_of_ble_eq_true rfl) dX5_drops_3 ?_
  have hR2 := mo_wch hR hch 100
  have hch2 : (s_c (s_cw S ci ch 100))[ci]? = some (ch.1, ch.2.1, ch.2.2.1, ch.2.2.2.1, 100) := List.getElem?_set_self (lt_ofl hch)
  have hwq : ∀ q ∈ s_q (s_cw S ci ch 100), q < (s_c (s_cw S ci ch 100)).length := fun q hq => by show q < ((s_c S).set ci _).length; rw [List.length_set]; exact hW.2.1 q hq
  obtain ⟨moQ, capQ, eaQ, hQL, -, hQc, hQt⟩ := mo_que hR2
  refine jr_ee hX (fun hE0 => ?_)
  refine jr_aload_n (i := 0) hX rfl rfl dX5_drops_6 ?_
  refine jr_get (ci := 11) (k := 8) hX (mo_x hR2) rfl in_X5 (by decide) q1738 rfl dX5_drops_7 ?_
  refine jr_aload_n (i := 1) hX rfl rfl dX5_drops_10 ?_
  refine jr_callV (As := [.ref (ad 48 ci 0)]) (bc1 := (0)) (bs1 := (0)) hX (met_removeO l D s0 b0 A _ (ad 32 4 0) ((s_q S).map (fun v => ad 48 v 0)) moQ capQ eaQ hQL (ob_qM (S := s_cw S ci ch 100) hR2 hwq) (ad 48 ci 0) 17 _ _ _ _ (mo_ch hR2 hch2) rfl q811 k (by rw [List.getElem?_map]; show Option.map _ ((s_q S)[k]?) = _; rw [hk]; rfl) (q_inj (S := s_cw S ci ch 100) hR2 hwq hW.1 hk)) (cwV 1 hX.ts (lw_V q1929 q1930 q1931 q68 q1932) rfl rfl rfl (by decide +kernel) ⟨Nat.le_of_ble_eq_true rfl, Nat.le_of_ble_eq_true rfl⟩) hQL.1 rfl rfl (Nat.le_of_ble_eq_true rfl) (by first | omega | (dsimp only; omega) | (show _ ≤ _; simp only []; omega)) (by first | omega | (dsimp only; omega) | (show _ ≤ _; simp only []; omega)) rfl dX5_drops_11 (fun v_11 G_11 hp_11 => ?_)
  obtain ⟨rfl, hU⟩ := hp_11
  refine jr_ee hX (fun hE1 => ?_)
  rw [← map_er] at hU
  obtain ⟨T1, hR1, hfm⟩ := mo_qls (qs := (s_q S).eraseIdx k) hR2 hE1 hQL hQt hU hQc
  have hfm1 := mo_fm (by omega) hE0 hfm
  refine jr_pop hX rfl dX5_drops_14 ?_
  exact jr_vret hX hlk hr ⟨rfl, T1, hR1, (jFm.pt (mo_t48 hR hch) (by decide)).trans hfm1⟩ dX5_drops_15
