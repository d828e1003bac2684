/-! the model's carries -/
theorem nI_mul (a b : Nat) : nI a * nI b = nI (a * b) := (Int32.ofNat_mul a b).symm

set_option maxHeartbeats 4000000 in
set_option maxRecDepth 100000 in
theorem mm_carried (l : Launch) (D : va_G) (s0 : State) (b0 : Nat) (A : Nat → Prop) (G : jG) (a n : Nat) (f : Nat → Int32) (ha : G a = some (ji D n f)) (hn : n ≤ 100) (fr mo : Int32) (hf : fr = -1 ∨ ∃ j, j < n ∧ fr = nI j) : jM l yX5_carried (ws_ yX5_carried cX5_carried 3 (some .int)) (jR 0 0 0) D s0 b0 A G [.ref a, .int fr, .int mo] (fun w G1 => w = some (.int ((if fr = -1 then 0 else f fr.toNatClampNeg) + mo)) ∧ G1 = G) := by
  refine jM.of (by decide +kernel) (own := RX5) rfl (Nat.le_of_ble_eq_true rfl) ?_
  intro p e s m args below meth c hX hr hlk hnm
  refine jr_iload_n (i := 1) hX rfl rfl dX5_carried_0 ?_
  refine jr_iconst (v := -1) hX rfl dX5_carried_1 ?_
  refine jr_icmp_ne hX (tgt := 9) (by decide) dX5_carried_2 (fun c_2 => ?_) (fun c_2 => ?_)
  · refine jr_aload_n (i := 0) hX rfl rfl dX5_carried_9 ?_
    refine jr_iload_n (i := 1) hX rfl rfl dX5_carried_10 ?_
    refine jr_iald hX ha (by obtain ⟨j, hj, e⟩ := hf.resolve_left c_2; rw [e]; exact vp_in_nI hj (by omega)) dX5_carried_11 ?_
    refine jr_iload_n (i := 2) hX rfl rfl dX5_carried_12 ?_
    refine jr_iadd hX dX5_carried_13 ?_
    exact jr_iret hX hlk hr ⟨by rw [if_neg c_2], rfl⟩ dX5_carried_14
  · refine jr_iconst (v := 0) hX rfl dX5_carried_5 ?_
    refine jr_goto hX (tgt := 12) (by decide) dX5_carried_6 ?_
    refine jr_iload_n (i := 2) hX rfl rfl dX5_carried_12 ?_
    refine jr_iadd hX dX5_carried_13 ?_
    exact jr_iret hX hlk hr ⟨by rw [if_pos c_2], rfl⟩ dX5_carried_14

theorem car_bk {S : sSt} {k v a : Nat} {f : Nat → Int32} (h : a < v) : s_car S k v a f = s_bwd S k (v - a) v f := by
  unfold s_car
  rw [if_neg (by omega)]
theorem car_bk2 {S : sSt} {k v a : Nat} {f : Nat → Int32} (h : a ≤ v) : s_car S k v a f = s_bwd S k (v - a) v f := by
  by_cases e : v = a
  · subst e
    rw [s_car_id, Nat.sub_self]; rfl
  · exact car_bk (by omega)

set_option maxHeartbeats 4000000 in
set_option maxRecDepth 100000 in
theorem mm_carryI (l : Launch) (D : va_G) (s0 : State) (b0 : Nat) (A : Nat → Prop) (G : jG) (S : sSt) (th : Nat) (ad : jN) (T : jT) (hR : jMo D s0 b0 th S ad T G) (hv : sWv S) (k v0 a fl0 : Nat) (f0 : Nat → Int32) (hk : k < 3) (hv0 : v0 < s_m S) (ha : a < s_m S) (hfl0 : G fl0 = some (ji D ((s_ver S v0).2.1 k) f0)) : jM l yX5_carry_2 (ws_ yX5_carry_2 cX5_carry_2 12 (some (.array .int))) (jR 4 5 20) D s0 b0 A G [.ref (ad 31 0 0), .int (nI k), .ref fl0, .int (nI v0), .int (nI a)] (fun w G1 => ∃ q, w = some (.ref q) ∧ jNw G G1 ∧ G1 q = some (ji D ((s_ver S a).2.1 k) (s_car S k v0 a f0)) ∧ ((v0 = a ∧ q = fl0 ∧ G1 = G) ∨ (v0 ≠ a ∧ G q = none ∧ A q))) := by
  have hxx := mo_x hR
  have hmm : s_m S = (s_v S).length - 1 := rfl
  have hvu := hv.2.1
  obtain ⟨moV, capV, eaV, hVL, -, -, -⟩ := mo_vs hR
  refine jM.of (by decide +kernel) (own := RX5) rfl (Nat.le_of_ble_eq_true rfl) ?_
  intro p e s m args below meth c hX hr hlk hnm
  refine jr_aload_n (i := 2) hX rfl rfl dX5_carry_2_0 ?_
  refine jr_astore hX (by decide) rfl dX5_carry_2_1 ?_
  refine jr_iload_n (i := 3) hX rfl rfl dX5_carry_2_3 ?_
  refine jr_istore hX (by decide) rfl dX5_carry_2_4 ?_
  by_cases hle : v0 ≤ a
  · have loopF : ∀ (n9 : Nat) (v fl : Nat) (f : Nat → Int32) (Gc : jG), a - v = n9 → v ≤ a → jNw G Gc → Gc fl = some (ji D ((s_ver S v).2.1 k) f) → v0 ≤ v ∧ v < s_m S → ((v = v0 ∧ fl = fl0 ∧ Gc = G) ∨ (v ≠ v0 ∧ G fl = none ∧ A fl)) → s_car S k v a f = s_car S k v0 a f0 → Jg p l e (jR 4 5 20) s m args below meth c (MQ below (jQ D A (fun w G1 => ∃ q, w = some (.ref q) ∧ jNw G G1 ∧ G1 q = some (ji D ((s_ver S a).2.1 k) (s_car S k v0 a f0)) ∧ ((v0 = a ∧ q = fl0 ∧ G1 = G) ∨ (v0 ≠ a ∧ G q = none ∧ A q)))) args s 5 20 A) D A 12 Gc (a - v) (4 * (a - v)) 6 [(5, .ref fl), (6, .int (nI v)), (4, .int (nI a)), (1, .int (nI k)), (0, .ref (ad 31 0 0))] [] := by
      intro n9
      induction n9 using Nat.strongRecOn with
      | ind n9 ih0 =>
      intro v fl f Gc hn9 hva9 hnw hfl hrg hor heq
      have ih : ∀ m9, m9 < n9 → ∀ (v fl : Nat) (f : Nat → Int32) (Gc : jG), a - v = m9 → v ≤ a → jNw G Gc → Gc fl = some (ji D ((s_ver S v).2.1 k) f) → v0 ≤ v ∧ v < s_m S → ((v = v0 ∧ fl = fl0 ∧ Gc = G) ∨ (v ≠ v0 ∧ G fl = none ∧ A fl)) → s_car S k v a f = s_car S k v0 a f0 → Jg p l e (jR 4 5 20) s m args below meth c (MQ below (jQ D A (fun w G1 => ∃ q, w = some (.ref q) ∧ jNw G G1 ∧ G1 q = some (ji D ((s_ver S a).2.1 k) (s_car S k v0 a f0)) ∧ ((v0 = a ∧ q = fl0 ∧ G1 = G) ∨ (v0 ≠ a ∧ G q = none ∧ A q)))) args s 5 20 A) D A 12 Gc (a - v) (4 * (a - v)) 6 [(5, .ref fl), (6, .int (nI v)), (4, .int (nI a)), (1, .int (nI k)), (0, .ref (ad 31 0 0))] [] := fun m9 hm => ih0 m9 hm
      refine jr_iload hX rfl dX5_carry_2_6 ?_
      refine jr_iload hX rfl dX5_carry_2_8 ?_
      refine jr_icmp_eq hX (tgt := 188) (by decide) dX5_carry_2_10 (fun c_10 => ?_) (fun c_10 => ?_)
      · refine jr_aload hX rfl dX5_carry_2_188 ?_
        have hva : v = a := (nI_eq (by omega) (by omega)).mp c_10
        refine jr_aret hX hlk hr (Or.inr ⟨_, rfl⟩) (Or.inr ⟨_, rfl⟩) ⟨fl, rfl, hnw, ?_, ?_⟩ dX5_carry_2_190
        · rw [← heq, hva, s_car_id, ← hva]; exact hfl
        · rcases hor with ⟨z1, z2, z3⟩ | ⟨z1, z2, z3⟩
          · exact Or.inl ⟨z1.symm.trans hva, z2, z3⟩
          · exact Or.inr ⟨fun z => z1 (by omega), z2, z3⟩
      · have hlt : v < a := by
          have h9 : v ≠ a := fun z => c_10 (by rw [z])
          omega
        have hxp : (v + 1) < (s_v S).length := by omega
        have hxn : (v + 1) < (s_v S).length := by omega
        have hVp := mo_ver hR hxp
        have hVn := mo_ver hR hxn
        have hnp := (hv.2.2 (v + 1) hxn).2.1 k hk
        have hnv := (hv.2.2 v (by omega)).2.1 k hk
        have hfr : ∀ i, i < (s_ver S (v + 1)).2.1 k → (s_ver S (v + 1)).2.2.1 (2 * k) i = -1 ∨ ∃ j, j < (s_ver S v).2.1 k ∧ (s_ver S (v + 1)).2.2.1 (2 * k) i = nI j := fun i hi => by
          have h9 := (hv.2.2 (v + 1) hxp).2.2.2 (2 * k) i (by omega) (by omega) (by rw [s_cl_f.1]; exact hi)
          rw [s_cl_f.2, Nat.add_sub_cancel] at h9
          exact h9
        refine jr_aload_n (i := 0) hX rfl rfl dX5_carry_2_13 ?_
        refine jr_get (ci := 11) (k := 1) hX (hnw _ _ hxx) rfl in_X5 (by decide) q1731 rfl dX5_carry_2_14 ?_
        refine jr_iload hX rfl dX5_carry_2_17 ?_
        refine jr_iload hX rfl dX5_carry_2_19 ?_
        refine jr_icmp_ge hX (tgt := 31) (by decide) dX5_carry_2_21 (fun c_21 => absurd c_21 (nI_ge hlt (by omega))) (fun c_21 => ?_)
        refine jr_iload hX rfl dX5_carry_2_24 ?_
        refine jr_iconst (v := 1) hX rfl dX5_carry_2_26 ?_
        refine jr_iadd hX dX5_carry_2_27 ?_
        rw [nI_1]
        refine jr_goto hX (tgt := 33) (by decide) dX5_carry_2_28 ?_
        refine jr_callV (As := [.int (nI (v + 1))]) (bc1 := (a - v)) (bs1 := (4 * (a - v))) hX (met_get l D s0 b0 A _ (ad 32 0 0) (s_rg (s_m S) (fun v => ad 37 v 0)) moV capV eaV (hnw.jLS hVL) (v + 1) (ad 37 (v + 1) 0) (rg_at (by omega))) (cwV 1 hX.ts (lw_V q1712 q304 q2203 q68 q306) rfl rfl rfl (by decide +kernel) ⟨Nat.le_of_ble_eq_true rfl, Nat.le_of_ble_eq_true rfl⟩) (hnw.jLS hVL).1 rfl rfl (Nat.le_of_ble_eq_true rfl) (by first | omega | (dsimp only; omega) | (show _ ≤ _; simp only []; omega)) (by first | omega | (dsimp only; omega) | (show _ ≤ _; simp only []; omega)) rfl dX5_carry_2_33 (fun v_33 G_33 hp_33 => ?_)
        obtain ⟨rfl, e9⟩ := hp_33
        rw [e9]
        refine jr_castS hX (hnw _ _ hVp) rfl q1666 dX5_carry_2_36 ?_
        refine jr_astore hX (by decide) rfl dX5_carry_2_39 ?_
        refine jr_aload_n (i := 0) hX rfl rfl dX5_carry_2_41 ?_
        refine jr_get (ci := 11) (k := 1) hX (hnw _ _ hxx) rfl in_X5 (by decide) q1731 rfl dX5_carry_2_42 ?_
        refine jr_iload hX rfl dX5_carry_2_45 ?_
        refine jr_iload hX rfl dX5_carry_2_47 ?_
        refine jr_icmp_ge hX (tgt := 59) (by decide) dX5_carry_2_49 (fun c_49 => absurd c_49 (nI_ge hlt (by omega))) (fun c_49 => ?_)
        refine jr_iload hX rfl dX5_carry_2_52 ?_
        refine jr_iconst (v := 1) hX rfl dX5_carry_2_54 ?_
        refine jr_iadd hX dX5_carry_2_55 ?_
        rw [nI_1]
        refine jr_goto hX (tgt := 63) (by decide) dX5_carry_2_56 ?_
        refine jr_callV (As := [.int (nI (v + 1))]) (bc1 := (a - v)) (bs1 := (4 * (a - v))) hX (met_get l D s0 b0 A _ (ad 32 0 0) (s_rg (s_m S) (fun v => ad 37 v 0)) moV capV eaV (hnw.jLS hVL) (v + 1) (ad 37 (v + 1) 0) (rg_at (by omega))) (cwV 1 hX.ts (lw_V q1712 q304 q2203 q68 q306) rfl rfl rfl (by decide +kernel) ⟨Nat.le_of_ble_eq_true rfl, Nat.le_of_ble_eq_true rfl⟩) (hnw.jLS hVL).1 rfl rfl (Nat.le_of_ble_eq_true rfl) (by first | omega | (dsimp only; omega) | (show _ ≤ _; simp only []; omega)) (by first | omega | (dsimp only; omega) | (show _ ≤ _; simp only []; omega)) rfl dX5_carry_2_63 (fun v_63 G_63 hp_63 => ?_)
        obtain ⟨rfl, e9⟩ := hp_63
        rw [e9]
        refine jr_castS hX (hnw _ _ hVn) rfl q1666 dX5_carry_2_66 ?_
        refine jr_astore hX (by decide) rfl dX5_carry_2_69 ?_
        refine jr_aload hX rfl dX5_carry_2_71 ?_
        refine jr_getN (ci := 12) (k := 1) hX (hnw _ _ hVn) rfl in_X6 (by decide) q1685 rfl dX5_carry_2_73 ?_
        refine jr_iload_n (i := 1) hX rfl rfl dX5_carry_2_76 ?_
        refine jr_iald hX (hnw _ _ (mo_nf hR hxn)) (nI3 hk) dX5_carry_2_77 ?_
        rw [nI_clamp (by omega)]
        refine jr_newi (N := (s_ver S (v + 1)).2.1 k) (bc1 := (a - v) - 1) (bs1 := 4 * (a - v) - 4) hX q295 (nI_pos (by omega)) (nI_clamp (by omega)) (by omega) (by omega) (by omega) dX5_carry_2_78 (fun q hq0 hqA => ?_)
        refine jr_astore hX (by decide) rfl dX5_carry_2_80 ?_
        refine jr_iconst (v := 0) hX rfl dX5_carry_2_82 ?_
        refine jr_istore hX (by decide) rfl dX5_carry_2_83 ?_
        have hqG : G q = none := by
          cases z : G q with
          | none => rfl
          | some y => rw [hnw _ _ z] at hq0; cases hq0
        have loopi : ∀ (n9 i : Nat) (g : Nat → Int32), ((s_ver S (v + 1)).2.1 k) - i = n9 → i ≤ (s_ver S (v + 1)).2.1 k → (∀ j, j < i → g j = (s_cf S k v f) j) → Jg p l e (jR 4 5 20) s m args below meth c (MQ below (jQ D A (fun w G1 => ∃ q, w = some (.ref q) ∧ jNw G G1 ∧ G1 q = some (ji D ((s_ver S a).2.1 k) (s_car S k v0 a f0)) ∧ ((v0 = a ∧ q = fl0 ∧ G1 = G) ∨ (v0 ≠ a ∧ G q = none ∧ A q)))) args s 5 20 A) D A 12 (jup Gc q (ji D ((s_ver S (v + 1)).2.1 k) g)) ((a - v) - 1) (4 * (a - v) - 4) 85 [(10, .int (nI i)), (9, .ref q), (7, .ref (ad 37 (v + 1) 0)), (5, .ref fl), (6, .int (nI v)), (4, .int (nI a)), (1, .int (nI k)), (0, .ref (ad 31 0 0))] [] := by
          intro n9
          induction n9 using Nat.strongRecOn with
          | ind n9 ihi0 =>
          intro i g hn8 hil hg
          have ihi : ∀ m9, m9 < n9 → ∀ (i : Nat) (g : Nat → Int32), ((s_ver S (v + 1)).2.1 k) - i = m9 → i ≤ (s_ver S (v + 1)).2.1 k → (∀ j, j < i → g j = (s_cf S k v f) j) → Jg p l e (jR 4 5 20) s m args below meth c (MQ below (jQ D A (fun w G1 => ∃ q, w = some (.ref q) ∧ jNw G G1 ∧ G1 q = some (ji D ((s_ver S a).2.1 k) (s_car S k v0 a f0)) ∧ ((v0 = a ∧ q = fl0 ∧ G1 = G) ∨ (v0 ≠ a ∧ G q = none ∧ A q)))) args s 5 20 A) D A 12 (jup Gc q (ji D ((s_ver S (v + 1)).2.1 k) g)) ((a - v) - 1) (4 * (a - v) - 4) 85 [(10, .int (nI i)), (9, .ref q), (7, .ref (ad 37 (v + 1) 0)), (5, .ref fl), (6, .int (nI v)), (4, .int (nI a)), (1, .int (nI k)), (0, .ref (ad 31 0 0))] [] := fun m9 hm => ihi0 m9 hm
          refine jr_iload hX rfl dX5_carry_2_85 ?_
          refine jr_aload hX rfl dX5_carry_2_87 ?_
          refine jr_alen (t := 0) hX jup_s rfl rfl dX5_carry_2_89 ?_
          refine jr_icmp_ge hX (tgt := 164) (by decide) dX5_carry_2_90 (fun c_90 => ?_) (fun c_90 => ?_)
          · have hi2 : ¬ i < (s_ver S (v + 1)).2.1 k := fun z => absurd c_90 (nI_ge z (by omega))
            refine jr_norm (s_cf S k v f) jup_s (fun j hj => hg j (by omega)) ?_
            rw [jup_jup]
            refine jr_aload hX rfl dX5_carry_2_164 ?_
            refine jr_astore hX (by decide) rfl dX5_carry_2_166 ?_
            refine jr_iload hX rfl dX5_carry_2_168 ?_
            refine jr_iload hX rfl dX5_carry_2_170 ?_
            refine jr_iload hX rfl dX5_carry_2_172 ?_
            refine jr_icmp_ge hX (tgt := 181) (by decide) dX5_carry_2_174 (fun c_174 => absurd c_174 (nI_ge hlt (by omega))) (fun c_174 => ?_)
            refine jr_iconst (v := 1) hX rfl dX5_carry_2_177 ?_
            refine jr_goto hX (tgt := 182) (by decide) dX5_carry_2_178 ?_
            refine jr_iadd hX dX5_carry_2_182 ?_
            rw [nI_1]
            refine jr_istore hX (by decide) rfl dX5_carry_2_183 ?_
            refine jr_goto hX (tgt := 6) (by decide) dX5_carry_2_185 ?_
            refine jr_lvm [(5, .ref q), (6, .int (nI (v + 1))), (4, .int (nI a)), (1, .int (nI k)), (0, .ref (ad 31 0 0))] rfl ?_
            refine jr_wk (bc' := a - (v + 1)) (bs' := 4 * (a - (v + 1))) (by omega) (by omega) (ih _ (by omega) (v + 1) q (s_cf S k v f) _ rfl (by omega) (hnw.trans (jNw.new hq0)) jup_s (by omega) (Or.inr ⟨by omega, hqG, hqA⟩) ?_)
            rw [← heq, show s_car S k v a f = s_car S k (v + 1) a (s_cf S k v f) from by unfold s_car; rw [if_pos (by omega), if_pos (by omega), s_fwd_s (by omega)]]
          · have hi2 : i < (s_ver S (v + 1)).2.1 k := Nat.not_le.mp fun z => c_90 (nI_le z (by omega))
            refine jr_iconst (v := 4) hX rfl dX5_carry_2_93 ?_
            refine jr_iload_n (i := 1) hX rfl rfl dX5_carry_2_94 ?_
            refine jr_imul hX dX5_carry_2_95 ?_
            rw [show (4 : Int32) * nI k = nI (4 * k) from nI_mul 4 k]
            refine jr_iload hX rfl dX5_carry_2_96 ?_
            refine jr_iadd hX dX5_carry_2_98 ?_
            rw [nI_add]
            refine jr_istore hX (by decide) rfl dX5_carry_2_99 ?_
            refine jr_aload hX rfl dX5_carry_2_101 ?_
            refine jr_iload hX rfl dX5_carry_2_103 ?_
            refine jr_iload hX rfl dX5_carry_2_105 ?_
            refine jr_iload hX rfl dX5_carry_2_107 ?_
            refine jr_icmp_ge hX (tgt := 136) (by decide) dX5_carry_2_109 (fun c_109 => absurd c_109 (nI_ge hlt (by omega))) (fun c_109 => ?_)
            refine jr_aload hX rfl dX5_carry_2_112 ?_
            refine jr_aload hX rfl dX5_carry_2_114 ?_
            refine jr_getN (ci := 12) (k := 2) hX (jup_f (hnw _ _ hVp) hq0) rfl in_X6 (by decide) q1687 rfl dX5_carry_2_116 ?_
            refine jr_iload hX rfl dX5_carry_2_119 ?_
            refine jr_iald hX (jup_f (hnw _ _ (mo_cry hR (v := (v + 1)) (j := 0) (by omega) (by decide))) hq0) (vp_in_nI (by omega) (by omega)) dX5_carry_2_121 ?_
            refine jr_topi (fun y1 hy1 => ?_)
            have ey1 : y1 = (s_ver S (v + 1)).2.2.1 (2 * k) i := by
              rw [hy1, nI_clamp (by omega)]
              show (if 0 = 0 then _ else if 0 = 1 then _ else if 0 = 2 then _ else _) = _
              simp only [if_true, Nat.reduceEqDiff, if_false]
              rw [show (4 * k + i) / 4 = k by omega, show (4 * k + i) % 4 = i by omega]
            rw [ey1]
            refine jr_aload hX rfl dX5_carry_2_122 ?_
            refine jr_getN (ci := 12) (k := 3) hX (jup_f (hnw _ _ hVp) hq0) rfl in_X6 (by decide) q1689 rfl dX5_carry_2_124 ?_
            refine jr_iload hX rfl dX5_carry_2_127 ?_
            refine jr_iald hX (jup_f (hnw _ _ (mo_cry hR (v := (v + 1)) (j := 1) (by omega) (by decide))) hq0) (vp_in_nI (by omega) (by omega)) dX5_carry_2_129 ?_
            refine jr_topi (fun y2 hy2 => ?_)
            have ey2 : y2 = (s_ver S (v + 1)).2.2.2.1 (2 * k) i := by
              rw [hy2, nI_clamp (by omega)]
              show (if 1 = 0 then _ else if 1 = 1 then _ else if 1 = 2 then _ else _) = _
              simp only [if_true, Nat.reduceEqDiff, if_false]
              rw [show (4 * k + i) / 4 = k by omega, show (4 * k + i) % 4 = i by omega]
            rw [ey2]
            refine jr_callS (As := [.ref fl, .int ((s_ver S (v + 1)).2.2.1 (2 * k) i), .int ((s_ver S (v + 1)).2.2.2.1 (2 * k) i)]) (bc1 := ((a - v) - 1)) (bs1 := (4 * (a - v) - 4)) hX (mm_carried l D s0 b0 A _ fl ((s_ver S v).2.1 k) f (jup_f hfl hq0) (by omega) ((s_ver S (v + 1)).2.2.1 (2 * k) i) ((s_ver S (v + 1)).2.2.2.1 (2 * k) i) (hfr i (by omega))) (va_cwS 3 hX.ts (lw_S q1968 q1969 q78 q1970) rfl rfl rfl (by decide +kernel) ⟨Nat.le_of_ble_eq_true rfl, Nat.le_of_ble_eq_true rfl⟩) rfl (Nat.le_of_ble_eq_true rfl) (by first | omega | (dsimp only; omega) | (show _ ≤ _; simp only []; omega)) (by first | omega | (dsimp only; omega) | (show _ ≤ _; simp only []; omega)) rfl dX5_carry_2_130 (fun v_130 G_130 hp_130 => ?_)
            obtain ⟨rfl, e9⟩ := hp_130
            rw [e9]
            refine jr_goto hX (tgt := 157) (by decide) dX5_carry_2_133 ?_
            refine jr_iast hX jup_s (vp_in_nI (by omega) (by omega)) dX5_carry_2_157 ?_
            rw [jup_jup, nI_clamp (by omega)]
            refine jr_iinc (w := 1) hX rfl rfl (by decide) rfl dX5_carry_2_158 ?_
            rw [show nI i + 1 = nI (i + 1) from nI_1 i]
            refine jr_goto hX (tgt := 85) (by decide) dX5_carry_2_161 ?_
            refine jr_lvm [(10, .int (nI (i + 1))), (9, .ref q), (7, .ref (ad 37 (v + 1) 0)), (5, .ref fl), (6, .int (nI v)), (4, .int (nI a)), (1, .int (nI k)), (0, .ref (ad 31 0 0))] rfl ?_
            refine ihi _ (by omega) (i + 1) _ rfl (by omega) (fun j hj => ?_)
            show upd g i _ j = _
            by_cases e : j = i
            · subst e
              simp only [upd, if_true]
              show _ = s_of _ _ _ j
              unfold s_of
              exact Int32.add_comm _ _
            · simp only [upd, if_neg e]
              exact hg j (by omega)
        refine jr_lvm [(10, .int (nI 0)), (9, .ref q), (7, .ref (ad 37 (v + 1) 0)), (5, .ref fl), (6, .int (nI v)), (4, .int (nI a)), (1, .int (nI k)), (0, .ref (ad 31 0 0))] rfl ?_
        exact loopi _ 0 (fun _ => 0) rfl (Nat.zero_le _) (fun j hj => absurd hj (Nat.not_lt_zero j))
    refine jr_lvm [(5, .ref fl0), (6, .int (nI v0)), (4, .int (nI a)), (1, .int (nI k)), (0, .ref (ad 31 0 0))] rfl ?_
    exact jr_wk (by omega) (by omega) (loopF _ v0 fl0 f0 G rfl hle jNw.refl hfl0 ⟨Nat.le_refl _, hv0⟩ (Or.inl ⟨rfl, rfl, rfl⟩) rfl)
  · have loopB : ∀ (n9 : Nat) (v fl : Nat) (f : Nat → Int32) (Gc : jG), v - a = n9 → a ≤ v → jNw G Gc → Gc fl = some (ji D ((s_ver S v).2.1 k) f) → v ≤ v0 ∧ v < s_m S → ((v = v0 ∧ fl = fl0 ∧ Gc = G) ∨ (v ≠ v0 ∧ G fl = none ∧ A fl)) → s_car S k v a f = s_car S k v0 a f0 → Jg p l e (jR 4 5 20) s m args below meth c (MQ below (jQ D A (fun w G1 => ∃ q, w = some (.ref q) ∧ jNw G G1 ∧ G1 q = some (ji D ((s_ver S a).2.1 k) (s_car S k v0 a f0)) ∧ ((v0 = a ∧ q = fl0 ∧ G1 = G) ∨ (v0 ≠ a ∧ G q = none ∧ A q)))) args s 5 20 A) D A 12 Gc (v - a) (4 * (v - a)) 6 [(5, .ref fl), (6, .int (nI v)), (4, .int (nI a)), (1, .int (nI k)), (0, .ref (ad 31 0 0))] [] := by
      intro n9
      induction n9 using Nat.strongRecOn with
      | ind n9 ih0 =>
      intro v fl f Gc hn9 hva9 hnw hfl hrg hor heq
      have ih : ∀ m9, m9 < n9 → ∀ (v fl : Nat) (f : Nat → Int32) (Gc : jG), v - a = m9 → a ≤ v → jNw G Gc → Gc fl = some (ji D ((s_ver S v).2.1 k) f) → v ≤ v0 ∧ v < s_m S → ((v = v0 ∧ fl = fl0 ∧ Gc = G) ∨ (v ≠ v0 ∧ G fl = none ∧ A fl)) → s_car S k v a f = s_car S k v0 a f0 → Jg p l e (jR 4 5 20) s m args below meth c (MQ below (jQ D A (fun w G1 => ∃ q, w = some (.ref q) ∧ jNw G G1 ∧ G1 q = some (ji D ((s_ver S a).2.1 k) (s_car S k v0 a f0)) ∧ ((v0 = a ∧ q = fl0 ∧ G1 = G) ∨ (v0 ≠ a ∧ G q = none ∧ A q)))) args s 5 20 A) D A 12 Gc (v - a) (4 * (v - a)) 6 [(5, .ref fl), (6, .int (nI v)), (4, .int (nI a)), (1, .int (nI k)), (0, .ref (ad 31 0 0))] [] := fun m9 hm => ih0 m9 hm
      refine jr_iload hX rfl dX5_carry_2_6 ?_
      refine jr_iload hX rfl dX5_carry_2_8 ?_
      refine jr_icmp_eq hX (tgt := 188) (by decide) dX5_carry_2_10 (fun c_10 => ?_) (fun c_10 => ?_)
      · refine jr_aload hX rfl dX5_carry_2_188 ?_
        have hva : v = a := (nI_eq (by omega) (by omega)).mp c_10
        refine jr_aret hX hlk hr (Or.inr ⟨_, rfl⟩) (Or.inr ⟨_, rfl⟩) ⟨fl, rfl, hnw, ?_, ?_⟩ dX5_carry_2_190
        · rw [← heq, hva, s_car_id, ← hva]; exact hfl
        · rcases hor with ⟨z1, z2, z3⟩ | ⟨z1, z2, z3⟩
          · exact Or.inl ⟨z1.symm.trans hva, z2, z3⟩
          · exact Or.inr ⟨fun z => z1 (by omega), z2, z3⟩
      · have hlt : a < v := by
          have h9 : v ≠ a := fun z => c_10 (by rw [z])
          omega
        have hxp : v < (s_v S).length := by omega
        have hxn : (v - 1) < (s_v S).length := by omega
        have hVp := mo_ver hR hxp
        have hVn := mo_ver hR hxn
        have hnp := (hv.2.2 (v - 1) hxn).2.1 k hk
        have hnv := (hv.2.2 v (by omega)).2.1 k hk
        have hfr : ∀ i, i < (s_ver S (v - 1)).2.1 k → (s_ver S v).2.2.1 (2 * k + 1) i = -1 ∨ ∃ j, j < (s_ver S v).2.1 k ∧ (s_ver S v).2.2.1 (2 * k + 1) i = nI j := fun i hi => by
          have h9 := (hv.2.2 v hxp).2.2.2 (2 * k + 1) i (by omega) (by omega) (by rw [s_cl_b.1]; exact hi)
          rw [s_cl_b.2] at h9
          exact h9
        refine jr_aload_n (i := 0) hX rfl rfl dX5_carry_2_13 ?_
        refine jr_get (ci := 11) (k := 1) hX (hnw _ _ hxx) rfl in_X5 (by decide) q1731 rfl dX5_carry_2_14 ?_
        refine jr_iload hX rfl dX5_carry_2_17 ?_
        refine jr_iload hX rfl dX5_carry_2_19 ?_
        refine jr_icmp_ge hX (tgt := 31) (by decide) dX5_carry_2_21 (fun c_21 => ?_) (fun c_21 => absurd (nI_le (by omega) (by omega)) c_21)
        refine jr_iload hX rfl dX5_carry_2_31 ?_
        refine jr_callV (As := [.int (nI v)]) (bc1 := (v - a)) (bs1 := (4 * (v - a))) hX (met_get l D s0 b0 A _ (ad 32 0 0) (s_rg (s_m S) (fun v => ad 37 v 0)) moV capV eaV (hnw.jLS hVL) v (ad 37 v 0) (rg_at (by omega))) (cwV 1 hX.ts (lw_V q1712 q304 q2203 q68 q306) rfl rfl rfl (by decide +kernel) ⟨Nat.le_of_ble_eq_true rfl, Nat.le_of_ble_eq_true rfl⟩) (hnw.jLS hVL).1 rfl rfl (Nat.le_of_ble_eq_true rfl) (by first | omega | (dsimp only; omega) | (show _ ≤ _; simp only []; omega)) (by first | omega | (dsimp only; omega) | (show _ ≤ _; simp only []; omega)) rfl dX5_carry_2_33 (fun v_33 G_33 hp_33 => ?_)
        obtain ⟨rfl, e9⟩ := hp_33
        rw [e9]
        refine jr_castS hX (hnw _ _ hVp) rfl q1666 dX5_carry_2_36 ?_
        refine jr_astore hX (by decide) rfl dX5_carry_2_39 ?_
        refine jr_aload_n (i := 0) hX rfl rfl dX5_carry_2_41 ?_
        refine jr_get (ci := 11) (k := 1) hX (hnw _ _ hxx) rfl in_X5 (by decide) q1731 rfl dX5_carry_2_42 ?_
        refine jr_iload hX rfl dX5_carry_2_45 ?_
        refine jr_iload hX rfl dX5_carry_2_47 ?_
        refine jr_icmp_ge hX (tgt := 59) (by decide) dX5_carry_2_49 (fun c_49 => ?_) (fun c_49 => absurd (nI_le (by omega) (by omega)) c_49)
        refine jr_iload hX rfl dX5_carry_2_59 ?_
        refine jr_iconst (v := 1) hX rfl dX5_carry_2_61 ?_
        refine jr_isub hX dX5_carry_2_62 ?_
        rw [nI_s1 (by omega)]
        refine jr_callV (As := [.int (nI (v - 1))]) (bc1 := (v - a)) (bs1 := (4 * (v - a))) hX (met_get l D s0 b0 A _ (ad 32 0 0) (s_rg (s_m S) (fun v => ad 37 v 0)) moV capV eaV (hnw.jLS hVL) (v - 1) (ad 37 (v - 1) 0) (rg_at (by omega))) (cwV 1 hX.ts (lw_V q1712 q304 q2203 q68 q306) rfl rfl rfl (by decide +kernel) ⟨Nat.le_of_ble_eq_true rfl, Nat.le_of_ble_eq_true rfl⟩) (hnw.jLS hVL).1 rfl rfl (Nat.le_of_ble_eq_true rfl) (by first | omega | (dsimp only; omega) | (show _ ≤ _; simp only []; omega)) (by first | omega | (dsimp only; omega) | (show _ ≤ _; simp only []; omega)) rfl dX5_carry_2_63 (fun v_63 G_63 hp_63 => ?_)
        obtain ⟨rfl, e9⟩ := hp_63
        rw [e9]
        refine jr_castS hX (hnw _ _ hVn) rfl q1666 dX5_carry_2_66 ?_
        refine jr_astore hX (by decide) rfl dX5_carry_2_69 ?_
        refine jr_aload hX rfl dX5_carry_2_71 ?_
        refine jr_getN (ci := 12) (k := 1) hX (hnw _ _ hVn) rfl in_X6 (by decide) q1685 rfl dX5_carry_2_73 ?_
        refine jr_iload_n (i := 1) hX rfl rfl dX5_carry_2_76 ?_
        refine jr_iald hX (hnw _ _ (mo_nf hR hxn)) (nI3 hk) dX5_carry_2_77 ?_
        rw [nI_clamp (by omega)]
        refine jr_newi (N := (s_ver S (v - 1)).2.1 k) (bc1 := (v - a) - 1) (bs1 := 4 * (v - a) - 4) hX q295 (nI_pos (by omega)) (nI_clamp (by omega)) (by omega) (by omega) (by omega) dX5_carry_2_78 (fun q hq0 hqA => ?_)
        refine jr_astore hX (by decide) rfl dX5_carry_2_80 ?_
        refine jr_iconst (v := 0) hX rfl dX5_carry_2_82 ?_
        refine jr_istore hX (by decide) rfl dX5_carry_2_83 ?_
        have hqG : G q = none := by
          cases z : G q with
          | none => rfl
          | some y => rw [hnw _ _ z] at hq0; cases hq0
        have loopi : ∀ (n9 i : Nat) (g : Nat → Int32), ((s_ver S (v - 1)).2.1 k) - i = n9 → i ≤ (s_ver S (v - 1)).2.1 k → (∀ j, j < i → g j = (s_cb S k v f) j) → Jg p l e (jR 4 5 20) s m args below meth c (MQ below (jQ D A (fun w G1 => ∃ q, w = some (.ref q) ∧ jNw G G1 ∧ G1 q = some (ji D ((s_ver S a).2.1 k) (s_car S k v0 a f0)) ∧ ((v0 = a ∧ q = fl0 ∧ G1 = G) ∨ (v0 ≠ a ∧ G q = none ∧ A q)))) args s 5 20 A) D A 12 (jup Gc q (ji D ((s_ver S (v - 1)).2.1 k) g)) ((v - a) - 1) (4 * (v - a) - 4) 85 [(10, .int (nI i)), (9, .ref q), (7, .ref (ad 37 v 0)), (5, .ref fl), (6, .int (nI v)), (4, .int (nI a)), (1, .int (nI k)), (0, .ref (ad 31 0 0))] [] := by
          intro n9
          induction n9 using Nat.strongRecOn with
          | ind n9 ihi0 =>
          intro i g hn8 hil hg
          have ihi : ∀ m9, m9 < n9 → ∀ (i : Nat) (g : Nat → Int32), ((s_ver S (v - 1)).2.1 k) - i = m9 → i ≤ (s_ver S (v - 1)).2.1 k → (∀ j, j < i → g j = (s_cb S k v f) j) → Jg p l e (jR 4 5 20) s m args below meth c (MQ below (jQ D A (fun w G1 => ∃ q, w = some (.ref q) ∧ jNw G G1 ∧ G1 q = some (ji D ((s_ver S a).2.1 k) (s_car S k v0 a f0)) ∧ ((v0 = a ∧ q = fl0 ∧ G1 = G) ∨ (v0 ≠ a ∧ G q = none ∧ A q)))) args s 5 20 A) D A 12 (jup Gc q (ji D ((s_ver S (v - 1)).2.1 k) g)) ((v - a) - 1) (4 * (v - a) - 4) 85 [(10, .int (nI i)), (9, .ref q), (7, .ref (ad 37 v 0)), (5, .ref fl), (6, .int (nI v)), (4, .int (nI a)), (1, .int (nI k)), (0, .ref (ad 31 0 0))] [] := fun m9 hm => ihi0 m9 hm
          refine jr_iload hX rfl dX5_carry_2_85 ?_
          refine jr_aload hX rfl dX5_carry_2_87 ?_
          refine jr_alen (t := 0) hX jup_s rfl rfl dX5_carry_2_89 ?_
          refine jr_icmp_ge hX (tgt := 164) (by decide) dX5_carry_2_90 (fun c_90 => ?_) (fun c_90 => ?_)
          · have hi2 : ¬ i < (s_ver S (v - 1)).2.1 k := fun z => absurd c_90 (nI_ge z (by omega))
            refine jr_norm (s_cb S k v f) jup_s (fun j hj => hg j (by omega)) ?_
            rw [jup_jup]
            refine jr_aload hX rfl dX5_carry_2_164 ?_
            refine jr_astore hX (by decide) rfl dX5_carry_2_166 ?_
            refine jr_iload hX rfl dX5_carry_2_168 ?_
            refine jr_iload hX rfl dX5_carry_2_170 ?_
            refine jr_iload hX rfl dX5_carry_2_172 ?_
            refine jr_icmp_ge hX (tgt := 181) (by decide) dX5_carry_2_174 (fun c_174 => ?_) (fun c_174 => absurd (nI_le (by omega) (by omega)) c_174)
            refine jr_iconst (v := -1) hX rfl dX5_carry_2_181 ?_
            refine jr_iadd hX dX5_carry_2_182 ?_
            rw [show nI v + (-1) = nI v - 1 from (Int32.sub_eq_add_neg _ _).symm, nI_s1 (by omega)]
            refine jr_istore hX (by decide) rfl dX5_carry_2_183 ?_
            refine jr_goto hX (tgt := 6) (by decide) dX5_carry_2_185 ?_
            refine jr_lvm [(5, .ref q), (6, .int (nI (v - 1))), (4, .int (nI a)), (1, .int (nI k)), (0, .ref (ad 31 0 0))] rfl ?_
            refine jr_wk (bc' := (v - 1) - a) (bs' := 4 * ((v - 1) - a)) (by omega) (by omega) (ih _ (by omega) (v - 1) q (s_cb S k v f) _ rfl (by omega) (hnw.trans (jNw.new hq0)) jup_s (by omega) (Or.inr ⟨by omega, hqG, hqA⟩) ?_)
            rw [← heq, show s_car S k v a f = s_car S k (v - 1) a (s_cb S k v f) from by rw [car_bk (by omega), car_bk2 (by omega), s_bwd_s (by omega)]]
          · have hi2 : i < (s_ver S (v - 1)).2.1 k := Nat.not_le.mp fun z => c_90 (nI_le z (by omega))
            refine jr_iconst (v := 4) hX rfl dX5_carry_2_93 ?_
            refine jr_iload_n (i := 1) hX rfl rfl dX5_carry_2_94 ?_
            refine jr_imul hX dX5_carry_2_95 ?_
            rw [show (4 : Int32) * nI k = nI (4 * k) from nI_mul 4 k]
            refine jr_iload hX rfl dX5_carry_2_96 ?_
            refine jr_iadd hX dX5_carry_2_98 ?_
            rw [nI_add]
            refine jr_istore hX (by decide) rfl dX5_carry_2_99 ?_
            refine jr_aload hX rfl dX5_carry_2_101 ?_
            refine jr_iload hX rfl dX5_carry_2_103 ?_
            refine jr_iload hX rfl dX5_carry_2_105 ?_
            refine jr_iload hX rfl dX5_carry_2_107 ?_
            refine jr_icmp_ge hX (tgt := 136) (by decide) dX5_carry_2_109 (fun c_109 => ?_) (fun c_109 => absurd (nI_le (by omega) (by omega)) c_109)
            refine jr_aload hX rfl dX5_carry_2_136 ?_
            refine jr_aload hX rfl dX5_carry_2_138 ?_
            refine jr_getN (ci := 12) (k := 4) hX (jup_f (hnw _ _ hVp) hq0) rfl in_X6 (by decide) q1691 rfl dX5_carry_2_140 ?_
            refine jr_iload hX rfl dX5_carry_2_143 ?_
            refine jr_iald hX (jup_f (hnw _ _ (mo_cry hR (v := v) (j := 2) (by omega) (by decide))) hq0) (vp_in_nI (by omega) (by omega)) dX5_carry_2_145 ?_
            refine jr_topi (fun y1 hy1 => ?_)
            have ey1 : y1 = (s_ver S v).2.2.1 (2 * k + 1) i := by
              rw [hy1, nI_clamp (by omega)]
              show (if 2 = 0 then _ else if 2 = 1 then _ else if 2 = 2 then _ else _) = _
              simp only [if_true, Nat.reduceEqDiff, if_false]
              rw [show (4 * k + i) / 4 = k by omega, show (4 * k + i) % 4 = i by omega]
            rw [ey1]
            refine jr_aload hX rfl dX5_carry_2_146 ?_
            refine jr_getN (ci := 12) (k := 5) hX (jup_f (hnw _ _ hVp) hq0) rfl in_X6 (by decide) q1693 rfl dX5_carry_2_148 ?_
            refine jr_iload hX rfl dX5_carry_2_151 ?_
            refine jr_iald hX (jup_f (hnw _ _ (mo_cry hR (v := v) (j := 3) (by omega) (by decide))) hq0) (vp_in_nI (by omega) (by omega)) dX5_carry_2_153 ?_
            refine jr_topi (fun y2 hy2 => ?_)
            have ey2 : y2 = (s_ver S v).2.2.2.1 (2 * k + 1) i := by
              rw [hy2, nI_clamp (by omega)]
              show (if 3 = 0 then _ else if 3 = 1 then _ else if 3 = 2 then _ else _) = _
              simp only [if_true, Nat.reduceEqDiff, if_false]
              rw [show (4 * k + i) / 4 = k by omega, show (4 * k + i) % 4 = i by omega]
            rw [ey2]
            refine jr_callS (As := [.ref fl, .int ((s_ver S v).2.2.1 (2 * k + 1) i), .int ((s_ver S v).2.2.2.1 (2 * k + 1) i)]) (bc1 := ((v - a) - 1)) (bs1 := (4 * (v - a) - 4)) hX (mm_carried l D s0 b0 A _ fl ((s_ver S v).2.1 k) f (jup_f hfl hq0) (by omega) ((s_ver S v).2.2.1 (2 * k + 1) i) ((s_ver S v).2.2.2.1 (2 * k + 1) i) (hfr i (by omega))) (va_cwS 3 hX.ts (lw_S q1968 q1969 q78 q1970) rfl rfl rfl (by decide +kernel) ⟨Nat.le_of_ble_eq_true rfl, Nat.le_of_ble_eq_true rfl⟩) rfl (Nat.le_of_ble_eq_true rfl) (by first | omega | (dsimp only; omega) | (show _ ≤ _; simp only []; omega)) (by first | omega | (dsimp only; omega) | (show _ ≤ _; simp only []; omega)) rfl dX5_carry_2_154 (fun v_154 G_154 hp_154 => ?_)
            obtain ⟨rfl, e9⟩ := hp_154
            rw [e9]
            refine jr_iast hX jup_s (vp_in_nI (by omega) (by omega)) dX5_carry_2_157 ?_
            rw [jup_jup, nI_clamp (by omega)]
            refine jr_iinc (w := 1) hX rfl rfl (by decide) rfl dX5_carry_2_158 ?_
            rw [show nI i + 1 = nI (i + 1) from nI_1 i]
            refine jr_goto hX (tgt := 85) (by decide) dX5_carry_2_161 ?_
            refine jr_lvm [(10, .int (nI (i + 1))), (9, .ref q), (7, .ref (ad 37 v 0)), (5, .ref fl), (6, .int (nI v)), (4, .int (nI a)), (1, .int (nI k)), (0, .ref (ad 31 0 0))] rfl ?_
            refine ihi _ (by omega) (i + 1) _ rfl (by omega) (fun j hj => ?_)
            show upd g i _ j = _
            by_cases e : j = i
            · subst e
              simp only [upd, if_true]
              show _ = s_of _ _ _ j
              unfold s_of
              exact Int32.add_comm _ _
            · simp only [upd, if_neg e]
              exact hg j (by omega)
        refine jr_lvm [(10, .int (nI 0)), (9, .ref q), (7, .ref (ad 37 v 0)), (5, .ref fl), (6, .int (nI v)), (4, .int (nI a)), (1, .int (nI k)), (0, .ref (ad 31 0 0))] rfl ?_
        exact loopi _ 0 (fun _ => 0) rfl (Nat.zero_le _) (fun j hj => absurd hj (Nat.not_lt_zero j))
    refine jr_lvm [(5, .ref fl0), (6, .int (nI v0)), (4, .int (nI a)), (1, .int (nI k)), (0, .ref (ad 31 0 0))] rfl ?_
    exact jr_wk (by omega) (by omega) (loopB _ v0 fl0 f0 G rfl (by omega) jNw.refl hfl0 ⟨Nat.le_refl _, hv0⟩ (Or.inl ⟨rfl, rfl, rfl⟩) rfl)
