/-! fields in other versions -/
def sWo (S : sSt) : Prop := (s_o S).length ≤ 30 ∧ ∀ (i : Nat) (t : sTh), (s_o S)[i]? = some t → t.1 < s_m S ∧ t.2.1 < 3
theorem s_fwd_s {S : sSt} {k v a : Nat} {f : Nat → Int32} (h : v < a) : s_fwd S k (a - v) v f = s_fwd S k (a - (v + 1)) (v + 1) (s_cf S k v f) := by
  rw [show a - v = (a - (v + 1)) + 1 by omega]
  rfl
theorem s_bwd_s {S : sSt} {k v a : Nat} {f : Nat → Int32} (h : a < v) : s_bwd S k (v - a) v f = s_bwd S k (v - 1 - a) (v - 1) (s_cb S k v f) := by
  rw [show v - a = (v - 1 - a) + 1 by omega]
  rfl

set_option maxHeartbeats 4000000 in
set_option maxRecDepth 100000 in
theorem met_fieldsIn (l : Launch) (D : va_G) (s0 : State) (b0 : Nat) (A : Nat → Prop) (G : jG) (S : sSt) (ad : jN) (T : jT) (hR : jCo D s0 b0 S ad T G) (i : Nat) (t : sTh) (ht : (s_o S)[i]? = some t) (hk : t.2.1 < 3) (htv : t.1 < s_m S) (a : Nat) (ha : a < s_m S) (hv : sWv S) : jM l yX15_fieldsIn (ws_ yX15_fieldsIn cX15_fieldsIn 5 (some (.array .int))) (jR 3 5 20) D s0 b0 A G [.ref (ad 16 i 0), .int (nI a), .ref (ad 2 0 0)] (fun w G1 => ∃ q, w = some (.ref q) ∧ jNw G G1 ∧ G1 q = some (ji D ((s_ver S a).2.1 t.2.1) (s_car S t.2.1 t.1 a t.2.2)) ∧ ((t.1 = a ∧ q = ad 17 i 0 ∧ G1 = G) ∨ (t.1 ≠ a ∧ G q = none ∧ A q))) := by
  have hT := co_th hR ht
  have hTF := co_thf hR ht
  have hmm : s_m S = (s_v S).length - 1 := rfl
  have hvl := hv.1
  have hvu := hv.2.1
  obtain ⟨moV, capV, eaV, hVL, -, hVc, -⟩ := co_vs hR
  refine jM.of (by decide +kernel) (own := RX15) rfl (Nat.le_of_ble_eq_true rfl) ?_
  intro p e s m args below meth c hX hr hlk hnm
  refine jr_aload_n (i := 0) hX rfl rfl dX15_fieldsIn_0 ?_
  refine jr_get (ci := 7) (k := 2) hX hT rfl in_X15 (by decide) q1177 rfl dX15_fieldsIn_1 ?_
  refine jr_astore_n (i := 3) hX rfl (by decide) rfl dX15_fieldsIn_4 ?_
  refine jr_aload_n (i := 0) hX rfl rfl dX15_fieldsIn_5 ?_
  refine jr_callU (As := []) (bc1 := (5)) (bs1 := (20)) hX (met_version_t l D s0 b0 A _ (ad 16 i 0) _ _ _ hT) (va_cwU 0 hX.ts (lw_U q1105 q1106 q1108 q1109 q98 q1110) rfl rfl rfl rfl (by decide +kernel) ⟨Nat.le_of_ble_eq_true rfl, Nat.le_of_ble_eq_true rfl⟩) hT rfl rfl (Nat.le_of_ble_eq_true rfl) (by first | omega | (dsimp only; omega) | (show _ ≤ _; simp only []; omega)) (by first | omega | (dsimp only; omega) | (show _ ≤ _; simp only []; omega)) rfl dX15_fieldsIn_6 (fun v_6 G_6 hp_6 => ?_)
  obtain ⟨rfl, e9⟩ := hp_6
  rw [e9]
  refine jr_istore hX (by decide) rfl dX15_fieldsIn_9 ?_
  by_cases hle : t.1 ≤ a
  · have loop : ∀ (n v q : Nat) (Gc : jG) (fl : Nat → Int32), a - v = n → t.1 ≤ v → v ≤ a → jNw G Gc → Gc q = some (ji D ((s_ver S v).2.1 t.2.1) fl) → ((v = t.1 ∧ q = ad 17 i 0 ∧ Gc = G) ∨ (v ≠ t.1 ∧ G q = none ∧ A q)) → s_fwd S t.2.1 (a - v) v fl = s_fwd S t.2.1 (a - t.1) t.1 t.2.2 → Jg p l e (jR 3 5 20) s m args below meth c (MQ below (jQ D A (fun w G1 => ∃ q, w = some (.ref q) ∧ jNw G G1 ∧ G1 q = some (ji D ((s_ver S a).2.1 t.2.1) (s_car S t.2.1 t.1 a t.2.2)) ∧ ((t.1 = a ∧ q = ad 17 i 0 ∧ G1 = G) ∨ (t.1 ≠ a ∧ G q = none ∧ A q)))) args s 5 20 A) D A 5 Gc (5 - (v - t.1)) (4 * (5 - (v - t.1))) 11 [(4, .int (nI v)), (3, .ref q), (0, .ref (ad 16 i 0)), (1, .int (nI a)), (2, .ref (ad 2 0 0))] [] := by
      intro n
      induction n using Nat.strongRecOn with
      | ind n ih0 =>
      intro v q Gc fl hn9 h1 h2 hnw hq hor hfl
      have ih : ∀ m9, m9 < n → ∀ (v q : Nat) (Gc : jG) (fl : Nat → Int32), a - v = m9 → t.1 ≤ v → v ≤ a → jNw G Gc → Gc q = some (ji D ((s_ver S v).2.1 t.2.1) fl) → ((v = t.1 ∧ q = ad 17 i 0 ∧ Gc = G) ∨ (v ≠ t.1 ∧ G q = none ∧ A q)) → s_fwd S t.2.1 (a - v) v fl = s_fwd S t.2.1 (a - t.1) t.1 t.2.2 → Jg p l e (jR 3 5 20) s m args below meth c (MQ below (jQ D A (fun w G1 => ∃ q, w = some (.ref q) ∧ jNw G G1 ∧ G1 q = some (ji D ((s_ver S a).2.1 t.2.1) (s_car S t.2.1 t.1 a t.2.2)) ∧ ((t.1 = a ∧ q = ad 17 i 0 ∧ G1 = G) ∨ (t.1 ≠ a ∧ G q = none ∧ A q)))) args s 5 20 A) D A 5 Gc (5 - (v - t.1)) (4 * (5 - (v - t.1))) 11 [(4, .int (nI v)), (3, .ref q), (0, .ref (ad 16 i 0)), (1, .int (nI a)), (2, .ref (ad 2 0 0))] [] := fun m9 hm => ih0 m9 hm
      refine jr_iload hX rfl dX15_fieldsIn_11 ?_
      refine jr_iload_n (i := 1) hX rfl rfl dX15_fieldsIn_13 ?_
      refine jr_icmp_ge hX (tgt := 49) (by decide) dX15_fieldsIn_14 (fun c_14 => ?_) (fun c_14 => ?_)
      · have hav : a ≤ v := Nat.not_lt.mp fun z => absurd c_14 (nI_ge z (by omega))
        refine jr_aload_n (i := 0) hX rfl rfl dX15_fieldsIn_49 ?_
        refine jr_callU (As := []) (bc1 := (5 - (v - t.1))) (bs1 := (4 * (5 - (v - t.1)))) hX (met_version_t l D s0 b0 A _ (ad 16 i 0) _ _ _ (hnw _ _ hT)) (va_cwU 0 hX.ts (lw_U q1105 q1106 q1108 q1109 q98 q1110) rfl rfl rfl rfl (by decide +kernel) ⟨Nat.le_of_ble_eq_true rfl, Nat.le_of_ble_eq_true rfl⟩) (hnw _ _ hT) rfl rfl (Nat.le_of_ble_eq_true rfl) (by first | omega | (dsimp only; omega) | (show _ ≤ _; simp only []; omega)) (by first | omega | (dsimp only; omega) | (show _ ≤ _; simp only []; omega)) rfl dX15_fieldsIn_50 (fun v_50 G_50 hp_50 => ?_)
        obtain ⟨rfl, e9⟩ := hp_50
        rw [e9]
        refine jr_istore hX (by decide) rfl dX15_fieldsIn_53 ?_
        refine jr_iload hX rfl dX15_fieldsIn_55 ?_
        refine jr_iload_n (i := 1) hX rfl rfl dX15_fieldsIn_57 ?_
        refine jr_icmp_le hX (tgt := 91) (by decide) dX15_fieldsIn_58 (fun _ => ?_) (fun z => absurd (nI_le (by omega) (by omega)) z)
        refine jr_aload_n (i := 3) hX rfl rfl dX15_fieldsIn_91 ?_
        have hva : a = v := by omega
        exact jr_aret hX hlk hr (Or.inr ⟨_, rfl⟩) (Or.inr ⟨_, rfl⟩) ⟨q, rfl, hnw, by
          have e : v = a := by omega
          subst e
          rw [hq]
          unfold s_car
          rw [if_pos hle]
          rw [Nat.sub_self] at hfl
          rw [← hfl]; rfl, by
          rcases hor with ⟨e1, e2, e3⟩ | ⟨e1, e2, e3⟩
          · exact Or.inl ⟨by omega, e2, e3⟩
          · exact Or.inr ⟨by omega, e2, e3⟩⟩ dX15_fieldsIn_92
      · have hvlt : v < a := Nat.not_le.mp fun z => c_14 (nI_le z (by omega))
        refine jr_aload_n (i := 2) hX rfl rfl dX15_fieldsIn_17 ?_
        refine jr_iload hX rfl dX15_fieldsIn_18 ?_
        refine jr_iconst (v := 1) hX rfl dX15_fieldsIn_20 ?_
        refine jr_iadd hX dX15_fieldsIn_21 ?_
        rw [nI_1]
        refine jr_callF (As := [.int (nI (v + 1))]) (bc1 := (5 - (v - t.1))) (bs1 := (4 * (5 - (v - t.1)))) hX (met_get l D s0 b0 A _ (ad 2 0 0) (s_rg (s_m S) (fun v => ad 7 v 0)) moV capV eaV (hnw.jLS hVL) (v + 1) (ad 7 (v + 1) 0) (rg_at (by omega))) (va_cwF 1 hX.ts (lw_F q1112 q302 q304 q68 q306) rfl rfl rfl (hX.S.fw ⟨by decide +kernel, by decide +kernel⟩ q301 q300 q305 q303 q183) (by decide +kernel) ⟨Nat.le_of_ble_eq_true rfl, Nat.le_of_ble_eq_true rfl⟩) (hnw _ _ hVL.1) rfl rfl (Nat.le_of_ble_eq_true rfl) (by first | omega | (dsimp only; omega) | (show _ ≤ _; simp only []; omega)) (by first | omega | (dsimp only; omega) | (show _ ≤ _; simp only []; omega)) rfl dX15_fieldsIn_22 (fun v_22 G_22 hp_22 => ?_)
        obtain ⟨rfl, e9⟩ := hp_22
        rw [e9]
        refine jr_castS hX (hnw _ _ (co_ver hR (v := v + 1) (by omega))) rfl q1113 dX15_fieldsIn_27 ?_
        refine jr_getN (ci := 4) (k := 2) hX (hnw _ _ (co_ver hR (v := v + 1) (by omega))) rfl in_X3 (by decide) q277 rfl dX15_fieldsIn_30 ?_
        refine jr_aload_n (i := 0) hX rfl rfl dX15_fieldsIn_33 ?_
        refine jr_get (ci := 7) (k := 1) hX (hnw _ _ hT) rfl in_X15 (by decide) q1176 rfl dX15_fieldsIn_34 ?_
        refine jr_aald (t := 3) (v := .ref (ad 15 (v + 1) (2 * t.2.1 + 0))) hX (hnw _ _ (co_fb hR (v := v + 1) (j := 0) (by omega) (by omega) (by omega))) rfl rfl (nI3 hk) (by rw [nI_clamp (by omega)]; rfl) dX15_fieldsIn_37 ?_
        refine jr_aload_n (i := 3) hX rfl rfl dX15_fieldsIn_38 ?_
        refine jr_callV (As := [.ref q]) (bc1 := ((5 - (v + 1 - t.1)))) (bs1 := ((4 * (5 - (v + 1 - t.1))))) hX (met_of l D s0 b0 A _ (ad 15 (v + 1) (2 * t.2.1 + 0)) (ad 21 (v + 1) (2 * t.2.1 + 0)) (ad 22 (v + 1) (2 * t.2.1 + 0)) q (s_cl S (v + 1) (2 * t.2.1)) ((s_ver S v).2.1 t.2.1) _ _ fl (hnw _ _ (co_car hR (by omega) (by omega) (by omega))) (hnw _ _ (co_from hR (by omega) (by omega) (by omega))) (hnw _ _ (co_num hR (by omega) (by omega) (by omega))) hq (by rw [(s_cl_f (S := S) (v := v + 1) (k := t.2.1)).1]; exact ((hv.2.2 _ (by omega)).2.1 _ hk).2) ((hv.2.2 v (by omega)).2.1 _ hk).2 (fun i9 hi9 => by have h9 := (hv.2.2 (v + 1) (by omega)).2.2.2 (2 * t.2.1) i9 (by omega) (by omega) hi9; rw [(s_cl_f (S := S) (v := v + 1) (k := t.2.1)).2] at h9; exact h9)) (cwV 1 hX.ts (lw_V q1114 q1115 q1116 q77 q1117) rfl rfl rfl (by decide +kernel) ⟨Nat.le_of_ble_eq_true rfl, Nat.le_of_ble_eq_true rfl⟩) (hnw _ _ (co_car hR (v := v + 1) (j := 2 * t.2.1 + 0) (by omega) (by omega) (by omega))) rfl rfl (Nat.le_of_ble_eq_true rfl) (by show _ + 1 ≤ _; omega) (by show _ + 4 ≤ _; omega) rfl dX15_fieldsIn_39 (fun v_39 G_39 hp_39 => ?_)
        obtain ⟨q1, rfl, hq1, hq1A, e9⟩ := hp_39
        rw [e9, (s_cl_f (S := S) (v := v + 1) (k := t.2.1)).1]
        refine jr_astore_n (i := 3) hX rfl (by decide) rfl dX15_fieldsIn_42 ?_
        refine jr_iinc (w := 1) hX rfl rfl (by decide) rfl dX15_fieldsIn_43 ?_
        refine jr_goto hX (tgt := 11) (by decide) dX15_fieldsIn_46 ?_
        rw [show nI v + 1 = nI (v + 1) from nI_1 v]
        refine jr_lvm [(4, .int (nI (v + 1))), (3, .ref q1), (0, .ref (ad 16 i 0)), (1, .int (nI a)), (2, .ref (ad 2 0 0))] rfl ?_
        refine ih _ (by omega) (v + 1) q1 _ _ rfl (by omega) (by omega) (hnw.trans (jNw.new hq1)) jup_s (Or.inr ⟨by omega, ?_, hq1A⟩) (by rw [← hfl]; exact (s_fwd_s (by omega)).symm)
        cases z : G q1 with
        | none => rfl
        | some y => rw [hnw _ _ z] at hq1; cases hq1
    refine jr_lvm [(4, .int (nI t.1)), (3, .ref (ad 17 i 0)), (0, .ref (ad 16 i 0)), (1, .int (nI a)), (2, .ref (ad 2 0 0))] rfl ?_
    have h0 := loop _ t.1 (ad 17 i 0) G t.2.2 rfl (Nat.le_refl _) hle jNw.refl hTF (Or.inl ⟨rfl, rfl, rfl⟩) rfl
    rw [Nat.sub_self] at h0
    exact h0
  · refine jr_iload hX rfl dX15_fieldsIn_11 ?_
    refine jr_iload_n (i := 1) hX rfl rfl dX15_fieldsIn_13 ?_
    refine jr_icmp_ge hX (tgt := 49) (by decide) dX15_fieldsIn_14 (fun _ => ?_) (fun z => absurd (nI_le (by omega) (by omega)) z)
    refine jr_aload_n (i := 0) hX rfl rfl dX15_fieldsIn_49 ?_
    refine jr_callU (As := []) (bc1 := (5)) (bs1 := (20)) hX (met_version_t l D s0 b0 A _ (ad 16 i 0) _ _ _ hT) (va_cwU 0 hX.ts (lw_U q1105 q1106 q1108 q1109 q98 q1110) rfl rfl rfl rfl (by decide +kernel) ⟨Nat.le_of_ble_eq_true rfl, Nat.le_of_ble_eq_true rfl⟩) hT rfl rfl (Nat.le_of_ble_eq_true rfl) (by first | omega | (dsimp only; omega) | (show _ ≤ _; simp only []; omega)) (by first | omega | (dsimp only; omega) | (show _ ≤ _; simp only []; omega)) rfl dX15_fieldsIn_50 (fun v_50 G_50 hp_50 => ?_)
    obtain ⟨rfl, e9⟩ := hp_50
    rw [e9]
    refine jr_istore hX (by decide) rfl dX15_fieldsIn_53 ?_
    have loop : ∀ (n v q : Nat) (Gc : jG) (fl : Nat → Int32), v - a = n → v ≤ t.1 → a ≤ v → jNw G Gc → Gc q = some (ji D ((s_ver S v).2.1 t.2.1) fl) → ((v = t.1 ∧ q = ad 17 i 0 ∧ Gc = G) ∨ (v ≠ t.1 ∧ G q = none ∧ A q)) → s_bwd S t.2.1 (v - a) v fl = s_bwd S t.2.1 (t.1 - a) t.1 t.2.2 → Jg p l e (jR 3 5 20) s m args below meth c (MQ below (jQ D A (fun w G1 => ∃ q, w = some (.ref q) ∧ jNw G G1 ∧ G1 q = some (ji D ((s_ver S a).2.1 t.2.1) (s_car S t.2.1 t.1 a t.2.2)) ∧ ((t.1 = a ∧ q = ad 17 i 0 ∧ G1 = G) ∨ (t.1 ≠ a ∧ G q = none ∧ A q)))) args s 5 20 A) D A 5 Gc (5 - (t.1 - v)) (4 * (5 - (t.1 - v))) 55 [(4, .int (nI v)), (3, .ref q), (0, .ref (ad 16 i 0)), (1, .int (nI a)), (2, .ref (ad 2 0 0))] [] := by
      intro n
      induction n using Nat.strongRecOn with
      | ind n ih0 =>
      intro v q Gc fl hn9 h1 h2 hnw hq hor hfl
      have ih : ∀ m9, m9 < n → ∀ (v q : Nat) (Gc : jG) (fl : Nat → Int32), v - a = m9 → v ≤ t.1 → a ≤ v → jNw G Gc → Gc q = some (ji D ((s_ver S v).2.1 t.2.1) fl) → ((v = t.1 ∧ q = ad 17 i 0 ∧ Gc = G) ∨ (v ≠ t.1 ∧ G q = none ∧ A q)) → s_bwd S t.2.1 (v - a) v fl = s_bwd S t.2.1 (t.1 - a) t.1 t.2.2 → Jg p l e (jR 3 5 20) s m args below meth c (MQ below (jQ D A (fun w G1 => ∃ q, w = some (.ref q) ∧ jNw G G1 ∧ G1 q = some (ji D ((s_ver S a).2.1 t.2.1) (s_car S t.2.1 t.1 a t.2.2)) ∧ ((t.1 = a ∧ q = ad 17 i 0 ∧ G1 = G) ∨ (t.1 ≠ a ∧ G q = none ∧ A q)))) args s 5 20 A) D A 5 Gc (5 - (t.1 - v)) (4 * (5 - (t.1 - v))) 55 [(4, .int (nI v)), (3, .ref q), (0, .ref (ad 16 i 0)), (1, .int (nI a)), (2, .ref (ad 2 0 0))] [] := fun m9 hm => ih0 m9 hm
      refine jr_iload hX rfl dX15_fieldsIn_55 ?_
      refine jr_iload_n (i := 1) hX rfl rfl dX15_fieldsIn_57 ?_
      refine jr_icmp_le hX (tgt := 91) (by decide) dX15_fieldsIn_58 (fun c_58 => ?_) (fun c_58 => ?_)
      · have hav : v ≤ a := Nat.not_lt.mp fun z => absurd c_58 (nI_ge z (by omega))
        refine jr_aload_n (i := 3) hX rfl rfl dX15_fieldsIn_91 ?_
        have hva : a = v := by omega
        exact jr_aret hX hlk hr (Or.inr ⟨_, rfl⟩) (Or.inr ⟨_, rfl⟩) ⟨q, rfl, hnw, by
          have e : v = a := by omega
          subst e
          rw [hq]
          unfold s_car
          rw [if_neg (by omega)]
          rw [Nat.sub_self] at hfl
          rw [← hfl]; rfl, by
          rcases hor with ⟨e1, e2, e3⟩ | ⟨e1, e2, e3⟩
          · exact Or.inl ⟨by omega, e2, e3⟩
          · exact Or.inr ⟨by omega, e2, e3⟩⟩ dX15_fieldsIn_92
      · have hvlt : a < v := Nat.not_le.mp fun z => c_58 (nI_le z (by omega))
        refine jr_aload_n (i := 2) hX rfl rfl dX15_fieldsIn_61 ?_
        refine jr_iload hX rfl dX15_fieldsIn_62 ?_
        refine jr_callF (As := [.int (nI (v))]) (bc1 := (5 - (t.1 - v))) (bs1 := (4 * (5 - (t.1 - v)))) hX (met_get l D s0 b0 A _ (ad 2 0 0) (s_rg (s_m S) (fun v => ad 7 v 0)) moV capV eaV (hnw.jLS hVL) (v) (ad 7 (v) 0) (rg_at (by omega))) (va_cwF 1 hX.ts (lw_F q1112 q302 q304 q68 q306) rfl rfl rfl (hX.S.fw ⟨by decide +kernel, by decide +kernel⟩ q301 q300 q305 q303 q183) (by decide +kernel) ⟨Nat.le_of_ble_eq_true rfl, Nat.le_of_ble_eq_true rfl⟩) (hnw _ _ hVL.1) rfl rfl (Nat.le_of_ble_eq_true rfl) (by first | omega | (dsimp only; omega) | (show _ ≤ _; simp only []; omega)) (by first | omega | (dsimp only; omega) | (show _ ≤ _; simp only []; omega)) rfl dX15_fieldsIn_64 (fun v_64 G_64 hp_64 => ?_)
        obtain ⟨rfl, e9⟩ := hp_64
        rw [e9]
        refine jr_castS hX (hnw _ _ (co_ver hR (v := v) (by omega))) rfl q1113 dX15_fieldsIn_69 ?_
        refine jr_getN (ci := 4) (k := 3) hX (hnw _ _ (co_ver hR (v := v) (by omega))) rfl in_X3 (by decide) q280 rfl dX15_fieldsIn_72 ?_
        refine jr_aload_n (i := 0) hX rfl rfl dX15_fieldsIn_75 ?_
        refine jr_get (ci := 7) (k := 1) hX (hnw _ _ hT) rfl in_X15 (by decide) q1176 rfl dX15_fieldsIn_76 ?_
        refine jr_aald (t := 3) (v := .ref (ad 15 (v) (2 * t.2.1 + 1))) hX (hnw _ _ (co_fb hR (v := v) (j := 1) (by omega) (by omega) (by omega))) rfl rfl (nI3 hk) (by rw [nI_clamp (by omega)]; rfl) dX15_fieldsIn_79 ?_
        refine jr_aload_n (i := 3) hX rfl rfl dX15_fieldsIn_80 ?_
        refine jr_callV (As := [.ref q]) (bc1 := ((5 - (t.1 - (v - 1))))) (bs1 := ((4 * (5 - (t.1 - (v - 1)))))) hX (met_of l D s0 b0 A _ (ad 15 (v) (2 * t.2.1 + 1)) (ad 21 (v) (2 * t.2.1 + 1)) (ad 22 (v) (2 * t.2.1 + 1)) q (s_cl S (v) (2 * t.2.1 + 1)) ((s_ver S v).2.1 t.2.1) _ _ fl (hnw _ _ (co_car hR (by omega) (by omega) (by omega))) (hnw _ _ (co_from hR (by omega) (by omega) (by omega))) (hnw _ _ (co_num hR (by omega) (by omega) (by omega))) hq (by rw [(s_cl_b (S := S) (v := v) (k := t.2.1)).1]; exact ((hv.2.2 _ (by omega)).2.1 _ hk).2) ((hv.2.2 v (by omega)).2.1 _ hk).2 (fun i9 hi9 => by have h9 := (hv.2.2 (v) (by omega)).2.2.2 (2 * t.2.1 + 1) i9 (by omega) (by omega) hi9; rw [(s_cl_b (S := S) (v := v) (k := t.2.1)).2] at h9; exact h9)) (cwV 1 hX.ts (lw_V q1114 q1115 q1116 q77 q1117) rfl rfl rfl (by decide +kernel) ⟨Nat.le_of_ble_eq_true rfl, Nat.le_of_ble_eq_true rfl⟩) (hnw _ _ (co_car hR (v := v) (j := 2 * t.2.1 + 1) (by omega) (by omega) (by omega))) rfl rfl (Nat.le_of_ble_eq_true rfl) (by show _ + 1 ≤ _; omega) (by show _ + 4 ≤ _; omega) rfl dX15_fieldsIn_81 (fun v_81 G_81 hp_81 => ?_)
        obtain ⟨q1, rfl, hq1, hq1A, e9⟩ := hp_81
        rw [e9, (s_cl_b (S := S) (v := v) (k := t.2.1)).1]
        refine jr_astore_n (i := 3) hX rfl (by decide) rfl dX15_fieldsIn_84 ?_
        refine jr_iinc (w := -1) hX rfl rfl (by decide) rfl dX15_fieldsIn_85 ?_
        refine jr_goto hX (tgt := 55) (by decide) dX15_fieldsIn_88 ?_
        rw [show nI v + -1 = nI (v - 1) by rw [← nI_s1 (show 0 < v by omega)]; exact (Int32.sub_eq_add_neg _ _).symm]
        refine jr_lvm [(4, .int (nI (v - 1))), (3, .ref q1), (0, .ref (ad 16 i 0)), (1, .int (nI a)), (2, .ref (ad 2 0 0))] rfl ?_
        refine ih _ (by omega) (v - 1) q1 _ _ rfl (by omega) (by omega) (hnw.trans (jNw.new hq1)) jup_s (Or.inr ⟨by omega, ?_, hq1A⟩) (by rw [← hfl]; exact (s_bwd_s (by omega)).symm)
        cases z : G q1 with
        | none => rfl
        | some y => rw [hnw _ _ z] at hq1; cases hq1
    refine jr_lvm [(4, .int (nI t.1)), (3, .ref (ad 17 i 0)), (0, .ref (ad 16 i 0)), (1, .int (nI a)), (2, .ref (ad 2 0 0))] rfl ?_
    have h0 := loop _ t.1 (ad 17 i 0) G t.2.2 rfl (Nat.le_refl _) (by omega) jNw.refl hTF (Or.inl ⟨rfl, rfl, rfl⟩) rfl
    rw [Nat.sub_self] at h0
    exact h0
