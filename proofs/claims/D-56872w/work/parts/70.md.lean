/-! the model's touches: by a loop that stops; it answers as the component's -/
theorem sLk_spec {x y : sIns} : sLk x y = true ↔ (x.1 = y.1 ∧ (x.2.1 = y.2.1 ∨ x.1 = 11) ∧ s_nb x.1 x.2.2.1 = s_nb y.1 y.2.2.1 ∧ s_nc x.1 x.2.2.2 = s_nc y.1 y.2.2.2) := by
  unfold sLk
  exact decide_eq_true_iff
theorem sLk_sym {x y : sIns} (h : sLk x y = true) : sLk y x = true := by
  rw [sLk_spec] at h ⊢
  exact ⟨h.1.symm, h.2.1.imp Eq.symm (fun z => h.1.symm.trans z), h.2.2.1.symm, h.2.2.2.symm⟩
theorem sLk_ki {x y : sIns} (h : sLk x y = true) : sKi x = sKi y := by
  rw [sLk_spec] at h
  obtain ⟨h1, -, h2, -⟩ := h
  unfold sKi
  rw [← h1]
  rw [← h1] at h2
  by_cases e2 : x.1 = 2
  · rw [if_pos e2, if_pos e2]
    rw [e2] at h2
    simpa [s_nb] using h2
  · rw [if_neg e2, if_neg e2]
    by_cases e3 : x.1 = 3 ∨ x.1 = 4
    · rw [if_pos e3, if_pos e3]
      have h3 : x.2.2.1 = y.2.2.1 := by rcases e3 with e | e <;> rw [e] at h2 <;> simpa [s_nb] using h2
      rw [h3]
    · rw [if_neg e3, if_neg e3]
theorem kd_ki {S : sSt} {v : Nat} {x y : sIns} (h : sKi x = sKi y) : s_kd S v x = s_kd S v y := by unfold s_kd; rw [h]
section
variable {S : sSt} {v f : Nat}
theorem tch_len (h : ((s_ver S v).1 f).length ≠ ((s_ver S (v + 1)).1 f).length) : s_tch S v f = true := by
  unfold s_tch sLks
  rw [decide_eq_false (fun z => h (by have := z.1; unfold s_fn at this; rw [List.length_map, List.length_map] at this; exact this.symm))]
  rfl
theorem fn_at {w p q : Nat} (h : ((s_ver S w).1 f)[p]? = some q) : (s_fn S w f).getD p (0, 0, 0, 0) = s_ins S q ∧ (s_fn S w f)[p]? = some (s_ins S q) := by
  have e : (s_fn S w f)[p]? = some (s_ins S q) := by unfold s_fn; rw [List.getElem?_map, h]; rfl
  exact ⟨by rw [List.getD_eq_getElem?_getD, e]; rfl, e⟩
theorem tch_ne {p q r : Nat} (hq : ((s_ver S v).1 f)[p]? = some q) (hr : ((s_ver S (v + 1)).1 f)[p]? = some r) (h : sLk (s_ins S q) (s_ins S r) = false) : s_tch S v f = true := by
  unfold s_tch sLks
  rw [decide_eq_false (fun z => by
    have h1 := z.2 p (lt_ofl (fn_at hr).2)
    rw [(fn_at hq).1, (fn_at hr).1] at h1
    rw [sLk_sym h1] at h; cases h)]
  rfl
theorem tch_kd {p q r : Nat} (hq : ((s_ver S v).1 f)[p]? = some q) (hr : ((s_ver S (v + 1)).1 f)[p]? = some r) (h : sLk (s_ins S q) (s_ins S r) = true) (hk : s_kd S v (s_ins S q) = true) : s_tch S v f = true := by
  unfold s_tch
  have : (s_fn S (v + 1) f).any (s_kd S v) = true := List.any_eq_true.mpr ⟨s_ins S r, List.mem_of_getElem? (fn_at hr).2, by rw [← kd_ki (sLk_ki h)]; exact hk⟩
  rw [this, Bool.or_true]
theorem tch_no (hl : ((s_ver S v).1 f).length = ((s_ver S (v + 1)).1 f).length) (h : ∀ p q r : Nat, ((s_ver S v).1 f)[p]? = some q → ((s_ver S (v + 1)).1 f)[p]? = some r → sLk (s_ins S q) (s_ins S r) = true ∧ s_kd S v (s_ins S q) = false) : s_tch S v f = false := by
  have hN : (s_fn S (v + 1) f).length = ((s_ver S (v + 1)).1 f).length := List.length_map _
  have hO : (s_fn S v f).length = ((s_ver S v).1 f).length := List.length_map _
  have h1 : sLks (s_fn S (v + 1) f) (s_fn S v f) = true := by
    unfold sLks
    refine decide_eq_true ⟨by rw [hN, hO, hl], fun i hi => ?_⟩
    rw [hN] at hi
    obtain ⟨q, hq⟩ : ∃ q, ((s_ver S v).1 f)[i]? = some q := ⟨_, List.getElem?_eq_getElem (by omega)⟩
    obtain ⟨r, hr⟩ : ∃ r, ((s_ver S (v + 1)).1 f)[i]? = some r := ⟨_, List.getElem?_eq_getElem hi⟩
    rw [(fn_at hq).1, (fn_at hr).1]
    exact sLk_sym (h i q r hq hr).1
  unfold s_tch
  rw [h1]
  show (s_fn S (v + 1) f).any (s_kd S v) = false
  cases ha : (s_fn S (v + 1) f).any (s_kd S v) with
  | false => rfl
  | true =>
    obtain ⟨y, hy, hk⟩ := List.any_eq_true.mp ha
    obtain ⟨i, hi⟩ := List.getElem?_of_mem hy
    have hil := lt_ofl hi
    rw [hN] at hil
    obtain ⟨q, hq⟩ : ∃ q, ((s_ver S v).1 f)[i]? = some q := ⟨_, List.getElem?_eq_getElem (by omega)⟩
    obtain ⟨r, hr⟩ : ∃ r, ((s_ver S (v + 1)).1 f)[i]? = some r := ⟨_, List.getElem?_eq_getElem hil⟩
    have e : s_ins S r = y := Option.some.inj ((fn_at hr).2.symm.trans hi)
    obtain ⟨g1, g2⟩ := h i q r hq hr
    rw [kd_ki (sLk_ki g1), e, hk] at g2
    cases g2
end

set_option maxHeartbeats 4000000 in
set_option maxRecDepth 100000 in
theorem mm_touches (l : Launch) (D : va_G) (s0 : State) (b0 : Nat) (A : Nat → Prop) (G : jG) (S : sSt) (th : Nat) (ad : jN) (T : jT) (hR : jMo D s0 b0 th S ad T G) (hi : sWi S) (hv : sWv S) (v f : Nat) (hvm : v + 1 < s_m S) (hf : f < 5) : jM l yX5_touches (ws_ yX5_touches cX5_touches 9 (some .boolean)) (jR 4 0 0) D s0 b0 A G [.ref (ad 31 0 0), .int (nI v), .int (nI f)] (fun w G1 => w = some (.int (jbz (s_tch S v f))) ∧ G1 = G) := by
  have hxx := mo_x hR
  have hmm : s_m S = (s_v S).length - 1 := rfl
  have hvu := hv.2.1
  have hv0 : v < (s_v S).length := by omega
  have hv1 : v + 1 < (s_v S).length := by omega
  have hV0 := mo_ver hR hv0
  have hV1 := mo_ver hR hv1
  obtain ⟨moV, capV, eaV, hVL, -, -, -⟩ := mo_vs hR
  obtain ⟨moF0, capF0, eaF0, hF0, -, -, -⟩ := mo_fns hR hv0
  obtain ⟨moF1, capF1, eaF1, hF1, -, -, -⟩ := mo_fns hR hv1
  obtain ⟨mo0, cap0, ea0, hL0, -, -, -⟩ := mo_fn hR hv0 hf
  obtain ⟨mo1, cap1, ea1, hL1, -, -, -⟩ := mo_fn hR hv1 hf
  have hl0 := ((hv.2.2 v hv0).1 f hf).1
  have hl1 := ((hv.2.2 (v + 1) hv1).1 f hf).1
  refine jM.of (by decide +kernel) (own := RX5) rfl (Nat.le_of_ble_eq_true rfl) ?_
  intro p e s m args below meth c hX hr hlk hnm
  refine jr_aload_n (i := 0) hX rfl rfl dX5_touches_0 ?_
  refine jr_get (ci := 11) (k := 1) hX hxx rfl in_X5 (by decide) q1731 rfl dX5_touches_1 ?_
  refine jr_iload_n (i := 1) hX rfl rfl dX5_touches_4 ?_
  refine jr_callV (As := [.int (nI v)]) (bc1 := (0)) (bs1 := (0)) hX (met_get l D s0 b0 A _ (ad 32 0 0) (s_rg (s_m S) (fun v => ad 37 v 0)) moV capV eaV hVL v (ad 37 v 0) (rg_at (by omega))) (cwV 1 hX.ts (lw_V q1712 q304 q2203 q68 q306) rfl rfl rfl (by decide +kernel) ⟨Nat.le_of_ble_eq_true rfl, Nat.le_of_ble_eq_true rfl⟩) hVL.1 rfl rfl (Nat.le_of_ble_eq_true rfl) (by first | omega | (dsimp only; omega) | (show _ ≤ _; simp only []; omega)) (by first | omega | (dsimp only; omega) | (show _ ≤ _; simp only []; omega)) rfl dX5_touches_5 (fun v_5 G_5 hp_5 => ?_)
  obtain ⟨rfl, e9⟩ := hp_5
  rw [e9]
  refine jr_castS hX hV0 rfl q1666 dX5_touches_8 ?_
  refine jr_astore_n (i := 3) hX rfl (by decide) rfl dX5_touches_11 ?_
  refine jr_aload_n (i := 0) hX rfl rfl dX5_touches_12 ?_
  refine jr_get (ci := 11) (k := 1) hX hxx rfl in_X5 (by decide) q1731 rfl dX5_touches_13 ?_
  refine jr_iload_n (i := 1) hX rfl rfl dX5_touches_16 ?_
  refine jr_iconst (v := 1) hX rfl dX5_touches_17 ?_
  refine jr_iadd hX dX5_touches_18 ?_
  rw [nI_1]
  refine jr_callV (As := [.int (nI (v + 1))]) (bc1 := (0)) (bs1 := (0)) hX (met_get l D s0 b0 A _ (ad 32 0 0) (s_rg (s_m S) (fun v => ad 37 v 0)) moV capV eaV hVL (v + 1) (ad 37 (v + 1) 0) (rg_at (by omega))) (cwV 1 hX.ts (lw_V q1712 q304 q2203 q68 q306) rfl rfl rfl (by decide +kernel) ⟨Nat.le_of_ble_eq_true rfl, Nat.le_of_ble_eq_true rfl⟩) hVL.1 rfl rfl (Nat.le_of_ble_eq_true rfl) (by first | omega | (dsimp only; omega) | (show _ ≤ _; simp only []; omega)) (by first | omega | (dsimp only; omega) | (show _ ≤ _; simp only []; omega)) rfl dX5_touches_19 (fun v_19 G_19 hp_19 => ?_)
  obtain ⟨rfl, e9⟩ := hp_19
  rw [e9]
  refine jr_castS hX hV1 rfl q1666 dX5_touches_22 ?_
  refine jr_astore hX (by decide) rfl dX5_touches_25 ?_
  refine jr_aload_n (i := 3) hX rfl rfl dX5_touches_27 ?_
  refine jr_iload_n (i := 2) hX rfl rfl dX5_touches_28 ?_
  refine jr_callV (As := [.int (nI f)]) (bc1 := (0)) (bs1 := (0)) hX (mm_length l D s0 b0 A _ S th ad T hR (v) f hv0 hf) (cwV 1 hX.ts (lw_V q1793 q1794 q1795 q79 q1796) rfl rfl rfl (by decide +kernel) ⟨Nat.le_of_ble_eq_true rfl, Nat.le_of_ble_eq_true rfl⟩) hV0 rfl rfl (Nat.le_of_ble_eq_true rfl) (by first | omega | (dsimp only; omega) | (show _ ≤ _; simp only []; omega)) (by first | omega | (dsimp only; omega) | (show _ ≤ _; simp only []; omega)) rfl dX5_touches_29 (fun v_29 G_29 hp_29 => ?_)
  obtain ⟨rfl, e9⟩ := hp_29
  rw [e9]
  refine jr_aload hX rfl dX5_touches_32 ?_
  refine jr_iload_n (i := 2) hX rfl rfl dX5_touches_34 ?_
  refine jr_callV (As := [.int (nI f)]) (bc1 := (0)) (bs1 := (0)) hX (mm_length l D s0 b0 A _ S th ad T hR (v + 1) f hv1 hf) (cwV 1 hX.ts (lw_V q1793 q1794 q1795 q79 q1796) rfl rfl rfl (by decide +kernel) ⟨Nat.le_of_ble_eq_true rfl, Nat.le_of_ble_eq_true rfl⟩) hV1 rfl rfl (Nat.le_of_ble_eq_true rfl) (by first | omega | (dsimp only; omega) | (show _ ≤ _; simp only []; omega)) (by first | omega | (dsimp only; omega) | (show _ ≤ _; simp only []; omega)) rfl dX5_touches_35 (fun v_35 G_35 hp_35 => ?_)
  obtain ⟨rfl, e9⟩ := hp_35
  rw [e9]
  refine jr_icmp_eq hX (tgt := 45) (by decide) dX5_touches_38 (fun c_38 => ?_) (fun c_38 => ?_)
  · refine jr_iconst (v := 0) hX rfl dX5_touches_45 ?_
    refine jr_istore hX (by decide) rfl dX5_touches_46 ?_
    refine jr_iconst (v := 0) hX rfl dX5_touches_48 ?_
    refine jr_istore hX (by decide) rfl dX5_touches_49 ?_
    have exitT : ∀ p9 : Nat, s_tch S v f = true → Jg p l e (jR 4 0 0) s m args below meth c (MQ below (jQ D A (fun w G1 => w = some (.int (jbz (s_tch S v f))) ∧ G1 = G)) args s 0 0 A) D A 9 G 0 0 51 [(5, .int 1), (6, .int (nI (p9))), (3, .ref (ad 37 v 0)), (4, .ref (ad 37 (v + 1) 0)), (0, .ref (ad 31 0 0)), (1, .int (nI v)), (2, .int (nI f))] [] := by
      intro p9 ht
      refine jr_iload hX rfl dX5_touches_51 ?_
      refine jr_aload_n (i := 3) hX rfl rfl dX5_touches_53 ?_
      refine jr_iload_n (i := 2) hX rfl rfl dX5_touches_54 ?_
      refine jr_callV (As := [.int (nI f)]) (bc1 := (0)) (bs1 := (0)) hX (mm_length l D s0 b0 A _ S th ad T hR (v) f hv0 hf) (cwV 1 hX.ts (lw_V q1793 q1794 q1795 q79 q1796) rfl rfl rfl (by decide +kernel) ⟨Nat.le_of_ble_eq_true rfl, Nat.le_of_ble_eq_true rfl⟩) hV0 rfl rfl (Nat.le_of_ble_eq_true rfl) (by first | omega | (dsimp only; omega) | (show _ ≤ _; simp only []; omega)) (by first | omega | (dsimp only; omega) | (show _ ≤ _; simp only []; omega)) rfl dX5_touches_55 (fun v_55 G_55 hp_55 => ?_)
      obtain ⟨rfl, e9⟩ := hp_55
      rw [e9]
      refine jr_icmp_ge hX (tgt := 159) (by decide) dX5_touches_58 (fun c_58 => ?_) (fun c_58 => ?_)
      · refine jr_iload hX rfl dX5_touches_159 ?_
        exact jr_zret hX hlk hr (by decide) ⟨by rw [ht]; rfl, rfl⟩ dX5_touches_161
      · refine jr_iload hX rfl dX5_touches_61 ?_
        refine jr_if_ne hX (tgt := 159) (by decide) dX5_touches_63 (fun c_63 => ?_) (fun c_63 => absurd c_63 (by decide))
        refine jr_iload hX rfl dX5_touches_159 ?_
        exact jr_zret hX hlk hr (by decide) ⟨by rw [ht]; rfl, rfl⟩ dX5_touches_161
    have hll : ((s_ver S v).1 f).length = ((s_ver S (v + 1)).1 f).length := (nI_eq (by omega) (by omega)).mp c_38
    have loop : ∀ (n9 : Nat) (p9 : Nat), ((s_ver S v).1 f).length - p9 = n9 → p9 ≤ ((s_ver S v).1 f).length → (∀ p q r : Nat, p < p9 → ((s_ver S v).1 f)[p]? = some q → ((s_ver S (v + 1)).1 f)[p]? = some r → sLk (s_ins S q) (s_ins S r) = true ∧ s_kd S v (s_ins S q) = false) → Jg p l e (jR 4 0 0) s m args below meth c (MQ below (jQ D A (fun w G1 => w = some (.int (jbz (s_tch S v f))) ∧ G1 = G)) args s 0 0 A) D A 9 G 0 0 51 [(5, .int 0), (6, .int (nI (p9))), (3, .ref (ad 37 v 0)), (4, .ref (ad 37 (v + 1) 0)), (0, .ref (ad 31 0 0)), (1, .int (nI v)), (2, .int (nI f))] [] := by
      intro n9
      induction n9 using Nat.strongRecOn with
      | ind n9 ih0 =>
      intro p9 hn9 hpl hall
      have ih : ∀ m9, m9 < n9 → ∀ (p9 : Nat), ((s_ver S v).1 f).length - p9 = m9 → p9 ≤ ((s_ver S v).1 f).length → (∀ p q r : Nat, p < p9 → ((s_ver S v).1 f)[p]? = some q → ((s_ver S (v + 1)).1 f)[p]? = some r → sLk (s_ins S q) (s_ins S r) = true ∧ s_kd S v (s_ins S q) = false) → Jg p l e (jR 4 0 0) s m args below meth c (MQ below (jQ D A (fun w G1 => w = some (.int (jbz (s_tch S v f))) ∧ G1 = G)) args s 0 0 A) D A 9 G 0 0 51 [(5, .int 0), (6, .int (nI (p9))), (3, .ref (ad 37 v 0)), (4, .ref (ad 37 (v + 1) 0)), (0, .ref (ad 31 0 0)), (1, .int (nI v)), (2, .int (nI f))] [] := fun m9 hm => ih0 m9 hm
      refine jr_iload hX rfl dX5_touches_51 ?_
      refine jr_aload_n (i := 3) hX rfl rfl dX5_touches_53 ?_
      refine jr_iload_n (i := 2) hX rfl rfl dX5_touches_54 ?_
      refine jr_callV (As := [.int (nI f)]) (bc1 := (0)) (bs1 := (0)) hX (mm_length l D s0 b0 A _ S th ad T hR (v) f hv0 hf) (cwV 1 hX.ts (lw_V q1793 q1794 q1795 q79 q1796) rfl rfl rfl (by decide +kernel) ⟨Nat.le_of_ble_eq_true rfl, Nat.le_of_ble_eq_true rfl⟩) hV0 rfl rfl (Nat.le_of_ble_eq_true rfl) (by first | omega | (dsimp only; omega) | (show _ ≤ _; simp only []; omega)) (by first | omega | (dsimp only; omega) | (show _ ≤ _; simp only []; omega)) rfl dX5_touches_55 (fun v_55 G_55 hp_55 => ?_)
      obtain ⟨rfl, e9⟩ := hp_55
      rw [e9]
      refine jr_icmp_ge hX (tgt := 159) (by decide) dX5_touches_58 (fun c_58 => ?_) (fun c_58 => ?_)
      · refine jr_iload hX rfl dX5_touches_159 ?_
        rw [show (0 : Int32) = jbz (s_tch S v f) from by rw [tch_no hll (fun p q r hq hr => hall p q r (by have := lt_ofl hq; have h9 : ¬ p9 < ((s_ver S v).1 f).length := fun z => absurd c_58 (nI_ge z (by omega)); omega) hq hr)]; rfl]
        exact jr_zret hX hlk hr (jbz_n _) ⟨rfl, rfl⟩ dX5_touches_161
      · have hp2 : p9 < ((s_ver S v).1 f).length := Nat.not_le.mp fun z => c_58 (nI_le z (by omega))
        obtain ⟨q, hq⟩ : ∃ q, ((s_ver S v).1 f)[p9]? = some q := ⟨_, List.getElem?_eq_getElem hp2⟩
        obtain ⟨r, hrr⟩ : ∃ r, ((s_ver S (v + 1)).1 f)[p9]? = some r := ⟨_, List.getElem?_eq_getElem (by omega)⟩
        have hqp := (hv.2.2 v hv0).1 f hf |>.2 q (List.mem_of_getElem? hq)
        have hrp := (hv.2.2 (v + 1) hv1).1 f hf |>.2 r (List.mem_of_getElem? hrr)
        have hCq := mo_cd hR hqp
        have hCr := mo_cd hR hrp
        have hWq := hi q hqp
        have hWr := hi r hrp
        refine jr_iload hX rfl dX5_touches_61 ?_
        refine jr_if_ne hX (tgt := 159) (by decide) dX5_touches_63 (fun c_63 => absurd c_63 (fun h => h rfl)) (fun c_63 => ?_)
        refine jr_aload_n (i := 3) hX rfl rfl dX5_touches_66 ?_
        refine jr_getN (ci := 12) (k := 0) hX hV0 rfl in_X6 (by decide) q1683 rfl dX5_touches_67 ?_
        refine jr_iload_n (i := 2) hX rfl rfl dX5_touches_70 ?_
        refine jr_callV (As := [.int (nI f)]) (bc1 := (0)) (bs1 := (0)) hX (met_get l D s0 b0 A _ (ad 40 (v) 0) (s_rg 5 (fun f => ad 41 (v) f)) moF0 capF0 eaF0 hF0 f (ad 41 (v) f) (rg_at hf)) (cwV 1 hX.ts (lw_V q1712 q304 q2203 q68 q306) rfl rfl rfl (by decide +kernel) ⟨Nat.le_of_ble_eq_true rfl, Nat.le_of_ble_eq_true rfl⟩) hF0.1 rfl rfl (Nat.le_of_ble_eq_true rfl) (by first | omega | (dsimp only; omega) | (show _ ≤ _; simp only []; omega)) (by first | omega | (dsimp only; omega) | (show _ ≤ _; simp only []; omega)) rfl dX5_touches_71 (fun v_71 G_71 hp_71 => ?_)
        obtain ⟨rfl, e9⟩ := hp_71
        rw [e9]
        refine jr_castS hX hL0.1 rfl q1664 dX5_touches_74 ?_
        refine jr_iload hX rfl dX5_touches_77 ?_
        refine jr_callV (As := [.int (nI p9)]) (bc1 := (0)) (bs1 := (0)) hX (met_get l D s0 b0 A _ (ad 41 (v) f) (((s_ver S (v)).1 f).map (fun q => ad 50 q 0)) mo0 cap0 ea0 hL0 p9 (ad 50 q 0) (by rw [List.getElem?_map, hq]; rfl)) (cwV 1 hX.ts (lw_V q1712 q304 q2203 q68 q306) rfl rfl rfl (by decide +kernel) ⟨Nat.le_of_ble_eq_true rfl, Nat.le_of_ble_eq_true rfl⟩) hL0.1 rfl rfl (Nat.le_of_ble_eq_true rfl) (by first | omega | (dsimp only; omega) | (show _ ≤ _; simp only []; omega)) (by first | omega | (dsimp only; omega) | (show _ ≤ _; simp only []; omega)) rfl dX5_touches_79 (fun v_79 G_79 hp_79 => ?_)
        obtain ⟨rfl, e9⟩ := hp_79
        rw [e9]
        refine jr_castS hX hCq rfl q1798 dX5_touches_82 ?_
        refine jr_astore hX (by decide) rfl dX5_touches_85 ?_
        refine jr_aload hX rfl dX5_touches_87 ?_
        refine jr_callV (As := []) (bc1 := (0)) (bs1 := (0)) hX (mm_objs l D s0 b0 A _ (ad 50 q 0) (s_ins S q).1 hWq.1 _ _ _ hCq) (cwV 0 hX.ts (lw_V q1856 q1857 q1858 q91 q1859) rfl rfl rfl (by decide +kernel) ⟨Nat.le_of_ble_eq_true rfl, Nat.le_of_ble_eq_true rfl⟩) hCq rfl rfl (Nat.le_of_ble_eq_true rfl) (by first | omega | (dsimp only; omega) | (show _ ≤ _; simp only []; omega)) (by first | omega | (dsimp only; omega) | (show _ ≤ _; simp only []; omega)) rfl dX5_touches_89 (fun v_89 G_89 hp_89 => ?_)
        obtain ⟨rfl, e9⟩ := hp_89
        rw [e9]
        refine jr_istore hX (by decide) rfl dX5_touches_92 ?_
        refine jr_aload hX rfl dX5_touches_94 ?_
        refine jr_aload hX rfl dX5_touches_96 ?_
        refine jr_getN (ci := 12) (k := 0) hX hV1 rfl in_X6 (by decide) q1683 rfl dX5_touches_98 ?_
        refine jr_iload_n (i := 2) hX rfl rfl dX5_touches_101 ?_
        refine jr_callV (As := [.int (nI f)]) (bc1 := (0)) (bs1 := (0)) hX (met_get l D s0 b0 A _ (ad 40 (v + 1) 0) (s_rg 5 (fun f => ad 41 (v + 1) f)) moF1 capF1 eaF1 hF1 f (ad 41 (v + 1) f) (rg_at hf)) (cwV 1 hX.ts (lw_V q1712 q304 q2203 q68 q306) rfl rfl rfl (by decide +kernel) ⟨Nat.le_of_ble_eq_true rfl, Nat.le_of_ble_eq_true rfl⟩) hF1.1 rfl rfl (Nat.le_of_ble_eq_true rfl) (by first | omega | (dsimp only; omega) | (show _ ≤ _; simp only []; omega)) (by first | omega | (dsimp only; omega) | (show _ ≤ _; simp only []; omega)) rfl dX5_touches_102 (fun v_102 G_102 hp_102 => ?_)
        obtain ⟨rfl, e9⟩ := hp_102
        rw [e9]
        refine jr_castS hX hL1.1 rfl q1664 dX5_touches_105 ?_
        refine jr_iload hX rfl dX5_touches_108 ?_
        refine jr_callV (As := [.int (nI p9)]) (bc1 := (0)) (bs1 := (0)) hX (met_get l D s0 b0 A _ (ad 41 (v + 1) f) (((s_ver S (v + 1)).1 f).map (fun q => ad 50 q 0)) mo1 cap1 ea1 hL1 p9 (ad 50 r 0) (by rw [List.getElem?_map, hrr]; rfl)) (cwV 1 hX.ts (lw_V q1712 q304 q2203 q68 q306) rfl rfl rfl (by decide +kernel) ⟨Nat.le_of_ble_eq_true rfl, Nat.le_of_ble_eq_true rfl⟩) hL1.1 rfl rfl (Nat.le_of_ble_eq_true rfl) (by first | omega | (dsimp only; omega) | (show _ ≤ _; simp only []; omega)) (by first | omega | (dsimp only; omega) | (show _ ≤ _; simp only []; omega)) rfl dX5_touches_110 (fun v_110 G_110 hp_110 => ?_)
        obtain ⟨rfl, e9⟩ := hp_110
        rw [e9]
        refine jr_castS hX hCr rfl q1798 dX5_touches_113 ?_
        refine jr_callV (As := [.ref (ad 50 r 0)]) (bc1 := (0)) (bs1 := (0)) hX (mm_isSame l D s0 b0 A _ (ad 50 q 0) (s_ins S q).1 hWq.1 _ _ _ hCq (ad 50 r 0) (s_ins S r).1 hWr.1 _ _ _ hCr) (cwV 1 hX.ts (lw_V q1860 q1861 q1862 q91 q1863) rfl rfl rfl (by decide +kernel) ⟨Nat.le_of_ble_eq_true rfl, Nat.le_of_ble_eq_true rfl⟩) hCq rfl rfl (Nat.le_of_ble_eq_true rfl) (by first | omega | (dsimp only; omega) | (show _ ≤ _; simp only []; omega)) (by first | omega | (dsimp only; omega) | (show _ ≤ _; simp only []; omega)) rfl dX5_touches_116 (fun v_116 G_116 hp_116 => ?_)
        obtain ⟨rfl, e9⟩ := hp_116
        rw [e9]
        refine jr_if_eq hX (tgt := 146) (by decide) dX5_touches_119 (fun c_119 => ?_) (fun c_119 => ?_)
        · refine jr_iconst (v := 1) hX rfl dX5_touches_146 ?_
          refine jr_goto hX (tgt := 151) (by decide) dX5_touches_147 ?_
          refine jr_istore hX (by decide) rfl dX5_touches_151 ?_
          refine jr_iinc (w := 1) hX rfl rfl (by decide) rfl dX5_touches_153 ?_
          rw [show nI p9 + 1 = nI (p9 + 1) from nI_1 p9]
          refine jr_goto hX (tgt := 51) (by decide) dX5_touches_156 ?_
          refine jr_lvm [(5, .int 1), (6, .int (nI (p9 + 1))), (3, .ref (ad 37 v 0)), (4, .ref (ad 37 (v + 1) 0)), (0, .ref (ad 31 0 0)), (1, .int (nI v)), (2, .int (nI f))] rfl ?_
          exact exitT _ (tch_ne hq hrr (jbz_0 c_119))
        · refine jr_iload hX rfl dX5_touches_122 ?_
          refine jr_iconst (v := -1) hX rfl dX5_touches_124 ?_
          refine jr_icmp_eq hX (tgt := 150) (by decide) dX5_touches_125 (fun c_125 => ?_) (fun c_125 => ?_)
          · refine jr_iconst (v := 0) hX rfl dX5_touches_150 ?_
            refine jr_istore hX (by decide) rfl dX5_touches_151 ?_
            refine jr_iinc (w := 1) hX rfl rfl (by decide) rfl dX5_touches_153 ?_
            rw [show nI p9 + 1 = nI (p9 + 1) from nI_1 p9]
            refine jr_goto hX (tgt := 51) (by decide) dX5_touches_156 ?_
            refine jr_lvm [(5, .int 0), (6, .int (nI (p9 + 1))), (3, .ref (ad 37 v 0)), (4, .ref (ad 37 (v + 1) 0)), (0, .ref (ad 31 0 0)), (1, .int (nI v)), (2, .int (nI f))] rfl ?_
            exact ih _ (by omega) (p9 + 1) rfl (by omega) (fun p' q' r' hp' hq' hr' => by
              by_cases e : p' = p9
              · subst e
                rw [hq] at hq'; cases hq'
                rw [hrr] at hr'; cases hr'
                exact ⟨jbz_1 c_119, decide_eq_false fun z => z.1 c_125⟩
              · exact hall p' q' r' (by omega) hq' hr')
          · obtain ⟨k9, hk3, hke⟩ := sKi_in hWq.2.2.1 c_125
            refine jr_aload_n (i := 3) hX rfl rfl dX5_touches_128 ?_
            refine jr_getN (ci := 12) (k := 1) hX hV0 rfl in_X6 (by decide) q1685 rfl dX5_touches_129 ?_
            refine jr_iload hX rfl dX5_touches_132 ?_
            refine jr_iald hX (mo_nf hR hv0) (by rw [show sKi ((s_ins S q).1, (s_ins S q).2.1, (s_ins S q).2.2.1, (s_ins S q).2.2.2) = sKi (s_ins S q) from rfl, hke]; exact nI3 hk3) dX5_touches_134 ?_
            refine jr_aload hX rfl dX5_touches_135 ?_
            refine jr_getN (ci := 12) (k := 1) hX hV1 rfl in_X6 (by decide) q1685 rfl dX5_touches_137 ?_
            refine jr_iload hX rfl dX5_touches_140 ?_
            refine jr_iald hX (mo_nf hR hv1) (by rw [show sKi ((s_ins S q).1, (s_ins S q).2.1, (s_ins S q).2.2.1, (s_ins S q).2.2.2) = sKi (s_ins S q) from rfl, hke]; exact nI3 hk3) dX5_touches_142 ?_
            refine jr_icmp_eq hX (tgt := 150) (by decide) dX5_touches_143 (fun c_143 => ?_) (fun c_143 => ?_)
            · refine jr_iconst (v := 0) hX rfl dX5_touches_150 ?_
              refine jr_istore hX (by decide) rfl dX5_touches_151 ?_
              refine jr_iinc (w := 1) hX rfl rfl (by decide) rfl dX5_touches_153 ?_
              rw [show nI p9 + 1 = nI (p9 + 1) from nI_1 p9]
              refine jr_goto hX (tgt := 51) (by decide) dX5_touches_156 ?_
              refine jr_lvm [(5, .int 0), (6, .int (nI (p9 + 1))), (3, .ref (ad 37 v 0)), (4, .ref (ad 37 (v + 1) 0)), (0, .ref (ad 31 0 0)), (1, .int (nI v)), (2, .int (nI f))] rfl ?_
              exact ih _ (by omega) (p9 + 1) rfl (by omega) (fun p' q' r' hp' hq' hr' => by
                by_cases e : p' = p9
                · subst e
                  rw [hq] at hq'; cases hq'
                  rw [hrr] at hr'; cases hr'
                  exact ⟨jbz_1 c_119, decide_eq_false fun z => z.2 (by have h1 := ((hv.2.2 v hv0).2.1 k9 hk3).2; have h2 := ((hv.2.2 (v + 1) hv1).2.1 k9 hk3).2; rw [show sKi ((s_ins S q).1, (s_ins S q).2.1, (s_ins S q).2.2.1, (s_ins S q).2.2.2) = sKi (s_ins S q) from rfl, hke, nI_clamp (by omega)] at c_143; rw [hke, nI_clamp (by omega)]; exact ((nI_eq (by omega) (by omega)).mp c_143).symm)⟩
                · exact hall p' q' r' (by omega) hq' hr')
            · refine jr_iconst (v := 1) hX rfl dX5_touches_146 ?_
              refine jr_goto hX (tgt := 151) (by decide) dX5_touches_147 ?_
              refine jr_istore hX (by decide) rfl dX5_touches_151 ?_
              refine jr_iinc (w := 1) hX rfl rfl (by decide) rfl dX5_touches_153 ?_
              rw [show nI p9 + 1 = nI (p9 + 1) from nI_1 p9]
              refine jr_goto hX (tgt := 51) (by decide) dX5_touches_156 ?_
              refine jr_lvm [(5, .int 1), (6, .int (nI (p9 + 1))), (3, .ref (ad 37 v 0)), (4, .ref (ad 37 (v + 1) 0)), (0, .ref (ad 31 0 0)), (1, .int (nI v)), (2, .int (nI f))] rfl ?_
              exact exitT _ (tch_kd hq hrr (jbz_1 c_119) (decide_eq_true ⟨c_125, fun z => c_143 (by rw [show sKi ((s_ins S q).1, (s_ins S q).2.1, (s_ins S q).2.2.1, (s_ins S q).2.2.2) = sKi (s_ins S q) from rfl]; exact congrArg nI z.symm)⟩))
    refine jr_lvm [(5, .int 0), (6, .int (nI (0))), (3, .ref (ad 37 v 0)), (4, .ref (ad 37 (v + 1) 0)), (0, .ref (ad 31 0 0)), (1, .int (nI v)), (2, .int (nI f))] rfl ?_
    exact loop _ 0 rfl (Nat.zero_le _) (fun p q r hp => absurd hp (Nat.not_lt_zero p))
  · refine jr_iconst (v := 1) hX rfl dX5_touches_41 ?_
    refine jr_goto hX (tgt := 46) (by decide) dX5_touches_42 ?_
    refine jr_istore hX (by decide) rfl dX5_touches_46 ?_
    refine jr_iconst (v := 0) hX rfl dX5_touches_48 ?_
    refine jr_istore hX (by decide) rfl dX5_touches_49 ?_
    have exitT : ∀ p9 : Nat, s_tch S v f = true → Jg p l e (jR 4 0 0) s m args below meth c (MQ below (jQ D A (fun w G1 => w = some (.int (jbz (s_tch S v f))) ∧ G1 = G)) args s 0 0 A) D A 9 G 0 0 51 [(5, .int 1), (6, .int (nI (p9))), (3, .ref (ad 37 v 0)), (4, .ref (ad 37 (v + 1) 0)), (0, .ref (ad 31 0 0)), (1, .int (nI v)), (2, .int (nI f))] [] := by
      intro p9 ht
      refine jr_iload hX rfl dX5_touches_51 ?_
      refine jr_aload_n (i := 3) hX rfl rfl dX5_touches_53 ?_
      refine jr_iload_n (i := 2) hX rfl rfl dX5_touches_54 ?_
      refine jr_callV (As := [.int (nI f)]) (bc1 := (0)) (bs1 := (0)) hX (mm_length l D s0 b0 A _ S th ad T hR (v) f hv0 hf) (cwV 1 hX.ts (lw_V q1793 q1794 q1795 q79 q1796) rfl rfl rfl (by decide +kernel) ⟨Nat.le_of_ble_eq_true rfl, Nat.le_of_ble_eq_true rfl⟩) hV0 rfl rfl (Nat.le_of_ble_eq_true rfl) (by first | omega | (dsimp only; omega) | (show _ ≤ _; simp only []; omega)) (by first | omega | (dsimp only; omega) | (show _ ≤ _; simp only []; omega)) rfl dX5_touches_55 (fun v_55 G_55 hp_55 => ?_)
      obtain ⟨rfl, e9⟩ := hp_55
      rw [e9]
      refine jr_icmp_ge hX (tgt := 159) (by decide) dX5_touches_58 (fun c_58 => ?_) (fun c_58 => ?_)
      · refine jr_iload hX rfl dX5_touches_159 ?_
        exact jr_zret hX hlk hr (by decide) ⟨by rw [ht]; rfl, rfl⟩ dX5_touches_161
      · refine jr_iload hX rfl dX5_touches_61 ?_
        refine jr_if_ne hX (tgt := 159) (by decide) dX5_touches_63 (fun c_63 => ?_) (fun c_63 => absurd c_63 (by decide))
        refine jr_iload hX rfl dX5_touches_159 ?_
        exact jr_zret hX hlk hr (by decide) ⟨by rw [ht]; rfl, rfl⟩ dX5_touches_161
    refine jr_lvm [(5, .int 1), (6, .int (nI (0))), (3, .ref (ad 37 v 0)), (4, .ref (ad 37 (v + 1) 0)), (0, .ref (ad 31 0 0)), (1, .int (nI v)), (2, .int (nI f))] rfl ?_
    exact exitT 0 (tch_len fun z => c_38 (by rw [z]))
