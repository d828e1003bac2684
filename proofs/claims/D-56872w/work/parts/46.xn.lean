/-! watch; a carry made -/
set_option maxHeartbeats 4000000 in
set_option maxRecDepth 100000 in
theorem met_watchC (l : Launch) (D : va_G) (s0 : State) (b0 : Nat) (A : Nat → Prop) (G : jG) (S : sSt) (ad : jN) (T : jT) (hR : jCo D s0 b0 S ad T G) (lim : Int32) : jM l yX1_watch (ws_ yX1_watch cX1_watch 3 (some .boolean)) (jR 0 0 0) D s0 b0 A G [.ref (ad 1 0 0), .int lim] (fun w G1 => w = some (.int (jbz (s_w S))) ∧ jCo D s0 b0 (sw_l (sw_w S true) lim) ad T G1 ∧ jFm 1 30 T G T G1) := by
  have hxx := co_x hR
  have hRw := co_ww hR true
  have hxw := co_x hRw
  have hRl := co_wl hRw lim
  refine jM.of (by decide +kernel) (own := RX1) rfl (Nat.le_of_ble_eq_true rfl) ?_
  intro p e s m args below meth c hX hr hlk hnm
  refine jr_aload_n (i := 0) hX rfl rfl dX1_watch_0 ?_
  refine jr_get (ci := 2) (k := 10) hX hxx rfl in_X1 (by decide) q373 rfl dX1_watch_1 ?_
  refine jr_istore_n (i := 2) hX rfl (by decide) rfl dX1_watch_4 ?_
  refine jr_aload_n (i := 0) hX rfl rfl dX1_watch_5 ?_
  refine jr_iconst (v := 1) hX rfl dX1_watch_6 ?_
  refine jr_put (ci := 2) (k := 10) hX hxx rfl in_X1 (by decide) tyX1 tyX1_ok nmX1 q373 rfl (by first | rfl | assumption) (by first | rfl | assumption) (Nat.le_of_ble_eq_true rfl) dX1_watch_7 ?_
  refine jr_aload_n (i := 0) hX rfl rfl dX1_watch_10 ?_
  refine jr_iload_n (i := 1) hX rfl rfl dX1_watch_11 ?_
  refine jr_put (ci := 2) (k := 9) hX hxw rfl in_X1 (by decide) tyX1 tyX1_ok nmX1 q372 rfl (by first | rfl | assumption) (by first | rfl | assumption) (Nat.le_of_ble_eq_true rfl) dX1_watch_12 ?_
  refine jr_iload_n (i := 2) hX rfl rfl dX1_watch_15 ?_
  exact jr_zret hX hlk hr (jbz_n _) ⟨rfl, hRl, (jFm.put (by rw [hR.t (k := 1) (i := 0) (j := 0) rfl]; exact ⟨(by show 1 ≤ 1 % 100; omega), (by show 1 % 100 < 30; omega)⟩)).trans (jFm.put (by rw [hRw.t (k := 1) (i := 0) (j := 0) rfl]; exact ⟨(by show 1 ≤ 1 % 100; omega), (by show 1 % 100 < 30; omega)⟩))⟩ dX1_watch_16

set_option maxHeartbeats 4000000 in
set_option maxRecDepth 100000 in
theorem met_CaInit (l : Launch) (D : va_G) (s0 : State) (b0 : Nat) (A : Nat → Prop) (G : jG) (n many oth : Nat) (hm : many ≤ 4) (ho : oth ≤ 4) (hn : G n = some (jo 5 [.null, .null])) : jM l yX4_init (ws_ yX4_init cX4_init 4 none) (jR 1 2 8) D s0 b0 A G [.ref n, .int (nI many), .int (nI oth)] (fun w G1 => w = none ∧ ∃ fa na, G fa = none ∧ A fa ∧ fa ≠ n ∧ G na = none ∧ A na ∧ na ≠ n ∧ na ≠ fa ∧ G1 n = some (jo 5 [.ref fa, .ref na]) ∧ G1 fa = some (ji D many (fun i => if i < oth then nI i else -1)) ∧ G1 na = some (ji D many (fun _ => 0)) ∧ ∀ b, b ≠ n → b ≠ fa → b ≠ na → G1 b = G b) := by
  refine jM.of (by decide +kernel) (own := RX4) rfl (Nat.le_of_ble_eq_true rfl) ?_
  intro p e s m args below meth c hX hr hlk hnm
  refine jr_aload_n (i := 0) hX rfl rfl dX4_init_0 ?_
  refine jr_oinit hX q353 q118 q119 (Nat.le_of_ble_eq_true rfl) (Nat.le_of_ble_eq_true rfl) dX4_init_1 ?_
  refine jr_aload_n (i := 0) hX rfl rfl dX4_init_4 ?_
  refine jr_iload_n (i := 1) hX rfl rfl dX4_init_5 ?_
  refine jr_newi (N := many) (bc1 := 1) (bs1 := 4) hX q295 (nI_pos (by omega)) (nI_clamp (by omega)) (by omega) (by omega) (by omega) dX4_init_6 (fun fa hfa hfaA => ?_)
  have hfn : fa ≠ n := fun z => by rw [z, hn] at hfa; cases hfa
  refine jr_putF (ci := 5) (k := 0) hX (jup_f hn hfa) rfl in_X4 (by decide) tyX4 tyX4_ok nmX4 q354 rfl hnm rfl (by first | rfl | assumption) (by first | rfl | assumption) (Nat.le_of_ble_eq_true rfl) dX4_init_8 ?_
  refine jr_aload_n (i := 0) hX rfl rfl dX4_init_11 ?_
  refine jr_iload_n (i := 1) hX rfl rfl dX4_init_12 ?_
  refine jr_newi (N := many) (bc1 := 0) (bs1 := 0) hX q295 (nI_pos (by omega)) (nI_clamp (by omega)) (by omega) (by omega) (by omega) dX4_init_13 (fun na hna0 hnaA => ?_)
  have hnn : na ≠ n := fun z => by rw [z, jup_s] at hna0; cases hna0
  have hnf : na ≠ fa := fun z => by rw [z, jup_n hfn, jup_s] at hna0; cases hna0
  have hna : G na = none := by rw [jup_n hnn, jup_n hnf] at hna0; exact hna0
  refine jr_putF (ci := 5) (k := 1) hX (jup_f jup_s hna0) rfl in_X4 (by decide) tyX4 tyX4_ok nmX4 q356 rfl hnm rfl (by first | rfl | assumption) (by first | rfl | assumption) (Nat.le_of_ble_eq_true rfl) dX4_init_15 ?_
  refine jr_iconst (v := 0) hX rfl dX4_init_18 ?_
  refine jr_istore_n (i := 3) hX rfl (by decide) rfl dX4_init_19 ?_
  have loop : ∀ (n9 i : Nat) (Gc : jG) (g : Nat → Int32), many - i = n9 → i ≤ many → Gc n = some (jo 5 [.ref fa, .ref na]) → Gc fa = some (ji D many g) → Gc na = some (ji D many (fun _ => 0)) → (∀ b, b ≠ n → b ≠ fa → b ≠ na → Gc b = G b) → (∀ k, k < i → g k = if k < oth then nI k else -1) → Jg p l e (jR 1 2 8) s m args below meth c (MQ below (jQ D A (fun w G1 => w = none ∧ ∃ fa na, G fa = none ∧ A fa ∧ fa ≠ n ∧ G na = none ∧ A na ∧ na ≠ n ∧ na ≠ fa ∧ G1 n = some (jo 5 [.ref fa, .ref na]) ∧ G1 fa = some (ji D many (fun i => if i < oth then nI i else -1)) ∧ G1 na = some (ji D many (fun _ => 0)) ∧ ∀ b, b ≠ n → b ≠ fa → b ≠ na → G1 b = G b)) args s 2 8 A) D A 4 Gc 0 0 20 [(3, .int (nI i)), (0, .ref n), (1, .int (nI many)), (2, .int (nI oth))] [] := by
    intro n9
    induction n9 using Nat.strongRecOn with
    | ind n9 ih0 =>
    intro i Gc g hn9 hik h1 h2 h3 h4 h5
    have ih : ∀ m9, m9 < n9 → ∀ (i : Nat) (Gc : jG) (g : Nat → Int32), many - i = m9 → i ≤ many → Gc n = some (jo 5 [.ref fa, .ref na]) → Gc fa = some (ji D many g) → Gc na = some (ji D many (fun _ => 0)) → (∀ b, b ≠ n → b ≠ fa → b ≠ na → Gc b = G b) → (∀ k, k < i → g k = if k < oth then nI k else -1) → Jg p l e (jR 1 2 8) s m args below meth c (MQ below (jQ D A (fun w G1 => w = none ∧ ∃ fa na, G fa = none ∧ A fa ∧ fa ≠ n ∧ G na = none ∧ A na ∧ na ≠ n ∧ na ≠ fa ∧ G1 n = some (jo 5 [.ref fa, .ref na]) ∧ G1 fa = some (ji D many (fun i => if i < oth then nI i else -1)) ∧ G1 na = some (ji D many (fun _ => 0)) ∧ ∀ b, b ≠ n → b ≠ fa → b ≠ na → G1 b = G b)) args s 2 8 A) D A 4 Gc 0 0 20 [(3, .int (nI i)), (0, .ref n), (1, .int (nI many)), (2, .int (nI oth))] [] := fun m9 hm => ih0 m9 hm
    refine jr_iload_n (i := 3) hX rfl rfl dX4_init_20 ?_
    refine jr_iload_n (i := 1) hX rfl rfl dX4_init_21 ?_
    refine jr_icmp_ge hX (tgt := 47) (by decide) dX4_init_22 (fun c_22 => ?_) (fun c_22 => ?_)
    · have hge : many ≤ i := Nat.not_lt.mp fun z => absurd c_22 (nI_ge z (by omega))
      refine jr_norm (fun k => if k < oth then nI k else -1) h2 (fun k hk => h5 k (by omega)) ?_
      exact jr_vret hX hlk hr ⟨rfl, fa, na, hfa, hfaA, hfn, hna, hnaA, hnn, hnf, by rw [jup_n (Ne.symm hfn)]; exact h1, jup_s, by rw [jup_n hnf]; exact h3, fun b z1 z2 z3 => by rw [jup_n z2]; exact h4 b z1 z2 z3⟩ dX4_init_47
    · have hi9 : i < many := Nat.not_le.mp fun z => c_22 (nI_le z (by omega))
      refine jr_aload_n (i := 0) hX rfl rfl dX4_init_25 ?_
      refine jr_get (ci := 5) (k := 0) hX h1 rfl in_X4 (by decide) q354 rfl dX4_init_26 ?_
      refine jr_iload_n (i := 3) hX rfl rfl dX4_init_29 ?_
      refine jr_iload_n (i := 3) hX rfl rfl dX4_init_30 ?_
      refine jr_iload_n (i := 2) hX rfl rfl dX4_init_31 ?_
      refine jr_icmp_ge hX (tgt := 39) (by decide) dX4_init_32 (fun c_32 => ?_) (fun c_32 => ?_)
      · refine jr_iconst (v := -1) hX rfl dX4_init_39 ?_
        refine jr_iast hX h2 (vp_in_nI hi9 (by omega)) dX4_init_40 ?_
        rw [nI_clamp (by omega)]
        refine jr_iinc (w := 1) hX rfl rfl (by decide) rfl dX4_init_41 ?_
        refine jr_goto hX (tgt := 20) (by decide) dX4_init_44 ?_
        rw [show nI i + 1 = nI (i + 1) from nI_1 i]
        refine jr_lvm [(3, .int (nI (i + 1))), (0, .ref n), (1, .int (nI many)), (2, .int (nI oth))] rfl ?_
        refine ih _ (by omega) (i + 1) _ _ rfl (by omega) (by rw [jup_n (Ne.symm hfn)]; exact h1) jup_s (by rw [jup_n hnf]; exact h3) (fun b z1 z2 z3 => by rw [jup_n z2]; exact h4 b z1 z2 z3) (fun k hk => ?_)
        show upd g i _ k = _
        by_cases e : k = i
        · subst e
          simp only [upd, if_true]
          rw [if_neg (fun z => absurd c_32 (nI_ge z (by omega)))]
        · simp only [upd, if_neg e]
          exact h5 k (by omega)
      · refine jr_iload_n (i := 3) hX rfl rfl dX4_init_35 ?_
        refine jr_goto hX (tgt := 40) (by decide) dX4_init_36 ?_
        refine jr_iast hX h2 (vp_in_nI hi9 (by omega)) dX4_init_40 ?_
        rw [nI_clamp (by omega)]
        refine jr_iinc (w := 1) hX rfl rfl (by decide) rfl dX4_init_41 ?_
        refine jr_goto hX (tgt := 20) (by decide) dX4_init_44 ?_
        rw [show nI i + 1 = nI (i + 1) from nI_1 i]
        refine jr_lvm [(3, .int (nI (i + 1))), (0, .ref n), (1, .int (nI many)), (2, .int (nI oth))] rfl ?_
        refine ih _ (by omega) (i + 1) _ _ rfl (by omega) (by rw [jup_n (Ne.symm hfn)]; exact h1) jup_s (by rw [jup_n hnf]; exact h3) (fun b z1 z2 z3 => by rw [jup_n z2]; exact h4 b z1 z2 z3) (fun k hk => ?_)
        show upd g i _ k = _
        by_cases e : k = i
        · subst e
          simp only [upd, if_true]
          rw [if_pos (Nat.not_le.mp fun z => c_32 (nI_le z (by omega)))]
        · simp only [upd, if_neg e]
          exact h5 k (by omega)
  refine jr_lvm [(3, .int (nI 0)), (0, .ref n), (1, .int (nI many)), (2, .int (nI oth))] rfl ?_
  exact loop many 0 _ (fun _ => 0) rfl (Nat.zero_le _) jup_s (by rw [jup_n hfn, jup_n (Ne.symm hnf), jup_n hfn, jup_s]) (by rw [jup_n hnn, jup_s]) (fun b z1 z2 z3 => by rw [jup_n z1, jup_n z3, jup_n z1, jup_n z2]) (fun k hk => absurd hk (Nat.not_lt_zero k))
