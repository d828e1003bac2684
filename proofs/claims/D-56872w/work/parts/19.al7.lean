/-! ArrayList: add(int, E), addAll; Arrays.fill; Integer -/
theorem la_ins {xs : List Nat} {x i cap : Nat} {f : Nat → Option Nat} (h : ∀ j, j < cap → f j = xs[j]?) (hi : i ≤ xs.length) (hc : xs.length < cap) : ∀ j, j < cap → va_up (va_cpy f f i (i + 1) (xs.length - i)) i (some x) j = (xs.take i ++ x :: xs.drop i)[j]? := by
  intro j hj
  by_cases e : j = i
  · subst e
    rw [va_up_self, List.getElem?_append_right (by simp; omega)]
    simp [Nat.min_eq_left hi]
  · rw [va_up_ne _ _ e]
    by_cases l : j < i
    · rw [pk_cpy_out (Or.inl (by omega)), h j hj, List.getElem?_append_left (by simp; omega), List.getElem?_take, if_pos l]
    · rw [List.getElem?_append_right (by simp; omega)]
      simp only [List.length_take, Nat.min_eq_left hi]
      rw [show j - i = (j - i - 1) + 1 by omega, List.getElem?_cons_succ, List.getElem?_drop]
      by_cases l2 : j < i + 1 + (xs.length - i)
      · rw [pk_cpy_in (by omega) l2, show i + (j - (i + 1)) = i + (j - i - 1) by omega, h _ (by omega)]
      · rw [pk_cpy_out (Or.inr (by omega)), h j hj, List.getElem?_eq_none (by omega), List.getElem?_eq_none (by omega)]

set_option maxHeartbeats 4000000 in
set_option maxRecDepth 100000 in
theorem met_rcfa (l : Launch) (D : va_G) (s0 : State) (b0 : Nat) (A : Nat → Prop) (G : jG) (a : Nat) (xs : List Nat) (mo : Int32) (cap ea : Nat) (hL : jLS D s0 b0 G a xs mo cap ea) (i : Nat) (hi : i ≤ xs.length) : jM l yJ2_rangeCheckForAdd (ws_ yJ2_rangeCheckForAdd cJ2_rangeCheckForAdd 2 none) (jR 0 0 0) D s0 b0 A G [.ref a, .int (nI i)] (fun v G1 => v = none ∧ G1 = G) := by
  obtain ⟨hL1, hle, hcap, hor⟩ := hL
  refine jM.of (by decide +kernel) (own := RJ2) rfl (Nat.le_of_ble_eq_true rfl) ?_
  intro p e s m args below meth c hX hr hlk hnm
  refine jr_iload_n (i := 1) hX rfl rfl dJ2_rangeCheckForAdd_0 ?_
  refine jr_aload_n (i := 0) hX rfl rfl dJ2_rangeCheckForAdd_1 ?_
  refine jr_get (ci := 0) (k := 2) hX (by first | assumption | exact jup_s) rfl in_J2 (by decide) q137 rfl dJ2_rangeCheckForAdd_2 ?_
  refine jr_icmp_gt hX (tgt := 12) (by decide) dJ2_rangeCheckForAdd_5 (fun c_5 => absurd c_5 (nI_nlt hi (by omega))) (fun c_5 => ?_)
  refine jr_iload_n (i := 1) hX rfl rfl dJ2_rangeCheckForAdd_8 ?_
  refine jr_if_ge hX (tgt := 25) (by decide) dJ2_rangeCheckForAdd_9 (fun c_9 => ?_) (fun c_9 => absurd (nI_pos' (by omega)) c_9)
  exact jr_vret hX hlk hr ⟨rfl, rfl⟩ dJ2_rangeCheckForAdd_25

set_option maxHeartbeats 4000000 in
set_option maxRecDepth 100000 in
theorem met_add3 (l : Launch) (D : va_G) (s0 : State) (b0 : Nat) (A : Nat → Prop) (G : jG) (a : Nat) (xs : List Nat) (mo : Int32) (cap ea : Nat) (hL : jLS D s0 b0 G a xs mo cap ea) (hel : ∀ y ∈ xs, jOb s0 b0 D G y)(i : Nat) (hi : i ≤ xs.length) (x : Nat) (hx : jOb s0 b0 D G x)(mc ms : Nat) (hc2 : cap < 13000) (hmm : xs.length = cap → 1 ≤ mc ∧ jgw cap (cap + 1) ≤ ms) : jM l yJ2_add_3 (ws_ yJ2_add_3 cJ2_add_3 5 none) (jR 6 (mc) (ms)) D s0 b0 A G [.ref a, .int (nI i), .ref x] (fun v G1 => v = none ∧ jLU D s0 b0 A G G1 a ea (xs.take i ++ x :: xs.drop i) (mo + 1) (if xs.length = cap then jgw cap (cap + 1) else cap)) := by
  have hL0 := hL
  obtain ⟨hL1, hle, hcap, hor⟩ := hL
  have hgw : jgw cap (cap + 1) ≤ 20000 ∧ 10 ≤ jgw cap (cap + 1) ∧ cap < jgw cap (cap + 1) := by
    unfold jgw
    rcases hor with h | ⟨h, -⟩ <;> split <;> omega
  have hln : (xs.take i ++ x :: xs.drop i).length = xs.length + 1 := by simp; omega
  refine jM.of (by decide +kernel) (own := RJ2) rfl (Nat.le_of_ble_eq_true rfl) ?_
  intro p e s m args below meth c hX hr hlk hnm
  refine jr_aload_n (i := 0) hX rfl rfl dJ2_add_3_0 ?_
  refine jr_iload_n (i := 1) hX rfl rfl dJ2_add_3_1 ?_
  refine jr_callV (As := [.int (nI i)]) (bc1 := (mc)) (bs1 := (ms)) hX (met_rcfa l D s0 b0 A G a xs mo cap ea hL0 i hi) (cwV 1 hX.ts (lw_V q1250 q1252 qs32 q68 q1253) rfl rfl rfl (by decide +kernel) ⟨Nat.le_of_ble_eq_true rfl, Nat.le_of_ble_eq_true rfl⟩) (by first | assumption | exact jup_s) rfl rfl (Nat.le_of_ble_eq_true rfl) (by show mc + 0 ≤ mc; omega) (by show ms + 0 ≤ ms; omega) rfl dJ2_add_3_2 (fun v_2 G_2 hp_2 => ?_)
  obtain ⟨rfl, e9⟩ := hp_2
  rw [e9]
  refine jr_aload_n (i := 0) hX rfl rfl dJ2_add_3_5 ?_
  refine jr_dup hX rfl dJ2_add_3_6 ?_
  refine jr_getS (ci := 0) (k := 0) hX (by first | assumption | exact jup_s) rfl in_J2 (by decide) q141 (u_same (hX.ts _ q140)) rfl dJ2_add_3_7 ?_
  refine jr_iconst (v := 1) hX rfl dJ2_add_3_10 ?_
  refine jr_iadd hX dJ2_add_3_11 ?_
  refine jr_putS (ci := 0) (k := 0) hX (by first | assumption | exact jup_s) rfl in_J2 (by decide) tyJ2 tyJ2_ok nmJ2 q141 (u_same (hX.ts _ q140)) rfl (by first | rfl | assumption) (by first | rfl | assumption) (Nat.le_of_ble_eq_true rfl) dJ2_add_3_12 ?_
  refine jr_aload_n (i := 0) hX rfl rfl dJ2_add_3_15 ?_
  refine jr_get (ci := 0) (k := 2) hX (by first | assumption | exact jup_s) rfl in_J2 (by decide) q137 rfl dJ2_add_3_16 ?_
  refine jr_dup hX rfl dJ2_add_3_19 ?_
  refine jr_istore_n (i := 3) hX rfl (by decide) rfl dJ2_add_3_20 ?_
  refine jr_aload_n (i := 0) hX rfl rfl dJ2_add_3_21 ?_
  refine jr_get (ci := 0) (k := 1) hX (by first | assumption | exact jup_s) rfl in_J2 (by decide) q134 rfl dJ2_add_3_22 ?_
  refine jr_dup hX rfl dJ2_add_3_25 ?_
  refine jr_astore hX (by decide) rfl dJ2_add_3_26 ?_
  refine jr_llen (ea := ea) (B := fun f => ∀ i, i < cap → f i = xs[i]?) hX (by
    rcases hor with h | ⟨h, f, h1, h2⟩
    · exact Or.inl h
    · exact Or.inr ⟨h, f, jup_o h1 hL1 (by simp), h2⟩) dJ2_add_3_28 ?_
  refine jr_icmp_ne hX (tgt := 38) (by decide) dJ2_add_3_29 (fun c_29 => ?_) (fun c_29 => ?_)
  · have hlt : xs.length ≠ cap := fun q => c_29 (by rw [q])
    obtain ⟨hc10, f, hf, hfx⟩ : 10 ≤ cap ∧ ∃ f : Nat → Option Nat, G ea = some (jq D 101 cap f) ∧ ∀ i, i < cap → f i = xs[i]? := by
      rcases hor with h | h
      · omega
      · exact h
    have hf1 : (jup G a (jo 0 [.int (mo + 1), .ref ea, .int (nI xs.length)])) ea = some (jq D 101 cap f) := jup_o hf hL1 (by simp)
    have hea : ea ≠ a := fun z => by rw [z, hL1] at hf; simp at hf
    refine jr_aload hX rfl dJ2_add_3_38 ?_
    refine jr_iload_n (i := 1) hX rfl rfl dJ2_add_3_40 ?_
    refine jr_aload hX rfl dJ2_add_3_41 ?_
    refine jr_iload_n (i := 1) hX rfl rfl dJ2_add_3_43 ?_
    refine jr_iconst (v := 1) hX rfl dJ2_add_3_44 ?_
    refine jr_iadd hX dJ2_add_3_45 ?_
    rw [nI_1]
    refine jr_iload_n (i := 3) hX rfl rfl dJ2_add_3_46 ?_
    refine jr_iload_n (i := 1) hX rfl rfl dJ2_add_3_47 ?_
    refine jr_isub hX dJ2_add_3_48 ?_
    rw [pk_sub (by omega)]
    refine jr_copyq hX q344 q266 q265 q74 hf1 hf1 (nI_pos (by omega)) (nI_pos (by omega)) (nI_pos (by omega)) (by rw [nI_clamp (by omega), nI_clamp (by omega)]; omega) (by rw [nI_clamp (by omega), nI_clamp (by omega)]; omega) (fun k hk y hy => by
      rw [nI_clamp (by omega)] at hk
      rw [nI_clamp (by omega), hfx _ (by omega)] at hy
      exact (hel y (List.mem_of_getElem? hy)).o hL1) (Nat.le_of_ble_eq_true rfl) (Nat.le_of_ble_eq_true rfl) dJ2_add_3_49 ?_
    rw [nI_clamp (by omega), nI_clamp (by omega), nI_clamp (by omega)]
    refine jr_aload hX rfl dJ2_add_3_52 ?_
    refine jr_iload_n (i := 1) hX rfl rfl dJ2_add_3_54 ?_
    refine jr_aload_n (i := 2) hX rfl rfl dJ2_add_3_55 ?_
    refine jr_aastO hX jup_s ((hx.o hL1).q hf1) (vp_in_nI (by omega) (by omega)) dJ2_add_3_56 ?_
    rw [nI_clamp (by omega), jup_jup]
    refine jr_aload_n (i := 0) hX rfl rfl dJ2_add_3_57 ?_
    refine jr_iload_n (i := 3) hX rfl rfl dJ2_add_3_58 ?_
    refine jr_iconst (v := 1) hX rfl dJ2_add_3_59 ?_
    refine jr_iadd hX dJ2_add_3_60 ?_
    rw [nI_1]
    refine jr_put (ci := 0) (k := 2) hX (jup_o jup_s hf1 (by simp)) rfl in_J2 (by decide) tyJ2 tyJ2_ok nmJ2 q137 rfl rfl rfl (Nat.le_of_ble_eq_true rfl) dJ2_add_3_61 ?_
    refine jr_vret hX hlk hr ⟨rfl, ?_⟩ dJ2_add_3_64
    rw [if_neg hlt]
    refine ⟨ea, ⟨by rw [jup_s]; simp [hln], by rw [hln]; omega, hcap, Or.inr ⟨hc10, _, by rw [jup_n hea, jup_s], la_ins hfx hi (by omega)⟩⟩, fun b q1 q2 _ => by rw [jup_n q1, jup_n q2, jup_n q1], Or.inl rfl⟩
  · have heq : xs.length = cap := (nI_eq (by omega) (by omega)).mp c_29
    obtain ⟨hm1, hm2⟩ := hmm heq
    refine jr_aload_n (i := 0) hX rfl rfl dJ2_add_3_32 ?_
    refine jr_callV (As := []) (bc1 := (0)) (bs1 := (0)) hX (met_grow l D s0 b0 A _ a xs (mo + 1) cap ea ⟨jup_s, hle, hcap, by
          rcases hor with h | ⟨h, f, h1, h2⟩
          · exact Or.inl h
          · exact Or.inr ⟨h, f, jup_o h1 hL1 (by simp), h2⟩⟩ heq (by omega) (fun y hy => (hel y hy).o hL1)) (cwV 0 hX.ts (lw_V q193 q195 qs1 q68 q196) rfl rfl rfl (by decide +kernel) ⟨Nat.le_of_ble_eq_true rfl, Nat.le_of_ble_eq_true rfl⟩) (by first | assumption | exact jup_s) rfl rfl (Nat.le_of_ble_eq_true rfl) (by show 0 + 1 ≤ mc; omega) (by show 0 + jgw cap (cap + 1) ≤ ms; omega) rfl dJ2_add_3_33 (fun v_33 G_33 hp_33 => ?_)
    obtain ⟨q, f2, rfl, hq1, hq2, hq3, e9⟩ := hp_33
    rw [e9]
    refine jr_astore hX (by decide) rfl dJ2_add_3_36 ?_
    have hqa : q ≠ a := fun z => by rw [z, jup_s] at hq1; cases hq1
    have hfq : (jup (jup (jup G a (jo 0 [.int (mo + 1), .ref ea, .int (nI xs.length)])) q (jq D 101 (jgw cap (cap + 1)) f2)) a (jo 0 [.int (mo + 1), .ref q, .int (nI xs.length)])) q = some (jq D 101 (jgw cap (cap + 1)) f2) := by rw [jup_n hqa, jup_s]
    refine jr_aload hX rfl dJ2_add_3_38 ?_
    refine jr_iload_n (i := 1) hX rfl rfl dJ2_add_3_40 ?_
    refine jr_aload hX rfl dJ2_add_3_41 ?_
    refine jr_iload_n (i := 1) hX rfl rfl dJ2_add_3_43 ?_
    refine jr_iconst (v := 1) hX rfl dJ2_add_3_44 ?_
    refine jr_iadd hX dJ2_add_3_45 ?_
    rw [nI_1]
    refine jr_iload_n (i := 3) hX rfl rfl dJ2_add_3_46 ?_
    refine jr_iload_n (i := 1) hX rfl rfl dJ2_add_3_47 ?_
    refine jr_isub hX dJ2_add_3_48 ?_
    rw [pk_sub (by omega)]
    refine jr_copyq hX q344 q266 q265 q74 hfq hfq (nI_pos (by omega)) (nI_pos (by omega)) (nI_pos (by omega)) (by rw [nI_clamp (by omega), nI_clamp (by omega)]; omega) (by rw [nI_clamp (by omega), nI_clamp (by omega)]; omega) (fun k hk y hy => by
      rw [nI_clamp (by omega)] at hk
      rw [nI_clamp (by omega), hq3 _ (by omega)] at hy
      exact ((((hel y (List.mem_of_getElem? hy)).o hL1).f hq1).o (jup_f jup_s hq1))) (Nat.le_of_ble_eq_true rfl) (Nat.le_of_ble_eq_true rfl) dJ2_add_3_49 ?_
    rw [nI_clamp (by omega), nI_clamp (by omega), nI_clamp (by omega)]
    refine jr_aload hX rfl dJ2_add_3_52 ?_
    refine jr_iload_n (i := 1) hX rfl rfl dJ2_add_3_54 ?_
    refine jr_aload_n (i := 2) hX rfl rfl dJ2_add_3_55 ?_
    refine jr_aastO hX jup_s (((((hx.o hL1).f hq1).o (jup_f jup_s hq1))).q hfq) (vp_in_nI (by omega) (by omega)) dJ2_add_3_56 ?_
    rw [nI_clamp (by omega), jup_jup]
    refine jr_aload_n (i := 0) hX rfl rfl dJ2_add_3_57 ?_
    refine jr_iload_n (i := 3) hX rfl rfl dJ2_add_3_58 ?_
    refine jr_iconst (v := 1) hX rfl dJ2_add_3_59 ?_
    refine jr_iadd hX dJ2_add_3_60 ?_
    rw [nI_1]
    refine jr_put (ci := 0) (k := 2) hX (jup_o jup_s hfq (by simp)) rfl in_J2 (by decide) tyJ2 tyJ2_ok nmJ2 q137 rfl rfl rfl (Nat.le_of_ble_eq_true rfl) dJ2_add_3_61 ?_
    refine jr_vret hX hlk hr ⟨rfl, ?_⟩ dJ2_add_3_64
    rw [if_pos heq]
    refine ⟨q, ⟨by rw [jup_s]; simp [hln], by rw [hln]; omega, hgw.1, Or.inr ⟨hgw.2.1, _, by rw [jup_n hqa, jup_s], la_ins hq3 hi (by omega)⟩⟩, fun b q1 q2 q3 => by rw [jup_n q1, jup_n q3, jup_n q1, jup_n q3, jup_n q1], Or.inr ⟨by rw [jup_n hqa] at hq1; exact hq1, hq2⟩⟩
