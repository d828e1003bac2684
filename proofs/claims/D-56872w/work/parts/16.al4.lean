/-! ArrayList: add, clear, remove, toArray -/
/-- what a writer of the list at a does: the list is xs1 now; of all other cells none changed, but for the array -/
def jLU (D : va_G) (s0 : State) (b0 : Nat) (A : Nat → Prop) (G G1 : jG) (a ea : Nat) (xs1 : List Nat) (mo1 : Int32) (cap1 : Nat) : Prop :=
  ∃ ea1 : Nat, jLS D s0 b0 G1 a xs1 mo1 cap1 ea1 ∧ (∀ b : Nat, b ≠ a → b ≠ ea → b ≠ ea1 → G1 b = G b) ∧ (ea1 = ea ∨ (G ea1 = none ∧ A ea1))
theorem jLU.put {D : va_G} {s0 : State} {b0 : Nat} {A : Nat → Prop} {G G1 : jG} {a ea : Nat} {xs1 : List Nat} {mo1 : Int32} {cap1 : Nat} {c0 c : jE} (h : jLU D s0 b0 A (jup G a c) G1 a ea xs1 mo1 cap1) (ha : G a = some c0) : jLU D s0 b0 A G G1 a ea xs1 mo1 cap1 := by
  obtain ⟨ea1, h1, h2, h3⟩ := h
  refine ⟨ea1, h1, fun b q1 q2 q3 => (h2 b q1 q2 q3).trans (jup_n q1), ?_⟩
  rcases h3 with h3 | ⟨h3, h4⟩
  · exact Or.inl h3
  · refine Or.inr ⟨?_, h4⟩
    by_cases e : ea1 = a
    · subst e; rw [jup_s] at h3; cases h3
    · rw [jup_n e] at h3; exact h3
theorem la_app {xs : List Nat} {x cap : Nat} {f : Nat → Option Nat} (h : ∀ i, i < cap → f i = xs[i]?) : ∀ i, i < cap → va_up f xs.length (some x) i = (xs ++ [x])[i]? := by
  intro i hi
  by_cases e : i = xs.length
  · subst e; rw [va_up_self]; simp
  · rw [va_up_ne _ _ e, h i hi]
    by_cases l : i < xs.length
    · rw [List.getElem?_append_left l]
    · rw [List.getElem?_eq_none (by omega), List.getElem?_eq_none (by simp; omega)]
theorem la_rm {xs : List Nat} {i cap : Nat} {f : Nat → Option Nat} (h : ∀ j, j < cap → f j = xs[j]?) (hi : i < xs.length) (hc : xs.length ≤ cap) : ∀ j, j < cap → va_up (va_cpy f f (i + 1) i (xs.length - 1 - i)) (xs.length - 1) none j = (xs.eraseIdx i)[j]? := by
  intro j hj
  rw [List.getElem?_eraseIdx]
  by_cases e : j = xs.length - 1
  · subst e
    rw [va_up_self]
    by_cases l : xs.length - 1 < i
    · omega
    · rw [if_neg l, List.getElem?_eq_none (by omega)]
  · rw [va_up_ne _ _ e]
    by_cases l : j < i
    · rw [if_pos l, pk_cpy_out (Or.inl l), h j hj]
    · rw [if_neg l]
      by_cases l2 : j < i + (xs.length - 1 - i)
      · rw [pk_cpy_in (by omega) l2, show i + 1 + (j - i) = j + 1 by omega, h _ (by omega)]
      · rw [pk_cpy_out (Or.inr (by omega)), h j hj, List.getElem?_eq_none (by omega), List.getElem?_eq_none (by omega)]
theorem la_rm0 {xs : List Nat} {i cap : Nat} {f : Nat → Option Nat} (h : ∀ j, j < cap → f j = xs[j]?) (hi : i + 1 = xs.length) : ∀ j, j < cap → va_up f (xs.length - 1) none j = (xs.eraseIdx i)[j]? := by
  intro j hj
  rw [List.getElem?_eraseIdx]
  by_cases e : j = xs.length - 1
  · subst e
    rw [va_up_self, if_neg (by omega), List.getElem?_eq_none (by omega)]
  · rw [va_up_ne _ _ e, h j hj]
    by_cases l : j < i
    · rw [if_pos l]
    · rw [if_neg l, List.getElem?_eq_none (by omega), List.getElem?_eq_none (by omega)]
section JL6
variable {p : Program} {l : Launch} {e : Env} {R : Room} {s : State} {m : MethodId} {args : Array Value} {below : List Frame} {meth : Method} {c : Code} {Q : State → Prop} {D : va_G} {s0 : State} {b0 : Nat} {A : Nat → Prop} {cc : ByteArray} {nL : Nat} {own : String} {G : jG} {bc bs pc : Nat} {lv : List (Nat × Value)} {st : List Value}
/-- the length of a list's array -/
theorem jr_llen (hX : jX D s0 b0 A p s m args c cc nL own) {ea cap : Nat} {B : (Nat → Option Nat) → Prop} (hor : (cap = 0 ∧ ea = jEE s0 b0) ∨ (10 ≤ cap ∧ ∃ f : Nat → Option Nat, G ea = some (jq D 101 cap f) ∧ B f)) (d : decode cc pc = .ok (.arraylength, 1)) (kk : Jg p l e R s m args below meth c Q D A nL G bc bs (pc + 1) lv (.int (nI cap) :: st)) : Jg p l e R s m args below meth c Q D A nL G bc bs pc lv (.ref ea :: st) := by
  rcases hor with ⟨h1, h2⟩ | ⟨h1, f, h2, h3⟩
  · subst h1
    exact jr_tlen (v := nI 0) hX (by rw [h2]; exact hX.S.EE.2) rfl d kk
  · exact jr_alen (t := 1) (v := nI cap) hX h2 rfl rfl d kk
end JL6

set_option maxHeartbeats 4000000 in
set_option maxRecDepth 100000 in
theorem met_add2 (l : Launch) (D : va_G) (s0 : State) (b0 : Nat) (A : Nat → Prop) (G : jG) (a : Nat) (xs : List Nat) (mo : Int32) (cap ea : Nat) (hL : jLS D s0 b0 G a xs mo cap ea) (hel : ∀ y ∈ xs, jOb s0 b0 D G y)(x : Nat) (hx : jOb s0 b0 D G x)(mc ms : Nat) (hc2 : cap < 13000) (hmm : xs.length = cap → 1 ≤ mc ∧ jgw cap (cap + 1) ≤ ms) : jM l yJ2_add_2 (ws_ yJ2_add_2 cJ2_add_2 4 none) (jR 5 (mc) (ms)) D s0 b0 A G [.ref a, .ref x, .ref ea, .int (nI xs.length)] (fun v G1 => v = none ∧ jLU D s0 b0 A G G1 a ea (xs ++ [x]) mo (if xs.length = cap then jgw cap (cap + 1) else cap)) := by
  have hL0 := hL
  obtain ⟨hL1, hle, hcap, hor⟩ := hL
  have hgw : jgw cap (cap + 1) ≤ 20000 ∧ 10 ≤ jgw cap (cap + 1) ∧ cap < jgw cap (cap + 1) := by
    unfold jgw
    rcases hor with h | ⟨h, -⟩ <;> split <;> omega
  refine jM.of (by decide +kernel) (own := RJ2) rfl (Nat.le_of_ble_eq_true rfl) ?_
  intro p e s m args below meth c hX hr hlk hnm
  refine jr_iload_n (i := 3) hX rfl rfl dJ2_add_2_0 ?_
  refine jr_aload_n (i := 2) hX rfl rfl dJ2_add_2_1 ?_
  refine jr_llen hX hor dJ2_add_2_2 ?_
  refine jr_icmp_ne hX (tgt := 11) (by decide) dJ2_add_2_3 (fun c_3 => ?_) (fun c_3 => ?_)
  · have hlt : xs.length ≠ cap := fun q => c_3 (by rw [q])
    obtain ⟨hc10, f, hf, hfx⟩ : 10 ≤ cap ∧ ∃ f : Nat → Option Nat, G ea = some (jq D 101 cap f) ∧ ∀ i, i < cap → f i = xs[i]? := by
      rcases hor with h | h
      · omega
      · exact h
    refine jr_aload_n (i := 2) hX rfl rfl dJ2_add_2_11 ?_
    refine jr_iload_n (i := 3) hX rfl rfl dJ2_add_2_12 ?_
    refine jr_aload_n (i := 1) hX rfl rfl dJ2_add_2_13 ?_
    refine jr_aastO hX hf hx (vp_in_nI (by omega) (by omega)) dJ2_add_2_14 ?_
    rw [nI_clamp (by omega)]
    refine jr_aload_n (i := 0) hX rfl rfl dJ2_add_2_15 ?_
    refine jr_iload_n (i := 3) hX rfl rfl dJ2_add_2_16 ?_
    refine jr_iconst (v := 1) hX rfl dJ2_add_2_17 ?_
    refine jr_iadd hX dJ2_add_2_18 ?_
    rw [nI_1]
    refine jr_put (ci := 0) (k := 2) hX (jup_o hL1 hf (by simp)) rfl in_J2 (by decide) tyJ2 tyJ2_ok nmJ2 q137 rfl rfl rfl (Nat.le_of_ble_eq_true rfl) dJ2_add_2_19 ?_
    have hea : ea ≠ a := fun z => by rw [z, hL1] at hf; simp at hf
    refine jr_vret hX hlk hr ⟨rfl, ?_⟩ dJ2_add_2_22
    rw [if_neg hlt]
    refine ⟨ea, ⟨by rw [jup_s]; simp, by simp; omega, hcap, Or.inr ⟨hc10, _, by rw [jup_n hea, jup_s], la_app hfx⟩⟩, fun b q1 q2 _ => by rw [jup_n q1, jup_n q2], Or.inl rfl⟩
  · have heq : xs.length = cap := (nI_eq (by omega) (by omega)).mp c_3
    obtain ⟨hm1, hm2⟩ := hmm heq
    refine jr_aload_n (i := 0) hX rfl rfl dJ2_add_2_6 ?_
    refine jr_callV (As := []) (bc1 := (0)) (bs1 := (0)) hX (met_grow l D s0 b0 A G a xs mo cap ea hL0 heq (by omega) hel) (cwV 0 hX.ts (lw_V q193 q195 qs1 q68 q196) rfl rfl rfl (by decide +kernel) ⟨Nat.le_of_ble_eq_true rfl, Nat.le_of_ble_eq_true rfl⟩) (by first | assumption | exact jup_s) rfl rfl (Nat.le_of_ble_eq_true rfl) (by show 0 + 1 ≤ mc; omega) (by show 0 + jgw cap (cap + 1) ≤ ms; omega) rfl dJ2_add_2_7 (fun v_7 G_7 hp_7 => ?_)
    obtain ⟨q, f2, rfl, hq1, hq2, hq3, e9⟩ := hp_7
    rw [e9]
    refine jr_astore_n (i := 2) hX rfl (by decide) rfl dJ2_add_2_10 ?_
    refine jr_aload_n (i := 2) hX rfl rfl dJ2_add_2_11 ?_
    refine jr_iload_n (i := 3) hX rfl rfl dJ2_add_2_12 ?_
    refine jr_aload_n (i := 1) hX rfl rfl dJ2_add_2_13 ?_
    have hqa : q ≠ a := fun z => by rw [z, hL1] at hq1; cases hq1
    have hfq : (jup (jup G q (jq D 101 (jgw cap (cap + 1)) f2)) a (jo 0 [.int mo, .ref q, .int (nI xs.length)])) q = some (jq D 101 (jgw cap (cap + 1)) f2) := by rw [jup_n hqa, jup_s]
    have hxq : jOb s0 b0 D (jup (jup G q (jq D 101 (jgw cap (cap + 1)) f2)) a (jo 0 [.int mo, .ref q, .int (nI xs.length)])) x := (hx.f hq1).o (jup_f hL1 hq1)
    refine jr_aastO hX hfq hxq (vp_in_nI (by omega) (by omega)) dJ2_add_2_14 ?_
    rw [nI_clamp (by omega)]
    refine jr_aload_n (i := 0) hX rfl rfl dJ2_add_2_15 ?_
    refine jr_iload_n (i := 3) hX rfl rfl dJ2_add_2_16 ?_
    refine jr_iconst (v := 1) hX rfl dJ2_add_2_17 ?_
    refine jr_iadd hX dJ2_add_2_18 ?_
    rw [nI_1]
    refine jr_put (ci := 0) (k := 2) hX (jup_o jup_s hfq (by simp)) rfl in_J2 (by decide) tyJ2 tyJ2_ok nmJ2 q137 rfl rfl rfl (Nat.le_of_ble_eq_true rfl) dJ2_add_2_19 ?_
    refine jr_vret hX hlk hr ⟨rfl, ?_⟩ dJ2_add_2_22
    rw [if_pos heq]
    refine ⟨q, ⟨by rw [jup_s]; simp, by simp; omega, hgw.1, Or.inr ⟨hgw.2.1, _, by rw [jup_n hqa, jup_s], la_app hq3⟩⟩, fun b q1 q2 q3 => by rw [jup_n q1, jup_n q3, jup_n q1, jup_n q3], Or.inr ⟨hq1, hq2⟩⟩

set_option maxHeartbeats 4000000 in
set_option maxRecDepth 100000 in
theorem met_add (l : Launch) (D : va_G) (s0 : State) (b0 : Nat) (A : Nat → Prop) (G : jG) (a : Nat) (xs : List Nat) (mo : Int32) (cap ea : Nat) (hL : jLS D s0 b0 G a xs mo cap ea) (hel : ∀ y ∈ xs, jOb s0 b0 D G y)(x : Nat) (hx : jOb s0 b0 D G x)(mc ms : Nat) (hc2 : cap < 13000) (hmm : xs.length = cap → 1 ≤ mc ∧ jgw cap (cap + 1) ≤ ms) : jM l yJ2_add (ws_ yJ2_add cJ2_add 2 (some .boolean)) (jR 6 (mc) (ms)) D s0 b0 A G [.ref a, .ref x] (fun v G1 => v = some (.int 1) ∧ jLU D s0 b0 A G G1 a ea (xs ++ [x]) (mo + 1) (if xs.length = cap then jgw cap (cap + 1) else cap)) := by
  obtain ⟨hL1, hle, hcap, hor⟩ := hL
  refine jM.of (by decide +kernel) (own := RJ2) rfl (Nat.le_of_ble_eq_true rfl) ?_
  intro p e s m args below meth c hX hr hlk hnm
  refine jr_aload_n (i := 0) hX rfl rfl dJ2_add_0 ?_
  refine jr_dup hX rfl dJ2_add_1 ?_
  refine jr_getS (ci := 0) (k := 0) hX (by first | assumption | exact jup_s) rfl in_J2 (by decide) q141 (u_same (hX.ts _ q140)) rfl dJ2_add_2 ?_
  refine jr_iconst (v := 1) hX rfl dJ2_add_5 ?_
  refine jr_iadd hX dJ2_add_6 ?_
  refine jr_putS (ci := 0) (k := 0) hX (by first | assumption | exact jup_s) rfl in_J2 (by decide) tyJ2 tyJ2_ok nmJ2 q141 (u_same (hX.ts _ q140)) rfl (by first | rfl | assumption) (by first | rfl | assumption) (Nat.le_of_ble_eq_true rfl) dJ2_add_7 ?_
  refine jr_aload_n (i := 0) hX rfl rfl dJ2_add_10 ?_
  refine jr_aload_n (i := 1) hX rfl rfl dJ2_add_11 ?_
  refine jr_aload_n (i := 0) hX rfl rfl dJ2_add_12 ?_
  refine jr_get (ci := 0) (k := 1) hX (by first | assumption | exact jup_s) rfl in_J2 (by decide) q134 rfl dJ2_add_13 ?_
  refine jr_aload_n (i := 0) hX rfl rfl dJ2_add_16 ?_
  refine jr_get (ci := 0) (k := 2) hX (by first | assumption | exact jup_s) rfl in_J2 (by decide) q137 rfl dJ2_add_17 ?_
  have hL2 : jLS D s0 b0 (jup G a (jo 0 [.int (mo + 1), .ref ea, .int (nI xs.length)])) a xs (mo + 1) cap ea := ⟨jup_s, hle, hcap, by
    rcases hor with h | ⟨h, f, h1, h2⟩
    · exact Or.inl h
    · exact Or.inr ⟨h, f, jup_o h1 hL1 (by simp), h2⟩⟩
  refine jr_callV (As := [.ref x, .ref ea, .int (nI xs.length)]) (bc1 := (0)) (bs1 := (0)) hX (met_add2 l D s0 b0 A _ a xs (mo + 1) cap ea hL2 (fun y hy => (hel y hy).o hL1) x (hx.o hL1) mc ms hc2 hmm) (cwV 3 hX.ts (lw_V q189 q191 qs0 q68 q192) rfl rfl rfl (by decide +kernel) ⟨Nat.le_of_ble_eq_true rfl, Nat.le_of_ble_eq_true rfl⟩) (by first | assumption | exact jup_s) rfl rfl (Nat.le_of_ble_eq_true rfl) (by show 0 + mc ≤ mc; omega) (by show 0 + ms ≤ ms; omega) rfl dJ2_add_20 (fun v_20 G_20 hp_20 => ?_)
  obtain ⟨rfl, hU⟩ := hp_20
  refine jr_iconst (v := 1) hX rfl dJ2_add_23 ?_
  exact jr_zret hX hlk hr (by decide) ⟨rfl, hU.put hL1⟩ dJ2_add_24


set_option maxHeartbeats 4000000 in
set_option maxRecDepth 100000 in
theorem met_fastRemove (l : Launch) (D : va_G) (s0 : State) (b0 : Nat) (A : Nat → Prop) (G : jG) (a : Nat) (xs : List Nat) (mo : Int32) (cap ea : Nat) (hL : jLS D s0 b0 G a xs mo cap ea) (hel : ∀ y ∈ xs, jOb s0 b0 D G y)(i : Nat) (hi : i < xs.length) : jM l yJ2_fastRemove (ws_ yJ2_fastRemove cJ2_fastRemove 4 none) (jR 1 0 0) D s0 b0 A G [.ref a, .ref ea, .int (nI i)] (fun v G1 => v = none ∧ jLU D s0 b0 A G G1 a ea (xs.eraseIdx i) (mo + 1) cap) := by
  obtain ⟨hL1, hle, hcap, hor⟩ := hL
  obtain ⟨hc10, f, hf, hfx⟩ : 10 ≤ cap ∧ ∃ f : Nat → Option Nat, G ea = some (jq D 101 cap f) ∧ ∀ i, i < cap → f i = xs[i]? := by
    rcases hor with h | h
    · omega
    · exact h
  have hea : ea ≠ a := fun z => by rw [z, hL1] at hf; simp at hf
  refine jM.of (by decide +kernel) (own := RJ2) rfl (Nat.le_of_ble_eq_true rfl) ?_
  intro p e s m args below meth c hX hr hlk hnm
  refine jr_aload_n (i := 0) hX rfl rfl dJ2_fastRemove_0 ?_
  refine jr_dup hX rfl dJ2_fastRemove_1 ?_
  refine jr_getS (ci := 0) (k := 0) hX (by first | assumption | exact jup_s) rfl in_J2 (by decide) q141 (u_same (hX.ts _ q140)) rfl dJ2_fastRemove_2 ?_
  refine jr_iconst (v := 1) hX rfl dJ2_fastRemove_5 ?_
  refine jr_iadd hX dJ2_fastRemove_6 ?_
  refine jr_putS (ci := 0) (k := 0) hX (by first | assumption | exact jup_s) rfl in_J2 (by decide) tyJ2 tyJ2_ok nmJ2 q141 (u_same (hX.ts _ q140)) rfl (by first | rfl | assumption) (by first | rfl | assumption) (Nat.le_of_ble_eq_true rfl) dJ2_fastRemove_7 ?_
  refine jr_aload_n (i := 0) hX rfl rfl dJ2_fastRemove_10 ?_
  refine jr_get (ci := 0) (k := 2) hX (by first | assumption | exact jup_s) rfl in_J2 (by decide) q137 rfl dJ2_fastRemove_11 ?_
  refine jr_iconst (v := 1) hX rfl dJ2_fastRemove_14 ?_
  refine jr_isub hX dJ2_fastRemove_15 ?_
  rw [show nI xs.length - 1 = nI (xs.length - 1) from pk_sub (b := 1) (by omega)]
  refine jr_dup hX rfl dJ2_fastRemove_16 ?_
  refine jr_istore_n (i := 3) hX rfl (by decide) rfl dJ2_fastRemove_17 ?_
  refine jr_iload_n (i := 2) hX rfl rfl dJ2_fastRemove_18 ?_
  refine jr_icmp_le hX (tgt := 34) (by decide) dJ2_fastRemove_19 (fun c_19 => ?_) (fun c_19 => ?_)
  · refine jr_aload_n (i := 1) hX rfl rfl dJ2_fastRemove_34 ?_
    refine jr_aload_n (i := 0) hX rfl rfl dJ2_fastRemove_35 ?_
    refine jr_iload_n (i := 3) hX rfl rfl dJ2_fastRemove_36 ?_
    refine jr_dup_x1 hX rfl rfl dJ2_fastRemove_37 ?_
    refine jr_put (ci := 0) (k := 2) hX jup_s rfl in_J2 (by decide) tyJ2 tyJ2_ok nmJ2 q137 rfl rfl rfl (Nat.le_of_ble_eq_true rfl) dJ2_fastRemove_38 ?_
    refine jr_null hX dJ2_fastRemove_41 ?_
    refine jr_aastN (t := 1) hX (jup_o (jup_o hf hL1 (by simp)) jup_s (by simp)) rfl (vp_in_nI (by omega) (by omega)) dJ2_fastRemove_42 ?_
    rw [nI_clamp (by omega)]
    have h19 : xs.length - 1 ≤ i := (nI_leI (by omega) (by omega)).mp c_19
    refine jr_vret hX hlk hr ⟨rfl, ?_⟩ dJ2_fastRemove_43
    refine ⟨ea, ⟨by simp [jup_n hea.symm, jup_s, List.length_eraseIdx, hi], by simp [List.length_eraseIdx, hi]; omega, hcap, Or.inr ⟨hc10, _, jup_s, la_rm0 hfx (by omega)⟩⟩, fun b q1 q2 _ => by simp only [jup_n q1, jup_n q2], Or.inl rfl⟩
  · refine jr_aload_n (i := 1) hX rfl rfl dJ2_fastRemove_22 ?_
    refine jr_iload_n (i := 2) hX rfl rfl dJ2_fastRemove_23 ?_
    refine jr_iconst (v := 1) hX rfl dJ2_fastRemove_24 ?_
    refine jr_iadd hX dJ2_fastRemove_25 ?_
    rw [nI_1]
    refine jr_aload_n (i := 1) hX rfl rfl dJ2_fastRemove_26 ?_
    refine jr_iload_n (i := 2) hX rfl rfl dJ2_fastRemove_27 ?_
    refine jr_iload_n (i := 3) hX rfl rfl dJ2_fastRemove_28 ?_
    refine jr_iload_n (i := 2) hX rfl rfl dJ2_fastRemove_29 ?_
    refine jr_isub hX dJ2_fastRemove_30 ?_
    rw [pk_sub (by omega)]
    have h19 : ¬ xs.length - 1 ≤ i := fun q => c_19 (nI_le q (by omega))
    refine jr_copyq hX q344 q266 q265 q74 (jup_o hf hL1 (by simp)) (jup_o hf hL1 (by simp)) (nI_pos (by omega)) (nI_pos (by omega)) (nI_pos (by omega)) (by rw [nI_clamp (by omega), nI_clamp (by omega)]; omega) (by rw [nI_clamp (by omega), nI_clamp (by omega)]; omega) (fun k hk y hy => by
      rw [nI_clamp (by omega)] at hk
      rw [nI_clamp (by omega), hfx _ (by omega)] at hy
      exact (hel y (List.mem_of_getElem? hy)).o hL1) (Nat.le_of_ble_eq_true rfl) (Nat.le_of_ble_eq_true rfl) dJ2_fastRemove_31 ?_
    rw [nI_clamp (by omega), nI_clamp (by omega), nI_clamp (by omega)]
    refine jr_aload_n (i := 1) hX rfl rfl dJ2_fastRemove_34 ?_
    refine jr_aload_n (i := 0) hX rfl rfl dJ2_fastRemove_35 ?_
    refine jr_iload_n (i := 3) hX rfl rfl dJ2_fastRemove_36 ?_
    refine jr_dup_x1 hX rfl rfl dJ2_fastRemove_37 ?_
    refine jr_put (ci := 0) (k := 2) hX (jup_o jup_s (jup_o hf hL1 (by simp)) (by simp)) rfl in_J2 (by decide) tyJ2 tyJ2_ok nmJ2 q137 rfl rfl rfl (Nat.le_of_ble_eq_true rfl) dJ2_fastRemove_38 ?_
    refine jr_null hX dJ2_fastRemove_41 ?_
    refine jr_aastN (t := 1) hX (jup_o jup_s (jup_o jup_s (jup_o hf hL1 (by simp)) (by simp)) (by simp)) rfl (vp_in_nI (by omega) (by omega)) dJ2_fastRemove_42 ?_
    rw [nI_clamp (by omega)]
    refine jr_vret hX hlk hr ⟨rfl, ?_⟩ dJ2_fastRemove_43
    refine ⟨ea, ⟨by simp [jup_n hea.symm, jup_s, List.length_eraseIdx, hi], by simp [List.length_eraseIdx, hi]; omega, hcap, Or.inr ⟨hc10, _, jup_s, la_rm hfx hi hle⟩⟩, fun b q1 q2 _ => by simp only [jup_n q1, jup_n q2], Or.inl rfl⟩

set_option maxHeartbeats 4000000 in
set_option maxRecDepth 100000 in
theorem met_remove (l : Launch) (D : va_G) (s0 : State) (b0 : Nat) (A : Nat → Prop) (G : jG) (a : Nat) (xs : List Nat) (mo : Int32) (cap ea : Nat) (hL : jLS D s0 b0 G a xs mo cap ea) (hel : ∀ y ∈ xs, jOb s0 b0 D G y) (i x : Nat) (hx : xs[i]? = some x) : jM l yJ2_remove (ws_ yJ2_remove cJ2_remove 4 (some (.object "java/lang/Object"))) (jR 2 0 0) D s0 b0 A G [.ref a, .int (nI i)] (fun v G1 => v = some (.ref x) ∧ jLU D s0 b0 A G G1 a ea (xs.eraseIdx i) (mo + 1) cap) := by
  have hL0 := hL
  obtain ⟨hi, hc10, f, hf, hfx⟩ := hL.arr hx
  obtain ⟨hL1, hle, hcap, hor⟩ := hL
  refine jM.of (by decide +kernel) (own := RJ2) rfl (Nat.le_of_ble_eq_true rfl) ?_
  intro p e s m args below meth c hX hr hlk hnm
  refine jr_iload_n (i := 1) hX rfl rfl dJ2_remove_0 ?_
  refine jr_aload_n (i := 0) hX rfl rfl dJ2_remove_1 ?_
  refine jr_get (ci := 0) (k := 2) hX (by first | assumption | exact jup_s) rfl in_J2 (by decide) q137 rfl dJ2_remove_2 ?_
  refine jr_callS (As := [.int (nI i), .int (nI xs.length)]) (bc1 := (0)) (bs1 := (0)) hX (met_ochk l D s0 b0 A G (nI i) (nI xs.length) (nI_pos (by omega)) (nI_lt hi (by omega))) (va_cwS 2 hX.ts (lw_S q307 q308 q75 q309) rfl rfl rfl (by decide +kernel) ⟨Nat.le_of_ble_eq_true rfl, Nat.le_of_ble_eq_true rfl⟩) rfl (Nat.le_of_ble_eq_true rfl) (by first | omega | (dsimp only; omega) | (show _ ≤ _; simp only []; omega)) (by first | omega | (dsimp only; omega) | (show _ ≤ _; simp only []; omega)) rfl dJ2_remove_5 (fun v_5 G_5 hp_5 => ?_)
  obtain ⟨rfl, e9⟩ := hp_5
  rw [e9]
  refine jr_pop hX rfl dJ2_remove_8 ?_
  refine jr_aload_n (i := 0) hX rfl rfl dJ2_remove_9 ?_
  refine jr_get (ci := 0) (k := 1) hX (by first | assumption | exact jup_s) rfl in_J2 (by decide) q134 rfl dJ2_remove_10 ?_
  refine jr_astore_n (i := 2) hX rfl (by decide) rfl dJ2_remove_13 ?_
  refine jr_aload_n (i := 2) hX rfl rfl dJ2_remove_14 ?_
  refine jr_iload_n (i := 1) hX rfl rfl dJ2_remove_15 ?_
  refine jr_aald (t := 1) (v := .ref x) hX hf rfl rfl (vp_in_nI (by omega) (by omega)) (by rw [nI_clamp (by omega), hfx]; rfl) dJ2_remove_16 ?_
  refine jr_astore_n (i := 3) hX rfl (by decide) rfl dJ2_remove_17 ?_
  refine jr_aload_n (i := 0) hX rfl rfl dJ2_remove_18 ?_
  refine jr_aload_n (i := 2) hX rfl rfl dJ2_remove_19 ?_
  refine jr_iload_n (i := 1) hX rfl rfl dJ2_remove_20 ?_
  refine jr_callV (As := [.ref ea, .int (nI i)]) (bc1 := (0)) (bs1 := (0)) hX (met_fastRemove l D s0 b0 A G a xs mo cap ea hL0 hel i hi) (cwV 2 hX.ts (lw_V q1069 q1071 qs18 q68 q1072) rfl rfl rfl (by decide +kernel) ⟨Nat.le_of_ble_eq_true rfl, Nat.le_of_ble_eq_true rfl⟩) (by first | assumption | exact jup_s) rfl rfl (Nat.le_of_ble_eq_true rfl) (by first | omega | (dsimp only; omega) | (show _ ≤ _; simp only []; omega)) (by first | omega | (dsimp only; omega) | (show _ ≤ _; simp only []; omega)) rfl dJ2_remove_21 (fun v_21 G_21 hp_21 => ?_)
  obtain ⟨rfl, hU⟩ := hp_21
  refine jr_aload_n (i := 3) hX rfl rfl dJ2_remove_24 ?_
  exact jr_aret hX hlk hr (Or.inl ⟨_, rfl⟩) (Or.inr ⟨_, rfl⟩) ⟨rfl, hU⟩ dJ2_remove_25

set_option maxHeartbeats 4000000 in
set_option maxRecDepth 100000 in
theorem met_toArray (l : Launch) (D : va_G) (s0 : State) (b0 : Nat) (A : Nat → Prop) (G : jG) (a : Nat) (xs : List Nat) (mo : Int32) (cap ea : Nat) (hL : jLS D s0 b0 G a xs mo cap ea) (hel : ∀ y ∈ xs, jOb s0 b0 D G y) (hne : xs ≠ []) : jM l yJ2_toArray (ws_ yJ2_toArray cJ2_toArray 1 (some (.array (.object "java/lang/Object")))) (jR 3 1 (xs.length)) D s0 b0 A G [.ref a] (fun v G1 => ∃ (q : Nat) (f2 : Nat → Option Nat), v = some (.ref q) ∧ G q = none ∧ A q ∧ (∀ i, i < xs.length → f2 i = xs[i]?) ∧ G1 = jup G q (jq D 101 xs.length f2)) := by
  obtain ⟨hL1, hle, hcap, hor⟩ := hL
  have hpos : 0 < xs.length := by cases xs with | nil => exact absurd rfl hne | cons => simp
  obtain ⟨hc10, f, hf, hfx⟩ : 10 ≤ cap ∧ ∃ f : Nat → Option Nat, G ea = some (jq D 101 cap f) ∧ ∀ i, i < cap → f i = xs[i]? := by
    rcases hor with h | h
    · omega
    · exact h
  refine jM.of (by decide +kernel) (own := RJ2) rfl (Nat.le_of_ble_eq_true rfl) ?_
  intro p e s m args below meth c hX hr hlk hnm
  refine jr_aload_n (i := 0) hX rfl rfl dJ2_toArray_0 ?_
  refine jr_get (ci := 0) (k := 1) hX (by first | assumption | exact jup_s) rfl in_J2 (by decide) q134 rfl dJ2_toArray_1 ?_
  refine jr_aload_n (i := 0) hX rfl rfl dJ2_toArray_4 ?_
  refine jr_get (ci := 0) (k := 2) hX (by first | assumption | exact jup_s) rfl in_J2 (by decide) q137 rfl dJ2_toArray_5 ?_
  refine jr_callS (As := [.ref ea, .int (nI xs.length)]) (bc1 := (0)) (bs1 := (0)) hX (met_copyOf l D s0 b0 A G ea cap xs.length f hf hcap (by omega) (fun i y _ hi hy => hel y (List.mem_of_getElem? ((hfx i hi).symm.trans hy)))) (va_cwS 2 hX.ts (lw_S q211 q212 q73 q213) rfl rfl rfl (by decide +kernel) ⟨Nat.le_of_ble_eq_true rfl, Nat.le_of_ble_eq_true rfl⟩) rfl (Nat.le_of_ble_eq_true rfl) (Nat.le_of_ble_eq_true rfl) (by show 0 + xs.length ≤ xs.length; omega) rfl dJ2_toArray_8 (fun v_8 G_8 hp_8 => ?_)
  obtain ⟨q, rfl, hq1, hq2, e9⟩ := hp_8
  rw [e9]
  exact jr_aret hX hlk hr (Or.inr ⟨_, rfl⟩) (Or.inr ⟨_, rfl⟩) ⟨q, _, rfl, hq1, hq2, fun i hi => by
    rw [pk_cpy_in (by omega) (by omega), Nat.zero_add, Nat.sub_zero]
    exact hfx i (by omega), rfl⟩ dJ2_toArray_11
