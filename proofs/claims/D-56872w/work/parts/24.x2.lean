/-! equality of instructions, of lists of them; kinds; touches -/
abbrev jIn (s0 : State) (b0 : Nat) (x : sIns) : jE := jo 9 [.ref (jCd s0 b0 x.1), .int x.2.1, .int (s_nb x.1 x.2.2.1), .int (s_nc x.1 x.2.2.2)]
def sLk (x y : sIns) : Bool := decide (x.1 = y.1 ∧ (x.2.1 = y.2.1 ∨ x.1 = 11) ∧ s_nb x.1 x.2.2.1 = s_nb y.1 y.2.2.1 ∧ s_nc x.1 x.2.2.2 = s_nc y.1 y.2.2.2)
def sLks (X Y : List sIns) : Bool := decide (X.length = Y.length ∧ ∀ i, i < X.length → sLk (X.getD i (0, 0, 0, 0)) (Y.getD i (0, 0, 0, 0)) = true)
theorem sLk_t {x y : sIns} (h : x.1 = y.1 ∧ (x.2.1 = y.2.1 ∨ x.1 = 11) ∧ s_nb x.1 x.2.2.1 = s_nb y.1 y.2.2.1 ∧ s_nc x.1 x.2.2.2 = s_nc y.1 y.2.2.2) : sLk x y = true := decide_eq_true h
theorem sLk_f {x y : sIns} (h : ¬ (x.1 = y.1 ∧ (x.2.1 = y.2.1 ∨ x.1 = 11) ∧ s_nb x.1 x.2.2.1 = s_nb y.1 y.2.2.1 ∧ s_nc x.1 x.2.2.2 = s_nc y.1 y.2.2.2)) : sLk x y = false := decide_eq_false h

set_option maxHeartbeats 4000000 in
set_option maxRecDepth 100000 in
theorem met_isLike (l : Launch) (D : va_G) (s0 : State) (b0 : Nat) (A : Nat → Prop) (G : jG) (x y : sIns) (hx : x.1 < 12) (hy : y.1 < 12) (a b : Nat) (ha : G a = some (jIn s0 b0 x)) (hb : G b = some (jIn s0 b0 y)) : jM l yX10_isLike (ws_ yX10_isLike cX10_isLike 2 (some .boolean)) (jR 0 0 0) D s0 b0 A G [.ref a, .ref b] (fun v G1 => v = some (.int (jbz (sLk x y))) ∧ G1 = G) := by
  refine jM.of (by decide +kernel) (own := RX10) rfl (Nat.le_of_ble_eq_true rfl) ?_
  intro p e s m args below meth c hX hr hlk hnm
  refine jr_aload_n (i := 0) hX rfl rfl dX10_isLike_0 ?_
  refine jr_get (ci := 9) (k := 0) hX (by first | assumption | exact jup_s) rfl in_X10 (by decide) q612 rfl dX10_isLike_1 ?_
  refine jr_aload_n (i := 1) hX rfl rfl dX10_isLike_4 ?_
  refine jr_get (ci := 9) (k := 0) hX (by first | assumption | exact jup_s) rfl in_X10 (by decide) q612 rfl dX10_isLike_5 ?_
  refine jr_acmp_neR hX (tgt := 58) (by decide) dX10_isLike_8 (fun c_8 => ?_) (fun c_8 => ?_)
  · refine jr_iconst (v := 0) hX rfl dX10_isLike_58 ?_
    exact jr_zret hX hlk hr (by decide) ⟨by rw [sLk_f (fun q => c_8 (by rw [q.1]))]; rfl, rfl⟩ dX10_isLike_59
  · have e1 : x.1 = y.1 := en_inj hX.S hx hy c_8
    refine jr_aload_n (i := 0) hX rfl rfl dX10_isLike_11 ?_
    refine jr_get (ci := 9) (k := 1) hX (by first | assumption | exact jup_s) rfl in_X10 (by decide) q615 rfl dX10_isLike_12 ?_
    refine jr_aload_n (i := 1) hX rfl rfl dX10_isLike_15 ?_
    refine jr_get (ci := 9) (k := 1) hX (by first | assumption | exact jup_s) rfl in_X10 (by decide) q615 rfl dX10_isLike_16 ?_
    refine jr_icmp_eq hX (tgt := 32) (by decide) dX10_isLike_19 (fun c_19 => ?_) (fun c_19 => ?_)
    · refine jr_aload_n (i := 0) hX rfl rfl dX10_isLike_32 ?_
      refine jr_get (ci := 9) (k := 2) hX (by first | assumption | exact jup_s) rfl in_X10 (by decide) q617 rfl dX10_isLike_33 ?_
      refine jr_aload_n (i := 1) hX rfl rfl dX10_isLike_36 ?_
      refine jr_get (ci := 9) (k := 2) hX (by first | assumption | exact jup_s) rfl in_X10 (by decide) q617 rfl dX10_isLike_37 ?_
      refine jr_icmp_ne hX (tgt := 58) (by decide) dX10_isLike_40 (fun c_40 => ?_) (fun c_40 => ?_)
      · refine jr_iconst (v := 0) hX rfl dX10_isLike_58 ?_
        exact jr_zret hX hlk hr (by decide) ⟨by rw [sLk_f (fun q => c_40 q.2.2.1)]; rfl, rfl⟩ dX10_isLike_59
      · refine jr_aload_n (i := 0) hX rfl rfl dX10_isLike_43 ?_
        refine jr_get (ci := 9) (k := 3) hX (by first | assumption | exact jup_s) rfl in_X10 (by decide) q622 rfl dX10_isLike_44 ?_
        refine jr_aload_n (i := 1) hX rfl rfl dX10_isLike_47 ?_
        refine jr_get (ci := 9) (k := 3) hX (by first | assumption | exact jup_s) rfl in_X10 (by decide) q622 rfl dX10_isLike_48 ?_
        refine jr_icmp_ne hX (tgt := 58) (by decide) dX10_isLike_51 (fun c_51 => ?_) (fun c_51 => ?_)
        · refine jr_iconst (v := 0) hX rfl dX10_isLike_58 ?_
          exact jr_zret hX hlk hr (by decide) ⟨by rw [sLk_f (fun q => c_51 q.2.2.2)]; rfl, rfl⟩ dX10_isLike_59
        · refine jr_iconst (v := 1) hX rfl dX10_isLike_54 ?_
          refine jr_goto hX (tgt := 59) (by decide) dX10_isLike_55 ?_
          exact jr_zret hX hlk hr (by decide) ⟨by rw [sLk_t ⟨e1, Or.inl c_19, c_40, c_51⟩]; rfl, rfl⟩ dX10_isLike_59
    · refine jr_aload_n (i := 0) hX rfl rfl dX10_isLike_22 ?_
      refine jr_get (ci := 9) (k := 0) hX (by first | assumption | exact jup_s) rfl in_X10 (by decide) q612 rfl dX10_isLike_23 ?_
      refine jr_gets hX (en_Zc hX.S (q := 11) (by omega)) q798 (fun x h => h) dX10_isLike_26 ?_
      refine jr_acmp_neR hX (tgt := 58) (by decide) dX10_isLike_29 (fun c_29 => ?_) (fun c_29 => ?_)
      · refine jr_iconst (v := 0) hX rfl dX10_isLike_58 ?_
        exact jr_zret hX hlk hr (by decide) ⟨by rw [sLk_f (fun q => q.2.1.elim c_19 (fun z => c_29 (show jCd s0 b0 x.1 = jCd s0 b0 11 by rw [z])))]; rfl, rfl⟩ dX10_isLike_59
      · refine jr_aload_n (i := 0) hX rfl rfl dX10_isLike_32 ?_
        refine jr_get (ci := 9) (k := 2) hX (by first | assumption | exact jup_s) rfl in_X10 (by decide) q617 rfl dX10_isLike_33 ?_
        refine jr_aload_n (i := 1) hX rfl rfl dX10_isLike_36 ?_
        refine jr_get (ci := 9) (k := 2) hX (by first | assumption | exact jup_s) rfl in_X10 (by decide) q617 rfl dX10_isLike_37 ?_
        refine jr_icmp_ne hX (tgt := 58) (by decide) dX10_isLike_40 (fun c_40 => ?_) (fun c_40 => ?_)
        · refine jr_iconst (v := 0) hX rfl dX10_isLike_58 ?_
          exact jr_zret hX hlk hr (by decide) ⟨by rw [sLk_f (fun q => c_40 q.2.2.1)]; rfl, rfl⟩ dX10_isLike_59
        · refine jr_aload_n (i := 0) hX rfl rfl dX10_isLike_43 ?_
          refine jr_get (ci := 9) (k := 3) hX (by first | assumption | exact jup_s) rfl in_X10 (by decide) q622 rfl dX10_isLike_44 ?_
          refine jr_aload_n (i := 1) hX rfl rfl dX10_isLike_47 ?_
          refine jr_get (ci := 9) (k := 3) hX (by first | assumption | exact jup_s) rfl in_X10 (by decide) q622 rfl dX10_isLike_48 ?_
          refine jr_icmp_ne hX (tgt := 58) (by decide) dX10_isLike_51 (fun c_51 => ?_) (fun c_51 => ?_)
          · refine jr_iconst (v := 0) hX rfl dX10_isLike_58 ?_
            exact jr_zret hX hlk hr (by decide) ⟨by rw [sLk_f (fun q => c_51 q.2.2.2)]; rfl, rfl⟩ dX10_isLike_59
          · refine jr_iconst (v := 1) hX rfl dX10_isLike_54 ?_
            refine jr_goto hX (tgt := 59) (by decide) dX10_isLike_55 ?_
            exact jr_zret hX hlk hr (by decide) ⟨by rw [sLk_t ⟨e1, Or.inr (en_inj hX.S hx (by omega) (c_29 : jCd s0 b0 x.1 = jCd s0 b0 11)), c_40, c_51⟩]; rfl, rfl⟩ dX10_isLike_59

set_option maxHeartbeats 4000000 in
set_option maxRecDepth 100000 in
theorem met_insEq (l : Launch) (D : va_G) (s0 : State) (b0 : Nat) (A : Nat → Prop) (G : jG) (x y : sIns) (hx : x.1 < 12) (hy : y.1 < 12) (a b : Nat) (ha : G a = some (jIn s0 b0 x)) (hb : G b = some (jIn s0 b0 y)) : jM l yX10_equals (ws_ yX10_equals cX10_equals 2 (some .boolean)) (jR 1 0 0) D s0 b0 A G [.ref a, .ref b] (fun v G1 => v = some (.int (jbz (sLk x y))) ∧ G1 = G) := by
  refine jM.of (by decide +kernel) (own := RX10) rfl (Nat.le_of_ble_eq_true rfl) ?_
  intro p e s m args below meth c hX hr hlk hnm
  refine jr_aload_n (i := 1) hX rfl rfl dX10_equals_0 ?_
  refine jr_instS hX (by first | assumption | exact jup_s) rfl q793 dX10_equals_1 ?_
  refine jr_if_eq hX (tgt := 22) (by decide) dX10_equals_4 (fun c_4 => absurd c_4 (by decide)) (fun c_4 => ?_)
  refine jr_aload_n (i := 0) hX rfl rfl dX10_equals_7 ?_
  refine jr_aload_n (i := 1) hX rfl rfl dX10_equals_8 ?_
  refine jr_castS hX (by first | assumption | exact jup_s) rfl q793 dX10_equals_9 ?_
  refine jr_callV (As := [.ref b]) (bc1 := (0)) (bs1 := (0)) hX (met_isLike l D s0 b0 A _ x y hx hy a b ha hb) (cwV 1 hX.ts (lw_V q794 q796 qs6 q90 q797) rfl rfl rfl (by decide +kernel) ⟨Nat.le_of_ble_eq_true rfl, Nat.le_of_ble_eq_true rfl⟩) (by first | assumption | exact jup_s) rfl rfl (Nat.le_of_ble_eq_true rfl) (by first | omega | (dsimp only; omega) | (show _ ≤ _; simp only []; omega)) (by first | omega | (dsimp only; omega) | (show _ ≤ _; simp only []; omega)) rfl dX10_equals_12 (fun v_12 G_12 hp_12 => ?_)
  obtain ⟨rfl, e9⟩ := hp_12
  rw [e9]
  refine jr_if_eq hX (tgt := 22) (by decide) dX10_equals_15 (fun c_15 => ?_) (fun c_15 => ?_)
  · refine jr_iconst (v := 0) hX rfl dX10_equals_22 ?_
    exact jr_zret hX hlk hr (by decide) ⟨by rw [jbz_0 c_15]; rfl, rfl⟩ dX10_equals_23
  · refine jr_iconst (v := 1) hX rfl dX10_equals_18 ?_
    refine jr_goto hX (tgt := 23) (by decide) dX10_equals_19 ?_
    exact jr_zret hX hlk hr (by decide) ⟨by rw [jbz_1 c_15]; rfl, rfl⟩ dX10_equals_23

set_option maxHeartbeats 4000000 in
set_option maxRecDepth 100000 in
theorem met_objsEq (l : Launch) (D : va_G) (s0 : State) (b0 : Nat) (A : Nat → Prop) (G : jG) (x y : sIns) (hx : x.1 < 12) (hy : y.1 < 12) (a b : Nat) (ha : G a = some (jIn s0 b0 x)) (hb : G b = some (jIn s0 b0 y)) : jM l yJ6_equals (ws_ yJ6_equals cJ6_equals 2 (some .boolean)) (jR 2 0 0) D s0 b0 A G [.ref a, .ref b] (fun v G1 => v = some (.int (jbz (sLk x y))) ∧ G1 = G) := by
  refine jM.of (by decide +kernel) (own := RJ6) rfl (Nat.le_of_ble_eq_true rfl) ?_
  intro p e s m args below meth c hX hr hlk hnm
  refine jr_aload_n (i := 0) hX rfl rfl dJ6_equals_0 ?_
  refine jr_aload_n (i := 1) hX rfl rfl dJ6_equals_1 ?_
  refine jr_acmp_eqR hX (tgt := 17) (by decide) dJ6_equals_2 (fun c_2 => ?_) (fun c_2 => ?_)
  · refine jr_iconst (v := 1) hX rfl dJ6_equals_17 ?_
    refine jr_goto hX (tgt := 22) (by decide) dJ6_equals_18 ?_
    have hxy : jIn s0 b0 x = jIn s0 b0 y := by
      rw [c_2, hb] at ha
      exact (Option.some.inj ha).symm
    have hcd : jCd s0 b0 x.1 = jCd s0 b0 y.1 ∧ x.2.1 = y.2.1 ∧ s_nb x.1 x.2.2.1 = s_nb y.1 y.2.2.1 ∧ s_nc x.1 x.2.2.2 = s_nc y.1 y.2.2.2 := by simpa [jIn, jo] using hxy
    exact jr_zret hX hlk hr (by decide) ⟨by rw [sLk_t ⟨en_inj hX.S hx hy hcd.1, Or.inl hcd.2.1, hcd.2.2⟩]; rfl, rfl⟩ dJ6_equals_22
  · refine jr_aload_n (i := 0) hX rfl rfl dJ6_equals_5 ?_
    refine jr_ifnull hX dJ6_equals_6 ?_
    refine jr_aload_n (i := 0) hX rfl rfl dJ6_equals_9 ?_
    refine jr_aload_n (i := 1) hX rfl rfl dJ6_equals_10 ?_
    refine jr_callU (As := [.ref b]) (bc1 := (0)) (bs1 := (0)) hX (met_insEq l D s0 b0 A _ x y hx hy a b ha hb) (va_cwO 1 hX.ts (lw_O q777 q779 q778 q790 q791 q90 q792) rfl rfl rfl q840 (by decide +kernel) ⟨Nat.le_of_ble_eq_true rfl, Nat.le_of_ble_eq_true rfl⟩) (by first | assumption | exact jup_s) rfl rfl (Nat.le_of_ble_eq_true rfl) (by first | omega | (dsimp only; omega) | (show _ ≤ _; simp only []; omega)) (by first | omega | (dsimp only; omega) | (show _ ≤ _; simp only []; omega)) rfl dJ6_equals_11 (fun v_11 G_11 hp_11 => ?_)
    obtain ⟨rfl, e9⟩ := hp_11
    rw [e9]
    refine jr_if_eq hX (tgt := 21) (by decide) dJ6_equals_14 (fun c_14 => ?_) (fun c_14 => ?_)
    · refine jr_iconst (v := 0) hX rfl dJ6_equals_21 ?_
      exact jr_zret hX hlk hr (by decide) ⟨by rw [jbz_0 c_14]; rfl, rfl⟩ dJ6_equals_22
    · refine jr_iconst (v := 1) hX rfl dJ6_equals_17 ?_
      refine jr_goto hX (tgt := 22) (by decide) dJ6_equals_18 ?_
      exact jr_zret hX hlk hr (by decide) ⟨by rw [jbz_1 c_14]; rfl, rfl⟩ dJ6_equals_22

set_option maxHeartbeats 4000000 in
set_option maxRecDepth 100000 in
theorem met_checkCo (l : Launch) (D : va_G) (s0 : State) (b0 : Nat) (A : Nat → Prop) (G : jG) (a : Nat) (xs : List Nat) (mo : Int32) (cap ea : Nat) (hL : jLS D s0 b0 G a xs mo cap ea) : jM l yJ2_checkForComodification (ws_ yJ2_checkForComodification cJ2_checkForComodification 2 none) (jR 0 0 0) D s0 b0 A G [.ref a, .int mo] (fun v G1 => v = none ∧ G1 = G) := by
  refine jM.of (by decide +kernel) (own := RJ2) rfl (Nat.le_of_ble_eq_true rfl) ?_
  intro p e s m args below meth c hX hr hlk hnm
  refine jr_aload_n (i := 0) hX rfl rfl dJ2_checkForComodification_0 ?_
  refine jr_getS (ci := 0) (k := 0) hX hL.1 rfl in_J2 (by decide) q141 (u_same (hX.ts _ q140)) rfl dJ2_checkForComodification_1 ?_
  refine jr_iload_n (i := 1) hX rfl rfl dJ2_checkForComodification_4 ?_
  refine jr_icmp_eq hX (tgt := 16) (by decide) dJ2_checkForComodification_5 (fun _ => ?_) (fun q => absurd rfl q)
  exact jr_vret hX hlk hr ⟨rfl, rfl⟩ dJ2_checkForComodification_16

theorem jLS.fn {D : va_G} {s0 : State} {b0 : Nat} {G : jG} {a : Nat} {xs : List Nat} {mo : Int32} {cap ea : Nat} (h : jLS D s0 b0 G a xs mo cap ea) {f : Nat → Option Nat} (hf : G ea = some (jq D 101 cap f)) (hc : cap ≠ 0) : ∀ i, i < cap → f i = xs[i]? := by
  obtain ⟨h1, h2, h3, h4⟩ := h
  rcases h4 with ⟨h, -⟩ | ⟨h, f9, g1, g2⟩
  · exact absurd h hc
  · have e : f9 = f := by
      have := g1.symm.trans hf
      simpa using this
    rw [← e]; exact g2

set_option maxHeartbeats 4000000 in
set_option maxRecDepth 100000 in
theorem met_listEq0 (l : Launch) (D : va_G) (s0 : State) (b0 : Nat) (A : Nat → Prop) (G : jG) (a : Nat) (xs : List Nat) (mo : Int32) (cap ea : Nat) (hL : jLS D s0 b0 G a xs mo cap ea) (b : Nat) (ys : List Nat) (mo2 : Int32) (cap2 eb : Nat) (hL2 : jLS D s0 b0 G b ys mo2 cap2 eb) (X Y : List sIns) (hlx : X.length = xs.length) (hly : Y.length = ys.length) (hxi : ∀ i q, xs[i]? = some q → G q = some (jIn s0 b0 (X.getD i (0, 0, 0, 0))) ∧ (X.getD i (0, 0, 0, 0)).1 < 12) (hyi : ∀ i q, ys[i]? = some q → G q = some (jIn s0 b0 (Y.getD i (0, 0, 0, 0))) ∧ (Y.getD i (0, 0, 0, 0)).1 < 12) : jM l yJ2_equalsArrayList (ws_ yJ2_equalsArrayList cJ2_equalsArrayList 8 (some .boolean)) (jR 3 0 0) D s0 b0 A G [.ref a, .ref b] (fun v G1 => v = some (.int (jbz (sLks X Y))) ∧ G1 = G) := by
  have hle := hL.2.1
  have hcap := hL.2.2.1
  have hle2 := hL2.2.1
  have hcap2 := hL2.2.2.1
  refine jM.of (by decide +kernel) (own := RJ2) rfl (Nat.le_of_ble_eq_true rfl) ?_
  intro p e s m args below meth c hX hr hlk hnm
  refine jr_aload_n (i := 1) hX rfl rfl dJ2_equalsArrayList_0 ?_
  refine jr_getS (ci := 0) (k := 0) hX hL2.1 rfl in_J2 (by decide) q141 (u_same (hX.ts _ q140)) rfl dJ2_equalsArrayList_1 ?_
  refine jr_istore_n (i := 2) hX rfl (by decide) rfl dJ2_equalsArrayList_4 ?_
  refine jr_aload_n (i := 0) hX rfl rfl dJ2_equalsArrayList_5 ?_
  refine jr_get (ci := 0) (k := 2) hX hL.1 rfl in_J2 (by decide) q137 rfl dJ2_equalsArrayList_6 ?_
  refine jr_istore_n (i := 3) hX rfl (by decide) rfl dJ2_equalsArrayList_9 ?_
  refine jr_iload_n (i := 3) hX rfl rfl dJ2_equalsArrayList_10 ?_
  refine jr_aload_n (i := 1) hX rfl rfl dJ2_equalsArrayList_11 ?_
  refine jr_get (ci := 0) (k := 2) hX hL2.1 rfl in_J2 (by decide) q137 rfl dJ2_equalsArrayList_12 ?_
  refine jr_icmp_ne hX (tgt := 22) (by decide) dJ2_equalsArrayList_15 (fun c_15 => ?_) (fun c_15 => ?_)
  · refine jr_iconst (v := 0) hX rfl dJ2_equalsArrayList_22 ?_
    refine jr_dup hX rfl dJ2_equalsArrayList_23 ?_
    refine jr_istore hX (by decide) rfl dJ2_equalsArrayList_24 ?_
    refine jr_if_eq hX (tgt := 100) (by decide) dJ2_equalsArrayList_26 (fun _ => ?_) (fun q => absurd rfl q)
    refine jr_aload_n (i := 1) hX rfl rfl dJ2_equalsArrayList_100 ?_
    refine jr_iload_n (i := 2) hX rfl rfl dJ2_equalsArrayList_101 ?_
    refine jr_callV (As := [.int mo2]) (bc1 := (0)) (bs1 := (0)) hX (met_checkCo l D s0 b0 A _ b ys mo2 cap2 eb hL2) (cwV 1 hX.ts (lw_V q841 q843 qs7 q68 q844) rfl rfl rfl (by decide +kernel) ⟨Nat.le_of_ble_eq_true rfl, Nat.le_of_ble_eq_true rfl⟩) hL2.1 rfl rfl (Nat.le_of_ble_eq_true rfl) (by first | omega | (dsimp only; omega) | (show _ ≤ _; simp only []; omega)) (by first | omega | (dsimp only; omega) | (show _ ≤ _; simp only []; omega)) rfl dJ2_equalsArrayList_102 (fun v_102 G_102 hp_102 => ?_)
    obtain ⟨rfl, e9⟩ := hp_102
    rw [e9]
    refine jr_iload hX rfl dJ2_equalsArrayList_105 ?_
    exact jr_zret hX hlk hr (by decide) ⟨by rw [show sLks X Y = false from decide_eq_false (fun q => c_15 (by rw [← hlx, ← hly, q.1]))]; rfl, rfl⟩ dJ2_equalsArrayList_107
  · have hll : xs.length = ys.length := (nI_eq (by omega) (by omega)).mp c_15
    refine jr_iconst (v := 1) hX rfl dJ2_equalsArrayList_18 ?_
    refine jr_goto hX (tgt := 23) (by decide) dJ2_equalsArrayList_19 ?_
    refine jr_dup hX rfl dJ2_equalsArrayList_23 ?_
    refine jr_istore hX (by decide) rfl dJ2_equalsArrayList_24 ?_
    refine jr_if_eq hX (tgt := 100) (by decide) dJ2_equalsArrayList_26 (fun q => absurd q (by decide)) (fun _ => ?_)
    refine jr_aload_n (i := 1) hX rfl rfl dJ2_equalsArrayList_29 ?_
    refine jr_get (ci := 0) (k := 1) hX hL2.1 rfl in_J2 (by decide) q134 rfl dJ2_equalsArrayList_30 ?_
    refine jr_astore hX (by decide) rfl dJ2_equalsArrayList_33 ?_
    refine jr_aload_n (i := 0) hX rfl rfl dJ2_equalsArrayList_35 ?_
    refine jr_get (ci := 0) (k := 1) hX hL.1 rfl in_J2 (by decide) q134 rfl dJ2_equalsArrayList_36 ?_
    refine jr_astore hX (by decide) rfl dJ2_equalsArrayList_39 ?_
    refine jr_iload_n (i := 3) hX rfl rfl dJ2_equalsArrayList_41 ?_
    refine jr_aload hX rfl dJ2_equalsArrayList_42 ?_
    refine jr_llen (ea := ea) (B := fun f => ∀ i, i < cap → f i = xs[i]?) hX hL.2.2.2 dJ2_equalsArrayList_44 ?_
    refine jr_icmp_gt hX (tgt := 55) (by decide) dJ2_equalsArrayList_45 (fun q => absurd q (nI_nlt hle (by omega))) (fun _ => ?_)
    refine jr_iload_n (i := 3) hX rfl rfl dJ2_equalsArrayList_48 ?_
    refine jr_aload hX rfl dJ2_equalsArrayList_49 ?_
    refine jr_llen (ea := eb) (B := fun f => ∀ i, i < cap2 → f i = ys[i]?) hX hL2.2.2.2 dJ2_equalsArrayList_51 ?_
    refine jr_icmp_le hX (tgt := 63) (by decide) dJ2_equalsArrayList_52 (fun _ => ?_) (fun q => absurd (nI_le (show xs.length ≤ cap2 by omega) (by omega)) q)
    refine jr_iconst (v := 0) hX rfl dJ2_equalsArrayList_63 ?_
    refine jr_istore hX (by decide) rfl dJ2_equalsArrayList_64 ?_
    have loop : ∀ (n i : Nat), xs.length - i = n → i ≤ xs.length → (∀ j, j < i → sLk (X.getD j (0, 0, 0, 0)) (Y.getD j (0, 0, 0, 0)) = true) → Jg p l e (jR 3 0 0) s m args below meth c (MQ below (jQ D A (fun v G1 => v = some (.int (jbz (sLks X Y))) ∧ G1 = G)) args s 0 0 A) D A 8 G 0 0 66 [(7, .int (nI i)), (6, .ref ea), (5, .ref eb), (4, .int 1), (3, .int (nI xs.length)), (2, .int mo2), (0, .ref a), (1, .ref b)] [] := by
      intro n
      induction n using Nat.strongRecOn with
      | ind n ih0 =>
      intro i hn hik hall
      have ih : ∀ i1 : Nat, i < i1 → i1 ≤ xs.length → (∀ j, j < i1 → sLk (X.getD j (0, 0, 0, 0)) (Y.getD j (0, 0, 0, 0)) = true) → Jg p l e (jR 3 0 0) s m args below meth c (MQ below (jQ D A (fun v G1 => v = some (.int (jbz (sLks X Y))) ∧ G1 = G)) args s 0 0 A) D A 8 G 0 0 66 [(7, .int (nI i1)), (6, .ref ea), (5, .ref eb), (4, .int 1), (3, .int (nI xs.length)), (2, .int mo2), (0, .ref a), (1, .ref b)] [] := fun i1 h1 h2 => ih0 (xs.length - i1) (by omega) i1 rfl h2
      refine jr_iload hX rfl dJ2_equalsArrayList_66 ?_
      refine jr_iload_n (i := 3) hX rfl rfl dJ2_equalsArrayList_68 ?_
      refine jr_icmp_ge hX (tgt := 100) (by decide) dJ2_equalsArrayList_69 (fun c_69 => ?_) (fun c_69 => ?_)
      · have hge : xs.length ≤ i := Nat.not_lt.mp fun q => absurd c_69 (nI_ge q (by omega))
        refine jr_aload_n (i := 1) hX rfl rfl dJ2_equalsArrayList_100 ?_
        refine jr_iload_n (i := 2) hX rfl rfl dJ2_equalsArrayList_101 ?_
        refine jr_callV (As := [.int mo2]) (bc1 := (0)) (bs1 := (0)) hX (met_checkCo l D s0 b0 A _ b ys mo2 cap2 eb hL2) (cwV 1 hX.ts (lw_V q841 q843 qs7 q68 q844) rfl rfl rfl (by decide +kernel) ⟨Nat.le_of_ble_eq_true rfl, Nat.le_of_ble_eq_true rfl⟩) hL2.1 rfl rfl (Nat.le_of_ble_eq_true rfl) (by first | omega | (dsimp only; omega) | (show _ ≤ _; simp only []; omega)) (by first | omega | (dsimp only; omega) | (show _ ≤ _; simp only []; omega)) rfl dJ2_equalsArrayList_102 (fun v_102 G_102 hp_102 => ?_)
        obtain ⟨rfl, e9⟩ := hp_102
        rw [e9]
        refine jr_iload hX rfl dJ2_equalsArrayList_105 ?_
        exact jr_zret hX hlk hr (by decide) ⟨by rw [show sLks X Y = true from decide_eq_true ⟨by omega, fun j hj => hall j (by omega)⟩]; rfl, rfl⟩ dJ2_equalsArrayList_107
      · have hi2 : i < xs.length := Nat.not_le.mp fun q => c_69 (nI_le q (by omega))
        obtain ⟨qx, hqx⟩ : ∃ q, xs[i]? = some q := ⟨_, List.getElem?_eq_getElem hi2⟩
        obtain ⟨qy, hqy⟩ : ∃ q, ys[i]? = some q := ⟨_, List.getElem?_eq_getElem (by omega)⟩
        obtain ⟨_, hc10, f, hf, _⟩ := hL.arr hqx
        obtain ⟨_, hc20, g, hg, _⟩ := hL2.arr hqy
        have hfx : ∀ i, i < cap → f i = xs[i]? := jLS.fn hL hf (by omega)
        have hgx : ∀ i, i < cap2 → g i = ys[i]? := jLS.fn hL2 hg (by omega)
        refine jr_aload hX rfl dJ2_equalsArrayList_72 ?_
        refine jr_iload hX rfl dJ2_equalsArrayList_74 ?_
        refine jr_aald (t := 1) (v := .ref qx) hX hf rfl rfl (vp_in_nI (by omega) (by omega)) (by rw [nI_clamp (by omega), hfx i (by omega), hqx]; rfl) dJ2_equalsArrayList_76 ?_
        refine jr_aload hX rfl dJ2_equalsArrayList_77 ?_
        refine jr_iload hX rfl dJ2_equalsArrayList_79 ?_
        refine jr_aald (t := 1) (v := .ref qy) hX hg rfl rfl (vp_in_nI (by omega) (by omega)) (by rw [nI_clamp (by omega), hgx i (by omega), hqy]; rfl) dJ2_equalsArrayList_81 ?_
        refine jr_callS (As := [.ref qx, .ref qy]) (bc1 := (0)) (bs1 := (0)) hX (met_objsEq l D s0 b0 A _ (X.getD i (0, 0, 0, 0)) (Y.getD i (0, 0, 0, 0)) (hxi i qx hqx).2 (hyi i qy hqy).2 qx qy (hxi i qx hqx).1 (hyi i qy hqy).1) (va_cwS 2 hX.ts (lw_S q773 q774 q75 q775) rfl rfl rfl (by decide +kernel) ⟨Nat.le_of_ble_eq_true rfl, Nat.le_of_ble_eq_true rfl⟩) rfl (Nat.le_of_ble_eq_true rfl) (by first | omega | (dsimp only; omega) | (show _ ≤ _; simp only []; omega)) (by first | omega | (dsimp only; omega) | (show _ ≤ _; simp only []; omega)) rfl dJ2_equalsArrayList_82 (fun v_82 G_82 hp_82 => ?_)
        obtain ⟨rfl, e9⟩ := hp_82
        rw [e9]
        refine jr_if_ne hX (tgt := 94) (by decide) dJ2_equalsArrayList_85 (fun c_85 => ?_) (fun c_85 => ?_)
        · refine jr_iinc (w := 1) hX rfl rfl (by decide) rfl dJ2_equalsArrayList_94 ?_
          refine jr_goto hX (tgt := 66) (by decide) dJ2_equalsArrayList_97 ?_
          rw [show nI i + 1 = nI (i + 1) from nI_1 i]
          refine jr_lvm [(7, .int (nI (i + 1))), (6, .ref ea), (5, .ref eb), (4, .int 1), (3, .int (nI xs.length)), (2, .int mo2), (0, .ref a), (1, .ref b)] rfl ?_
          exact ih (i + 1) (by omega) (by omega) (fun j hj => by
            by_cases e : j = i
            · rw [e]; exact jbz_1 c_85
            · exact hall j (by omega))
        · refine jr_iconst (v := 0) hX rfl dJ2_equalsArrayList_88 ?_
          refine jr_istore hX (by decide) rfl dJ2_equalsArrayList_89 ?_
          refine jr_goto hX (tgt := 100) (by decide) dJ2_equalsArrayList_91 ?_
          refine jr_aload_n (i := 1) hX rfl rfl dJ2_equalsArrayList_100 ?_
          refine jr_iload_n (i := 2) hX rfl rfl dJ2_equalsArrayList_101 ?_
          refine jr_callV (As := [.int mo2]) (bc1 := (0)) (bs1 := (0)) hX (met_checkCo l D s0 b0 A _ b ys mo2 cap2 eb hL2) (cwV 1 hX.ts (lw_V q841 q843 qs7 q68 q844) rfl rfl rfl (by decide +kernel) ⟨Nat.le_of_ble_eq_true rfl, Nat.le_of_ble_eq_true rfl⟩) hL2.1 rfl rfl (Nat.le_of_ble_eq_true rfl) (by first | omega | (dsimp only; omega) | (show _ ≤ _; simp only []; omega)) (by first | omega | (dsimp only; omega) | (show _ ≤ _; simp only []; omega)) rfl dJ2_equalsArrayList_102 (fun v_102 G_102 hp_102 => ?_)
          obtain ⟨rfl, e9⟩ := hp_102
          rw [e9]
          refine jr_iload hX rfl dJ2_equalsArrayList_105 ?_
          exact jr_zret hX hlk hr (by decide) ⟨by rw [show sLks X Y = false from decide_eq_false (fun q => by have := q.2 i (by omega); rw [jbz_0 c_85] at this; cases this)]; rfl, rfl⟩ dJ2_equalsArrayList_107
    refine jr_lvm [(7, .int (nI 0)), (6, .ref ea), (5, .ref eb), (4, .int 1), (3, .int (nI xs.length)), (2, .int mo2), (0, .ref a), (1, .ref b)] rfl ?_
    exact loop xs.length 0 rfl (Nat.zero_le _) (fun j hj => absurd hj (Nat.not_lt_zero j))

set_option maxHeartbeats 4000000 in
set_option maxRecDepth 100000 in
theorem met_listEq (l : Launch) (D : va_G) (s0 : State) (b0 : Nat) (A : Nat → Prop) (G : jG) (a : Nat) (xs : List Nat) (mo : Int32) (cap ea : Nat) (hL : jLS D s0 b0 G a xs mo cap ea) (b : Nat) (ys : List Nat) (mo2 : Int32) (cap2 eb : Nat) (hL2 : jLS D s0 b0 G b ys mo2 cap2 eb) (X Y : List sIns) (hlx : X.length = xs.length) (hly : Y.length = ys.length) (hxi : ∀ i q, xs[i]? = some q → G q = some (jIn s0 b0 (X.getD i (0, 0, 0, 0))) ∧ (X.getD i (0, 0, 0, 0)).1 < 12) (hyi : ∀ i q, ys[i]? = some q → G q = some (jIn s0 b0 (Y.getD i (0, 0, 0, 0))) ∧ (Y.getD i (0, 0, 0, 0)).1 < 12) (hab : a ≠ b) : jM l yJ2_equals (ws_ yJ2_equals cJ2_equals 4 (some .boolean)) (jR 4 0 0) D s0 b0 A G [.ref a, .ref b] (fun v G1 => v = some (.int (jbz (sLks X Y))) ∧ G1 = G) := by
  refine jM.of (by decide +kernel) (own := RJ2) rfl (Nat.le_of_ble_eq_true rfl) ?_
  intro p e s m args below meth c hX hr hlk hnm
  refine jr_aload_n (i := 1) hX rfl rfl dJ2_equals_0 ?_
  refine jr_aload_n (i := 0) hX rfl rfl dJ2_equals_1 ?_
  refine jr_acmp_neR hX (tgt := 7) (by decide) dJ2_equals_2 (fun _ => ?_) (fun q => absurd q.symm hab)
  refine jr_aload_n (i := 1) hX rfl rfl dJ2_equals_7 ?_
  refine jr_instY hX hL2.1 rfl q766 q183 dJ2_equals_8 ?_
  refine jr_if_ne hX (tgt := 16) (by decide) dJ2_equals_11 (fun _ => ?_) (fun q => absurd q (by decide))
  refine jr_aload_n (i := 0) hX rfl rfl dJ2_equals_16 ?_
  refine jr_getS (ci := 0) (k := 0) hX hL.1 rfl in_J2 (by decide) q141 (u_same (hX.ts _ q140)) rfl dJ2_equals_17 ?_
  refine jr_istore_n (i := 2) hX rfl (by decide) rfl dJ2_equals_20 ?_
  refine jr_aload_n (i := 1) hX rfl rfl dJ2_equals_21 ?_
  refine jr_getCO hX hL2.1 rfl (hX.S.Mi (by decide +kernel)) q767 q2256 q251 q215 q254 (Nat.le_of_ble_eq_true rfl) (Nat.le_of_ble_eq_true rfl) dJ2_equals_22 ?_
  refine jr_ldcM hX q768 (hX.S.Mi (by decide +kernel)) dJ2_equals_25 ?_
  refine jr_acmp_neR hX (tgt := 41) (by decide) dJ2_equals_27 (fun q => absurd rfl q) (fun _ => ?_)
  refine jr_aload_n (i := 0) hX rfl rfl dJ2_equals_30 ?_
  refine jr_aload_n (i := 1) hX rfl rfl dJ2_equals_31 ?_
  refine jr_castS hX hL2.1 rfl q768 dJ2_equals_32 ?_
  refine jr_callV (As := [.ref b]) (bc1 := (0)) (bs1 := (0)) hX (met_listEq0 l D s0 b0 A _ a xs mo cap ea hL b ys mo2 cap2 eb hL2 X Y hlx hly hxi hyi) (cwV 1 hX.ts (lw_V q769 q771 qs5 q68 q772) rfl rfl rfl (by decide +kernel) ⟨Nat.le_of_ble_eq_true rfl, Nat.le_of_ble_eq_true rfl⟩) hL.1 rfl rfl (Nat.le_of_ble_eq_true rfl) (by first | omega | (dsimp only; omega) | (show _ ≤ _; simp only []; omega)) (by first | omega | (dsimp only; omega) | (show _ ≤ _; simp only []; omega)) rfl dJ2_equals_35 (fun v_35 G_35 hp_35 => ?_)
  obtain ⟨rfl, e9⟩ := hp_35
  rw [e9]
  refine jr_goto hX (tgt := 54) (by decide) dJ2_equals_38 ?_
  refine jr_istore_n (i := 3) hX rfl (by decide) rfl dJ2_equals_54 ?_
  refine jr_aload_n (i := 0) hX rfl rfl dJ2_equals_55 ?_
  refine jr_iload_n (i := 2) hX rfl rfl dJ2_equals_56 ?_
  refine jr_callV (As := [.int mo]) (bc1 := (0)) (bs1 := (0)) hX (met_checkCo l D s0 b0 A _ a xs mo cap ea hL) (cwV 1 hX.ts (lw_V q841 q843 qs7 q68 q844) rfl rfl rfl (by decide +kernel) ⟨Nat.le_of_ble_eq_true rfl, Nat.le_of_ble_eq_true rfl⟩) hL.1 rfl rfl (Nat.le_of_ble_eq_true rfl) (by first | omega | (dsimp only; omega) | (show _ ≤ _; simp only []; omega)) (by first | omega | (dsimp only; omega) | (show _ ≤ _; simp only []; omega)) rfl dJ2_equals_57 (fun v_57 G_57 hp_57 => ?_)
  obtain ⟨rfl, e9⟩ := hp_57
  rw [e9]
  refine jr_iload_n (i := 3) hX rfl rfl dJ2_equals_60 ?_
  exact jr_zret hX hlk hr (jbz_n _) ⟨rfl, rfl⟩ dJ2_equals_61
