/-! putting out -/
theorem co_ad19 {D : va_G} {s0 : State} {b0 : Nat} {S : sSt} {ad : jN} {T : jT} {G : jG} {n : Nat} (h : jCo D s0 b0 S ad T G) (hn : (T n).1 = 0) (h1 : G n ≠ none) (h3 : n ≠ jEE s0 b0) :
    jCo D s0 b0 S (jas ad 19 (s_u S).length 0 n) (jTs T n 19 (s_u S).length 0) G := by
  refine (h.ado hn h1 h3 19 (s_u S).length 0).sub fun k' i' j' s hs => ?_
  by_cases h8 : k' = 19 ∧ i' = (s_u S).length ∧ j' = 0
  · obtain ⟨rfl, rfl, rfl⟩ := h8
    exact absurd hs (by
      show (if 0 = 0 then Option.map _ ((s_u S)[(s_u S).length]?) else none) ≠ some s
      rw [if_pos rfl, List.getElem?_eq_none (Nat.le_refl _)]; simp)
  show (if _ then _ else _) = _
  rw [if_neg h8, ← hs]
  by_cases e6 : k' = 2
  · subst e6
    rcases i' with _ | _ | _ | _ | _ | i'
    · rfl
    · rfl
    · rfl
    · rfl
    · show (if j' = 0 then some (Sum.inr (s_rg (s_u S).length (fun v => ad 19 v 0), s_k S, s_k S) : jSh) else none) = (if j' = 0 then some (Sum.inr (s_rg (s_u S).length (fun v => jas ad 19 (s_u S).length 0 n 19 v 0), s_k S, s_k S) : jSh) else none)
      have e : s_rg (s_u S).length (fun v => jas ad 19 (s_u S).length 0 n 19 v 0) = s_rg (s_u S).length (fun v => ad 19 v 0) := List.map_congr_left fun q hq => jas_n fun z => by
        have := List.mem_range.mp hq
        omega
      rw [e]
    · rfl
  · exact (shC_a19 e6).symm
theorem shC_u {D : va_G} {s0 : State} {b0 : Nat} {S : sSt} {ad : jN} {k i j : Nat} {x : List (Int32 × Nat)} {y : Nat} (h2 : k ≠ 2) (h19 : k ≠ 19) : shC D s0 b0 (sw_u S x y) ad k i j = shC D s0 b0 S ad k i j := by
  rcases k with _ | _ | _ | _ | _ | _ | _ | _ | _ | _ | _ | _ | _ | _ | _ | _ | _ | _ | _ | _ | _ | _ | _ | _ | k
  all_goals first | rfl | exact absurd rfl h2 | exact absurd rfl h19
/-- the list of puts is written -/
theorem co_uls {D : va_G} {s0 : State} {b0 : Nat} {A : Nat → Prop} {S : sSt} {ad : jN} {T : jT} {G G1 : jG} {ea cap cap1 : Nat} {mo mo1 : Int32} {fs : List (Int32 × Nat)} (h : jCo D s0 b0 S ad T G) (hE : G1 (jEE s0 b0) = none) (hL : jLS D s0 b0 G (ad 2 4 0) (s_rg (s_u S).length (fun v => ad 19 v 0)) mo cap ea) (hea : cap ≠ 0 → T ea = (102, 4, 0)) (hU : jLU D s0 b0 A G G1 (ad 2 4 0) ea (s_rg fs.length (fun v => ad 19 v 0)) mo1 cap1)
    (hn : ∀ j x, fs[j]? = some x → (s_u S)[j]? = some x ∨ (T (ad 19 j 0) = (19, j, 0) ∧ G (ad 19 j 0) = some (ji D 2 (fun q => if q = 0 then x.1 else nI x.2)))) :
    ∃ T1 : jT, jCo D s0 b0 (sw_u S fs cap1) ad T1 G1 ∧ ∀ b, G b ≠ none → T b ≠ (2, 4, 0) → T b ≠ (102, 4, 0) → b ≠ jEE s0 b0 → T1 b = T b ∧ G1 b = G b := by
  refine jRep.lst h hE (k := 2) (i := 4) (j := 0) (sl := .inr (s_rg (s_u S).length (fun v => ad 19 v 0), s_k S, s_k S)) rfl hL hea hU (fun s hs => ⟨cap1, cap1, (Option.some.inj hs).symm, Nat.le_refl _, Nat.le_refl _⟩) (fun k' i' j' s hne hs => ?_)
  by_cases h16 : k' = 19
  · subst h16
    have hs' : (if j' = 0 then Option.map (fun u : Int32 × Nat => (Sum.inl (ji D 2 (fun q => if q = 0 then u.1 else nI u.2)) : jSh)) (fs[i']?) else none) = some s := hs
    by_cases hj : j' = 0
    · subst hj
      rw [if_pos rfl] at hs'
      obtain ⟨x, hx, rfl⟩ := Option.map_eq_some_iff.mp hs'
      rcases hn i' x hx with z | ⟨z1, z2⟩
      · refine Or.inl ?_
        show (if 0 = 0 then Option.map _ ((s_u S)[i']?) else none) = _
        rw [if_pos rfl, z]; rfl
      · exact Or.inr ⟨by omega, by omega, z1, z2⟩
    · rw [if_neg hj] at hs'; cases hs'
  refine Or.inl ?_
  rw [← hs]
  by_cases h2 : k' = 2
  · subst h2
    rcases i' with _ | _ | _ | _ | _ | i'
    · rfl
    · rfl
    · rfl
    · rfl
    · show (if j' = 0 then some (Sum.inr (s_rg (s_u S).length (fun v => ad 19 v 0), s_k S, s_k S) : jSh) else none) = (if j' = 0 then some (Sum.inr (s_rg fs.length (fun v => ad 19 v 0), cap1, cap1) : jSh) else none)
      have hj : j' ≠ 0 := fun z => hne ⟨rfl, rfl, z⟩
      rw [if_neg hj, if_neg hj]
    · rfl
  · exact (shC_u h2 h16).symm
def s_gr (S : sSt) : Nat := if (s_u S).length = s_k S then jgw (s_k S) (s_k S + 1) else s_k S
def s_asks (S : sSt) (amt : Int32) : Bool := s_w S && decide (s_l S < amt)
def s_out (S : sSt) (v : Nat) (amt : Int32) : sSt := if s_asks S amt = true then (if 0 < s_p S then s_ask (sw_w (sw_u S (s_u S ++ [(amt, v)]) (s_gr S)) false) 111 true false 50 0 else sw_w (sw_u S (s_u S ++ [(amt, v)]) (s_gr S)) false) else sw_u S (s_u S ++ [(amt, v)]) (s_gr S)

set_option maxHeartbeats 4000000 in
set_option maxRecDepth 100000 in
theorem met_putOut (l : Launch) (D : va_G) (s0 : State) (b0 : Nat) (A : Nat → Prop) (G : jG) (S : sSt) (ad : jN) (T : jT) (hR : jCo D s0 b0 S ad T G) (hW : ∀ q ∈ s_q S, q < (s_c S).length) (hcl : (s_c S).length < 100) (hql : (s_q S).length < 100) (hpp : s_p S < 100) (i j : Nat) (x : sFr) (hi3 : i < 3) (hx : (s_s S i).2[j]? = some x) (amt : Int32) (hk13 : s_k S < 13000) (g mc ms : Nat) (hg : (s_u S).length = s_k S → jgw (s_k S) (s_k S + 1) ≤ g) (hmc0 : 2 ≤ mc) (hms0 : 2 + g ≤ ms) (hmc : (s_asks S amt && decide (0 < s_p S)) = true → 5 ≤ mc) (hms : (s_asks S amt && decide (0 < s_p S)) = true → 2 + g + 305 ≤ ms) : jM l yX1_putOut (ws_ yX1_putOut cX1_putOut 4 none) (jR 8 (mc) (ms)) D s0 b0 A G [.ref (ad 1 0 0), .ref (ad 8 i j), .int amt] (fun w G1 => w = none ∧ ∃ (ad1 : jN) (T1 : jT), jCo D s0 b0 (s_out S x.1 amt) ad1 T1 G1 ∧ jFm 1 30 T G T1 G1 ∧ ∀ k i j, ¬ (k = 18 ∧ i = (s_c S).length ∧ j = 0) → ¬ (k = 19 ∧ i = (s_u S).length ∧ j = 0) → ad1 k i j = ad k i j) := by
  have hxx := co_x hR
  have hF := co_fr hR hi3 hx
  obtain ⟨moU, capU, eaU, hUL, hUlo, hUc, hUt⟩ := co_pts hR
  have hcu : capU = s_k S := by omega
  refine jM.of (by decide +kernel) (own := RX1) rfl (Nat.le_of_ble_eq_true rfl) ?_
  intro p e s m args below meth c hX hr hlk hnm
  refine jr_ee hX (fun hE0 => ?_)
  refine jr_aload_n (i := 0) hX rfl rfl dX1_putOut_0 ?_
  refine jr_get (ci := 2) (k := 5) hX (by first | assumption | exact jup_s) rfl in_X1 (by decide) q368 rfl dX1_putOut_1 ?_
  refine jr_iconst (v := 2) hX rfl dX1_putOut_4 ?_
  refine jr_newi (N := 2) (bc1 := mc - 1) (bs1 := ms - 2) hX q295 (by decide) (by decide) (by omega) (by omega) (by omega) dX1_putOut_5 (fun q9 hq9 hq9A => ?_)
  refine jr_dup hX rfl dX1_putOut_7 ?_
  refine jr_iconst (v := 0) hX rfl dX1_putOut_8 ?_
  refine jr_iload_n (i := 2) hX rfl rfl dX1_putOut_9 ?_
  refine jr_iast hX jup_s (vp_in_nI (n := 0) (by omega) (by omega)) dX1_putOut_10 ?_
  rw [jup_jup]
  refine jr_dup hX rfl dX1_putOut_11 ?_
  refine jr_iconst (v := 1) hX rfl dX1_putOut_12 ?_
  refine jr_aload_n (i := 1) hX rfl rfl dX1_putOut_13 ?_
  refine jr_callU (As := []) (bc1 := (mc - 1)) (bs1 := (ms - 2)) hX (met_version_f l D s0 b0 A _ (ad 8 i j) _ _ _ _ _ (jup_f hF hq9)) (va_cwU 0 hX.ts (lw_U q1147 q1148 q1149 q1109 q98 q1110) rfl rfl rfl rfl (by decide +kernel) ⟨Nat.le_of_ble_eq_true rfl, Nat.le_of_ble_eq_true rfl⟩) (jup_f hF hq9) rfl rfl (Nat.le_of_ble_eq_true rfl) (by first | omega | (dsimp only; omega) | (show _ ≤ _; simp only []; omega)) (by first | omega | (dsimp only; omega) | (show _ ≤ _; simp only []; omega)) rfl dX1_putOut_14 (fun v_14 G_14 hp_14 => ?_)
  obtain ⟨rfl, e9⟩ := hp_14
  rw [e9]
  refine jr_iast hX jup_s (vp_in_nI (n := 1) (by omega) (by omega)) dX1_putOut_17 ?_
  rw [jup_jup]
  refine jr_norm (fun q => if q = 0 then amt else nI x.1) jup_s (fun i9 hi9 => ?_) ?_
  · match i9, hi9 with
    | 0, _ => rfl
    | 1, _ => rfl
  rw [jup_jup]
  have hnw : jNw G (jup G q9 (ji D 2 (fun q => if q = 0 then amt else nI x.1))) := jNw.new hq9
  have hR1 := co_ad19 (n := q9) (jRep.nw hR hnw) (hR.un hq9) (by rw [jup_s]; simp) (hX.ee hq9A)
  have hUL1 := hnw.jLS hUL
  refine jr_callF (As := [.ref q9]) (bc1 := (mc - 2)) (bs1 := (ms - 2 - g)) hX (met_add l D s0 b0 A _ (ad 2 4 0) (s_rg (s_u S).length (fun v => ad 19 v 0)) moU capU eaU hUL1 (fun y hy => by obtain ⟨q8, hq8, rfl⟩ := List.mem_map.mp hy; exact Or.inr (Or.inl ⟨_, _, jup_f (co_put hR (List.getElem?_eq_getElem (List.mem_range.mp hq8))) hq9⟩)) q9 (Or.inr (Or.inl ⟨_, _, jup_s⟩)) 1 g (by omega) (fun hz => ⟨by omega, by rw [rg_len] at hz; rw [hcu]; exact hg (by omega)⟩)) (va_cwF 1 hX.ts (lw_F q297 q184 q186 q68 q188) rfl rfl rfl (hX.S.fw ⟨by decide +kernel, by decide +kernel⟩ q182 q181 q187 q185 q183) (by decide +kernel) ⟨Nat.le_of_ble_eq_true rfl, Nat.le_of_ble_eq_true rfl⟩) hUL1.1 rfl rfl (Nat.le_of_ble_eq_true rfl) (by show mc - 2 + 1 ≤ mc - 1; omega) (by show ms - 2 - g + g ≤ ms - 2; omega) rfl dX1_putOut_18 (fun v_18 G_18 hp_18 => ?_)
  obtain ⟨rfl, hU⟩ := hp_18
  refine jr_ee hX (fun hE1 => ?_)
  have hlast : (jas ad 19 (s_u S).length 0 q9) 19 (s_u S).length 0 = q9 := jas_s
  have hsame : ∀ v, v < (s_u S).length → (jas ad 19 (s_u S).length 0 q9) 19 v 0 = ad 19 v 0 := fun v hv9 => jas_n (fun z => by omega)
  rw [show s_rg (s_u S).length (fun v => ad 19 v 0) ++ [q9] = s_rg (s_u S ++ [(amt, x.1)]).length (fun v => (jas ad 19 (s_u S).length 0 q9) 19 v 0) by
    rw [List.length_append, List.length_singleton, ← rg_ap (f := fun v => ad 19 v 0) hsame, hlast], rg_len, hcu] at hU
  have hE01 : (jup G q9 (ji D 2 (fun q => if q = 0 then amt else nI x.1))) (jEE s0 b0) = none := by
    rw [jup_n (fun z => hX.ee hq9A z.symm)]
    exact hE0
  obtain ⟨T2, hR2, hfm2⟩ := co_uls (fs := s_u S ++ [(amt, x.1)]) (cap1 := s_gr S) hR1 hE1 (mo := moU) (cap := capU) (ea := eaU) (by
      rw [show s_rg (s_u S).length (fun v => (jas ad 19 (s_u S).length 0 q9) 19 v 0) = s_rg (s_u S).length (fun v => ad 19 v 0) from List.map_congr_left fun v hv9 => hsame v (List.mem_range.mp hv9)]
      exact hUL1) (fun hc9 => by
      have ht := hUt hc9
      rw [jTs_n]
      · exact ht
      · intro z; rw [z] at ht; have := hR.un hq9; rw [ht] at this; cases this) hU (fun j9 x9 hx9 => by
      by_cases hj : j9 < (s_u S).length
      · rw [List.getElem?_append_left hj] at hx9; exact Or.inl hx9
      · have hjl := lt_ofl hx9
        rw [List.length_append, List.length_singleton] at hjl
        have ej : j9 = (s_u S).length := by omega
        subst ej
        rw [List.getElem?_append_right (Nat.le_refl _), Nat.sub_self] at hx9
        have ex := Option.some.inj hx9
        subst ex
        rw [hlast]
        exact Or.inr ⟨jTs_s, jup_s⟩)
  have hxx2 := co_x hR2
  have hfm3 := (show jFm 1 30 T G T2 G_18 from fun b hb hk => by
    have z1 : b ≠ q9 := fun z => hb (by rw [z]; exact hq9)
    have hb1 : (jup G q9 (ji D 2 (fun q => if q = 0 then amt else nI x.1))) b ≠ none := by rw [jup_n z1]; exact hb
    have h9 := co_fm (by omega) hE01 hfm2 b hb1 (by rw [jTs_n z1]; exact hk)
    rw [jTs_n z1, jup_n z1] at h9
    exact h9)
  have hRw := co_ww hR2 false
  refine jr_pop hX rfl dX1_putOut_23 ?_
  refine jr_aload_n (i := 0) hX rfl rfl dX1_putOut_24 ?_
  refine jr_get (ci := 2) (k := 10) hX (by first | assumption | exact jup_s) rfl in_X1 (by decide) q373 rfl dX1_putOut_25 ?_
  refine jr_if_eq hX (tgt := 63) (by decide) dX1_putOut_28 (fun c_28 => ?_) (fun c_28 => ?_)
  · exact jr_vret hX hlk hr ⟨rfl, (jas ad 19 (s_u S).length 0 q9), T2, by unfold s_out; rw [if_neg (by unfold s_asks; rw [jbz_0 c_28]; simp)]; exact hR2, hfm3, fun k9 i9 j9 hk1 hk2 => jas_n hk2⟩ dX1_putOut_63
  · refine jr_iload_n (i := 2) hX rfl rfl dX1_putOut_31 ?_
    refine jr_aload_n (i := 0) hX rfl rfl dX1_putOut_32 ?_
    refine jr_get (ci := 2) (k := 9) hX (by first | assumption | exact jup_s) rfl in_X1 (by decide) q372 rfl dX1_putOut_33 ?_
    refine jr_icmp_le hX (tgt := 63) (by decide) dX1_putOut_36 (fun c_36 => ?_) (fun c_36 => ?_)
    · exact jr_vret hX hlk hr ⟨rfl, (jas ad 19 (s_u S).length 0 q9), T2, by unfold s_out; rw [if_neg (by unfold s_asks; rw [jbz_1 c_28, Bool.true_and, decide_eq_false (Int32.not_lt.mpr c_36)]; simp)]; exact hR2, hfm3, fun k9 i9 j9 hk1 hk2 => jas_n hk2⟩ dX1_putOut_63
    · have hask : s_asks S amt = true := by unfold s_asks; rw [jbz_1 c_28, Bool.true_and]; exact decide_eq_true (Int32.not_le.mp c_36)
      refine jr_aload_n (i := 0) hX rfl rfl dX1_putOut_39 ?_
      refine jr_iconst (v := 0) hX rfl dX1_putOut_40 ?_
      refine jr_put (ci := 2) (k := 10) hX hxx2 rfl in_X1 (by decide) tyX1 tyX1_ok nmX1 q373 rfl rfl rfl (Nat.le_of_ble_eq_true rfl) dX1_putOut_41 ?_
      have hxw := co_x hRw
      refine jr_aload_n (i := 0) hX rfl rfl dX1_putOut_44 ?_
      refine jr_get (ci := 2) (k := 8) hX (by first | assumption | exact jup_s) rfl in_X1 (by decide) q371 rfl dX1_putOut_45 ?_
      refine jr_if_le hX (tgt := 63) (by decide) dX1_putOut_48 (fun c_48 => ?_) (fun c_48 => ?_)
      · have hp0 : ¬ 0 < s_p S := fun z => absurd c_48 (nI_nle (n := s_p S) z (by omega))
        exact jr_vret hX hlk hr ⟨rfl, (jas ad 19 (s_u S).length 0 q9), T2, by unfold s_out; rw [if_pos hask, if_neg hp0]; exact hRw, hfm3.trans (jFm.put (by rw [hR2.t (k := 1) (i := 0) (j := 0) rfl]; exact ⟨(by show 1 ≤ 1 % 100; omega), (by show 1 % 100 < 30; omega)⟩)), fun k9 i9 j9 hk1 hk2 => jas_n hk2⟩ dX1_putOut_63
      · have hp0 : 0 < s_p S := Nat.pos_of_ne_zero fun z => c_48 (by rw [show s_p S = 0 from z]; decide)
        refine jr_aload_n (i := 0) hX rfl rfl dX1_putOut_51 ?_
        refine jr_bipush (v := 111) hX (by decide) dX1_putOut_52 ?_
        refine jr_iconst (v := 1) hX rfl dX1_putOut_54 ?_
        refine jr_iconst (v := 0) hX rfl dX1_putOut_55 ?_
        refine jr_bipush (v := 50) hX (by decide) dX1_putOut_56 ?_
        refine jr_iconst (v := 0) hX rfl dX1_putOut_58 ?_
        refine jr_callV (As := [.int 111, .int 1, .int 0, .int 50, .int 0]) (bc1 := (mc - 5)) (bs1 := (ms - 2 - g - 305)) hX (met_ask l D s0 b0 A _ (sw_w (sw_u S (s_u S ++ [(amt, x.1)]) (s_gr S)) false) (jas ad 19 (s_u S).length 0 q9) T2 hRw hW hcl hql 111 true false 50 0 (by omega) (by omega) (Nat.zero_le _)) (cwV 5 hX.ts (lw_V q1211 q1213 qs31 q65 q1214) rfl rfl rfl (by decide +kernel) ⟨Nat.le_of_ble_eq_true rfl, Nat.le_of_ble_eq_true rfl⟩) hxw rfl rfl (Nat.le_of_ble_eq_true rfl) (by show mc - 5 + 3 ≤ mc - 2; have := hmc (by rw [hask]; simp; exact hp0); omega) (by show ms - 2 - g - 305 + 305 ≤ ms - 2 - g; have := hms (by rw [hask]; simp; exact hp0); omega) rfl dX1_putOut_59 (fun v_59 G_59 hp_59 => ?_)
        obtain ⟨ad3, T3, rfl, hR3, hfm4, h4⟩ := hp_59
        refine jr_astore_n (i := 3) hX rfl (by decide) rfl dX1_putOut_62 ?_
        exact jr_vret hX hlk hr ⟨rfl, ad3, T3, by unfold s_out; rw [if_pos hask, if_pos hp0]; exact hR3, (hfm3.trans (jFm.put (by rw [hR2.t (k := 1) (i := 0) (j := 0) rfl]; exact ⟨(by show 1 ≤ 1 % 100; omega), (by show 1 % 100 < 30; omega)⟩))).trans hfm4, fun k9 i9 j9 hk1 hk2 => (h4 k9 i9 j9 hk1).trans (jas_n hk2)⟩ dX1_putOut_63
