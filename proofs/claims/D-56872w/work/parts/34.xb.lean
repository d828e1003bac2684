/-! things carried -/
theorem shC_a17 {D : va_G} {s0 : State} {b0 : Nat} {S : sSt} {ad : jN} {k i j i0 j0 q : Nat} (h16 : k ≠ 16) : shC D s0 b0 S (jas ad 17 i0 j0 q) k i j = shC D s0 b0 S ad k i j := by
  rcases k with _ | _ | _ | _ | _ | _ | _ | _ | _ | _ | _ | _ | _ | _ | _ | _ | _ | _ | _ | _ | _ | _ | _ | _ | k
  all_goals first | rfl | exact absurd rfl h16

def s_cto (S : sSt) (i a : Nat) : sSt := match (s_o S)[i]? with
  | some t => sw_o S ((s_o S).set i (a, t.2.1, s_car S t.2.1 t.1 a t.2.2))
  | none => S
theorem s_cto_e {S : sSt} {i a : Nat} {t : sTh} (h : (s_o S)[i]? = some t) : s_cto S i a = sw_o S ((s_o S).set i (a, t.2.1, s_car S t.2.1 t.1 a t.2.2)) := by
  unfold s_cto
  rw [h]
theorem jup_id {G : jG} {a : Nat} {x : jE} (h : G a = some x) : jup G a x = G := by
  funext b
  by_cases e : b = a
  · subst e; rw [jup_s, h]
  · rw [jup_n e]
theorem s_car_id {S : sSt} {k v : Nat} {f : Nat → Int32} : s_car S k v v f = f := by
  unfold s_car
  rw [if_pos (Nat.le_refl _), Nat.sub_self]
  rfl
theorem co_cto {D : va_G} {s0 : State} {b0 : Nat} {S : sSt} {ad : jN} {T : jT} {G G1 : jG} {i a q : Nat} {t : sTh} (hR : jCo D s0 b0 S ad T G) (ht : (s_o S)[i]? = some t) (hn : jNw G G1) (hq : G1 q = some (ji D ((s_ver S a).2.1 t.2.1) (s_car S t.2.1 t.1 a t.2.2))) (hor : (t.1 = a ∧ q = ad 17 i 0 ∧ G1 = G) ∨ (t.1 ≠ a ∧ G q = none ∧ q ≠ jEE s0 b0)) :
    ∃ (ad1 : jN) (T1 : jT), jCo D s0 b0 (s_cto S i a) ad1 T1 (jup G1 (ad 16 i 0) (jo 7 [.int (nI a), .int (nI t.2.1), .ref q])) ∧ jFm 16 18 T G T1 (jup G1 (ad 16 i 0) (jo 7 [.int (nI a), .int (nI t.2.1), .ref q])) ∧ ad1 17 i 0 = q ∧ ∀ k' i' j', k' ≠ 17 → ad1 k' i' j' = ad k' i' j' := by
  have hil : i < (s_o S).length := lt_ofl ht
  rw [s_cto_e ht]
  rcases hor with ⟨e1, e2, e3⟩ | ⟨e1, e2, e3⟩
  · subst e1; subst e2; subst e3
    refine ⟨ad, T, ?_, ?_, rfl, fun _ _ _ _ => rfl⟩
    · rw [jup_id (co_th hR ht), s_car_id, show (s_o S).set i (t.1, t.2.1, t.2.2) = s_o S by
        obtain ⟨hj, he⟩ := List.getElem?_eq_some_iff.mp ht
        subst he
        exact List.set_getElem_self hj]
      exact hR
    · rw [jup_id (co_th hR ht)]; exact jFm.refl
  · have h1 := jRep.nw hR hn
    have hT0 : (T q).1 = 0 := hR.un e2
    have h2 := h1.ado hT0 (by rw [hq]; simp) e3 17 i 0
    have hs16 : shC D s0 b0 S ad 16 i 0 = some (.inl (jo 7 [.int (nI t.1), .int (nI t.2.1), .ref (ad 17 i 0)])) := by
      show (if 0 = 0 then Option.map _ ((s_o S)[i]?) else none) = _
      rw [if_pos rfl, ht]; rfl
    have ht16 := hR.t hs16
    refine ⟨jas ad 17 i 0 q, jTs T q 17 i 0, ?_, fun b hb hk => ?_, jas_s, fun k' i' j' hk => jas_n (fun z => hk z.1)⟩
    · refine jRep.put (ad := jas ad 17 i 0 q) (k := 16) (i := i) (j := 0) h2 (s0' := .inl (jo 7 [.int (nI t.1), .int (nI t.2.1), .ref (ad 17 i 0)])) (by show (if _ then _ else _) = _; rw [if_neg (by omega)]; exact hs16) ?_ ?_
      · intro s hs
        have hs' : (if 0 = 0 then Option.map (fun t9 : sTh => (Sum.inl (jo 7 [.int (nI t9.1), .int (nI t9.2.1), .ref (jas ad 17 i 0 q 17 i 0)]) : jSh)) (((s_o S).set i (a, t.2.1, s_car S t.2.1 t.1 a t.2.2))[i]?) else none) = some s := hs
        rw [if_pos rfl, List.getElem?_set_self hil, jas_s] at hs'
        exact (Option.some.inj hs').symm
      · intro k' i' j' s hne hs
        by_cases h17 : k' = 17 ∧ i' = i ∧ j' = 0
        · obtain ⟨rfl, rfl, rfl⟩ := h17
          refine Or.inr ⟨by omega, by omega, ?_⟩
          have hs' : (if 0 = 0 then Option.map (fun t9 : sTh => (Sum.inl (ji D ((s_ver S t9.1).2.1 t9.2.1) t9.2.2) : jSh)) (((s_o S).set i' (a, t.2.1, s_car S t.2.1 t.1 a t.2.2))[i']?) else none) = some s := hs
          rw [if_pos rfl, List.getElem?_set_self hil] at hs'
          rw [← Option.some.inj hs', jas_s]
          exact ⟨jTs_s, hq⟩
        · refine Or.inl ?_
          show (if _ then _ else _) = _
          rw [if_neg h17, ← hs]
          by_cases h16 : k' = 16
          · subst h16
            show (if j' = 0 then Option.map (fun t9 : sTh => (Sum.inl (jo 7 [.int (nI t9.1), .int (nI t9.2.1), .ref (ad 17 i' 0)]) : jSh)) ((s_o S)[i']?) else none) = (if j' = 0 then Option.map (fun t9 : sTh => (Sum.inl (jo 7 [.int (nI t9.1), .int (nI t9.2.1), .ref (jas ad 17 i 0 q 17 i' 0)]) : jSh)) (((s_o S).set i (a, t.2.1, s_car S t.2.1 t.1 a t.2.2))[i']?) else none)
            by_cases hj : j' = 0
            · have hi : i ≠ i' := fun z => hne ⟨rfl, z.symm, hj⟩
              rw [List.getElem?_set_ne hi, jas_n (fun z => hi z.2.1.symm)]
            · rw [if_neg hj, if_neg hj]
          · rw [shC_a17 h16]
            by_cases hh : k' = 17
            · subst hh
              show (if j' = 0 then Option.map (fun t9 : sTh => (Sum.inl (ji D ((s_ver S t9.1).2.1 t9.2.1) t9.2.2) : jSh)) ((s_o S)[i']?) else none) = (if j' = 0 then Option.map (fun t9 : sTh => (Sum.inl (ji D ((s_ver S t9.1).2.1 t9.2.1) t9.2.2) : jSh)) (((s_o S).set i (a, t.2.1, s_car S t.2.1 t.1 a t.2.2))[i']?) else none)
              by_cases hj : j' = 0
              · have hi : i ≠ i' := fun z => h17 ⟨rfl, z.symm, hj⟩
                rw [List.getElem?_set_ne hi]
              · rw [if_neg hj, if_neg hj]
            · by_cases h2' : k' = 2
              · subst h2'
                rcases i' with _ | _ | _ | _ | _ | i'
                · rfl
                · show (if j' = 0 then some (Sum.inr (s_rg (s_o S).length (fun v => ad 16 v 0), 0, 200)) else none) = (if j' = 0 then some (Sum.inr (s_rg ((s_o S).set i (a, t.2.1, s_car S t.2.1 t.1 a t.2.2)).length (fun v => ad 16 v 0), 0, 200)) else none)
                  rw [List.length_set]
                · rfl
                · rfl
                · rfl
                · rfl
              · exact (shC_o h2' h16 hh).symm
    · have hbq : b ≠ q := fun z => hb (by rw [z]; exact e2)
      have hb16 : b ≠ ad 16 i 0 := fun z => hk (by rw [z, ht16]; exact ⟨by omega, by omega⟩)
      refine ⟨jTs_n hbq, ?_⟩
      rw [jup_n hb16]
      cases z : G b with
      | none => exact absurd z hb
      | some x => exact hn _ _ z


set_option maxHeartbeats 4000000 in
set_option maxRecDepth 100000 in
theorem met_carryTo (l : Launch) (D : va_G) (s0 : State) (b0 : Nat) (A : Nat → Prop) (G : jG) (S : sSt) (ad : jN) (T : jT) (hR : jCo D s0 b0 S ad T G) (i : Nat) (t : sTh) (ht : (s_o S)[i]? = some t) (hk : t.2.1 < 3) (htv : t.1 < s_m S) (a : Nat) (ha : a < s_m S) (hv : sWv S) : jM l yX15_carryTo (ws_ yX15_carryTo cX15_carryTo 3 none) (jR 4 5 20) D s0 b0 A G [.ref (ad 16 i 0), .int (nI a), .ref (ad 2 0 0)] (fun w G1 => w = none ∧ ∃ (ad1 : jN) (T1 : jT), jCo D s0 b0 (s_cto S i a) ad1 T1 G1 ∧ jFm 16 18 T G T1 G1 ∧ ∀ k i j, k ≠ 17 → ad1 k i j = ad k i j) := by
  have hT := co_th hR ht
  refine jM.of (by decide +kernel) (own := RX15) rfl (Nat.le_of_ble_eq_true rfl) ?_
  intro p e s m args below meth c hX hr hlk hnm
  refine jr_aload_n (i := 0) hX rfl rfl dX15_carryTo_0 ?_
  refine jr_aload_n (i := 0) hX rfl rfl dX15_carryTo_1 ?_
  refine jr_iload_n (i := 1) hX rfl rfl dX15_carryTo_2 ?_
  refine jr_aload_n (i := 2) hX rfl rfl dX15_carryTo_3 ?_
  refine jr_callV (As := [.int (nI a), .ref (ad 2 0 0)]) (bc1 := (0)) (bs1 := (0)) hX (met_fieldsIn l D s0 b0 A _ S ad T hR i t ht hk htv a ha hv) (cwV 2 hX.ts (lw_V q1101 q1102 q1103 q101 q1104) rfl rfl rfl (by decide +kernel) ⟨Nat.le_of_ble_eq_true rfl, Nat.le_of_ble_eq_true rfl⟩) hT rfl rfl (Nat.le_of_ble_eq_true rfl) (by first | omega | (dsimp only; omega) | (show _ ≤ _; simp only []; omega)) (by first | omega | (dsimp only; omega) | (show _ ≤ _; simp only []; omega)) rfl dX15_carryTo_4 (fun v_4 G_4 hp_4 => ?_)
  obtain ⟨q, rfl, hn, hq, hor⟩ := hp_4
  refine jr_put (ci := 7) (k := 2) hX (hn _ _ hT) rfl in_X15 (by decide) tyX15 tyX15_ok nmX15 q1177 rfl rfl rfl (Nat.le_of_ble_eq_true rfl) dX15_carryTo_7 ?_
  refine jr_aload_n (i := 0) hX rfl rfl dX15_carryTo_10 ?_
  refine jr_iload_n (i := 1) hX rfl rfl dX15_carryTo_11 ?_
  refine jr_callU (As := [.int (nI a)]) (bc1 := (0)) (bs1 := (0)) hX (met_vmoveTo_t l D s0 b0 A _ (ad 16 i 0) _ _ _ jup_s (nI a)) (va_cwU 1 hX.ts (lw_U q1123 q1124 q1126 q1094 q98 q1095) rfl rfl rfl rfl (by decide +kernel) ⟨Nat.le_of_ble_eq_true rfl, Nat.le_of_ble_eq_true rfl⟩) jup_s rfl rfl (Nat.le_of_ble_eq_true rfl) (by first | omega | (dsimp only; omega) | (show _ ≤ _; simp only []; omega)) (by first | omega | (dsimp only; omega) | (show _ ≤ _; simp only []; omega)) rfl dX15_carryTo_12 (fun v_12 G_12 hp_12 => ?_)
  obtain ⟨rfl, e9⟩ := hp_12
  rw [e9]
  rw [jup_jup]
  obtain ⟨ad1, T1, h1, h2, h3, h4⟩ := co_cto hR ht hn hq (hor.imp id fun z => ⟨z.1, z.2.1, hX.ee z.2.2⟩)
  exact jr_vret hX hlk hr ⟨rfl, ad1, T1, h1, h2, h4⟩ dX15_carryTo_15

set_option maxHeartbeats 4000000 in
set_option maxRecDepth 100000 in
theorem met_fieldC (l : Launch) (D : va_G) (s0 : State) (b0 : Nat) (A : Nat → Prop) (G : jG) (S : sSt) (ad : jN) (T : jT) (hR : jCo D s0 b0 S ad T G) (hv : sWv S) (ho : sWo S) (i : Nat) (t : sTh) (ht : (s_o S)[i]? = some t) (f : Nat) (hf : f < (s_ver S t.1).2.1 t.2.1) : jM l yX1_field (ws_ yX1_field cX1_field 4 (some .int)) (jR 4 0 0) D s0 b0 A G [.ref (ad 1 0 0), .int (nI i), .int (nI f)] (fun w G1 => w = some (.int (t.2.2 f)) ∧ G1 = G) := by
  have hxx := co_x hR
  have hmm : s_m S = (s_v S).length - 1 := rfl
  have hvl := hv.1
  have hvu := hv.2.1
  obtain ⟨hol, hoe⟩ := ho
  obtain ⟨htv, hk⟩ := hoe i t ht
  have hT := co_th hR ht
  have hTF := co_thf hR ht
  have hnf := (hv.2.2 t.1 (by omega)).2.1 t.2.1 hk
  refine jM.of (by decide +kernel) (own := RX1) rfl (Nat.le_of_ble_eq_true rfl) ?_
  intro p e s m args below meth c hX hr hlk hnm
  refine jr_aload_n (i := 0) hX rfl rfl dX1_field_0 ?_
  refine jr_iload_n (i := 1) hX rfl rfl dX1_field_1 ?_
  refine jr_callV (As := [.int (nI i)]) (bc1 := (0)) (bs1 := (0)) hX (met_thingAt l D s0 b0 A _ S ad T hR i (lt_ofl ht) (by omega)) (cwV 1 hX.ts (lw_V q1573 q1575 qs36 q65 q1576) rfl rfl rfl (by decide +kernel) ⟨Nat.le_of_ble_eq_true rfl, Nat.le_of_ble_eq_true rfl⟩) hxx rfl rfl (Nat.le_of_ble_eq_true rfl) (by first | omega | (dsimp only; omega) | (show _ ≤ _; simp only []; omega)) (by first | omega | (dsimp only; omega) | (show _ ≤ _; simp only []; omega)) rfl dX1_field_2 (fun v_2 G_2 hp_2 => ?_)
  obtain ⟨rfl, e9⟩ := hp_2
  rw [e9]
  refine jr_getN (ci := 7) (k := 2) hX (by first | assumption | exact jup_s) rfl in_X15 (by decide) q1178 rfl dX1_field_5 ?_
  refine jr_astore_n (i := 3) hX rfl (by decide) rfl dX1_field_8 ?_
  refine jr_iload_n (i := 2) hX rfl rfl dX1_field_9 ?_
  refine jr_aload_n (i := 3) hX rfl rfl dX1_field_10 ?_
  refine jr_alen (t := 0) hX hTF rfl rfl dX1_field_11 ?_
  refine jr_callS (As := [.int (nI f), .int (nI ((s_ver S t.1).2.1 t.2.1))]) (bc1 := (0)) (bs1 := (0)) hX (met_requireIndex l D s0 b0 A _ f _ hf (by omega)) (va_cwS 2 hX.ts (lw_S q735 q736 q65 q737) rfl rfl rfl (by decide +kernel) ⟨Nat.le_of_ble_eq_true rfl, Nat.le_of_ble_eq_true rfl⟩) rfl (Nat.le_of_ble_eq_true rfl) (by first | omega | (dsimp only; omega) | (show _ ≤ _; simp only []; omega)) (by first | omega | (dsimp only; omega) | (show _ ≤ _; simp only []; omega)) rfl dX1_field_12 (fun v_12 G_12 hp_12 => ?_)
  obtain ⟨rfl, e9⟩ := hp_12
  rw [e9]
  refine jr_aload_n (i := 3) hX rfl rfl dX1_field_15 ?_
  refine jr_iload_n (i := 2) hX rfl rfl dX1_field_16 ?_
  refine jr_iald hX hTF (vp_in_nI hf (by omega)) dX1_field_17 ?_
  rw [nI_clamp (by omega)]
  exact jr_iret hX hlk hr ⟨rfl, rfl⟩ dX1_field_18

set_option maxHeartbeats 4000000 in
set_option maxRecDepth 100000 in
theorem met_fieldInC (l : Launch) (D : va_G) (s0 : State) (b0 : Nat) (A : Nat → Prop) (G : jG) (S : sSt) (ad : jN) (T : jT) (hR : jCo D s0 b0 S ad T G) (hv : sWv S) (ho : sWo S) (i : Nat) (t : sTh) (ht : (s_o S)[i]? = some t) (a : Nat) (ha : a < s_m S) (f : Nat) (hf : f < (s_ver S a).2.1 t.2.1) : jM l yX1_fieldIn (ws_ yX1_fieldIn cX1_fieldIn 6 (some .int)) (jR 4 5 20) D s0 b0 A G [.ref (ad 1 0 0), .int (nI i), .int (nI a), .int (nI f)] (fun w G1 => w = some (.int (s_car S t.2.1 t.1 a t.2.2 f)) ∧ jNw G G1) := by
  have hxx := co_x hR
  have hmm : s_m S = (s_v S).length - 1 := rfl
  have hvl := hv.1
  have hvu := hv.2.1
  obtain ⟨hol, hoe⟩ := ho
  obtain ⟨htv, hk⟩ := hoe i t ht
  have hT := co_th hR ht
  have hTF := co_thf hR ht
  have hnf := (hv.2.2 a (by omega)).2.1 t.2.1 hk
  obtain ⟨moV, capV, eaV, hVL, -, hVc, -⟩ := co_vs hR
  refine jM.of (by decide +kernel) (own := RX1) rfl (Nat.le_of_ble_eq_true rfl) ?_
  intro p e s m args below meth c hX hr hlk hnm
  refine jr_aload_n (i := 0) hX rfl rfl dX1_fieldIn_0 ?_
  refine jr_iload_n (i := 1) hX rfl rfl dX1_fieldIn_1 ?_
  refine jr_callV (As := [.int (nI i)]) (bc1 := (5)) (bs1 := (20)) hX (met_thingAt l D s0 b0 A _ S ad T hR i (lt_ofl ht) (by omega)) (cwV 1 hX.ts (lw_V q1573 q1575 qs36 q65 q1576) rfl rfl rfl (by decide +kernel) ⟨Nat.le_of_ble_eq_true rfl, Nat.le_of_ble_eq_true rfl⟩) hxx rfl rfl (Nat.le_of_ble_eq_true rfl) (by first | omega | (dsimp only; omega) | (show _ ≤ _; simp only []; omega)) (by first | omega | (dsimp only; omega) | (show _ ≤ _; simp only []; omega)) rfl dX1_fieldIn_2 (fun v_2 G_2 hp_2 => ?_)
  obtain ⟨rfl, e9⟩ := hp_2
  rw [e9]
  refine jr_astore hX (by decide) rfl dX1_fieldIn_5 ?_
  refine jr_iload_n (i := 2) hX rfl rfl dX1_fieldIn_7 ?_
  refine jr_aload_n (i := 0) hX rfl rfl dX1_fieldIn_8 ?_
  refine jr_get (ci := 2) (k := 0) hX (by first | assumption | exact jup_s) rfl in_X1 (by decide) q363 rfl dX1_fieldIn_9 ?_
  refine jr_callF (As := []) (bc1 := (5)) (bs1 := (20)) hX (met_size l D s0 b0 A _ (ad 2 0 0) (s_rg (s_m S) (fun v => ad 7 v 0)) moV capV eaV hVL) (va_cwF 0 hX.ts (lw_F q405 q408 q410 q68 q412) rfl rfl rfl (hX.S.fw ⟨by decide +kernel, by decide +kernel⟩ q407 q406 q411 q409 q183) (by decide +kernel) ⟨Nat.le_of_ble_eq_true rfl, Nat.le_of_ble_eq_true rfl⟩) hVL.1 rfl rfl (Nat.le_of_ble_eq_true rfl) (by first | omega | (dsimp only; omega) | (show _ ≤ _; simp only []; omega)) (by first | omega | (dsimp only; omega) | (show _ ≤ _; simp only []; omega)) rfl dX1_fieldIn_12 (fun v_12 G_12 hp_12 => ?_)
  obtain ⟨rfl, e9⟩ := hp_12
  rw [e9, rg_len]
  refine jr_callS (As := [.int (nI a), .int (nI (s_m S))]) (bc1 := (5)) (bs1 := (20)) hX (met_requireIndex l D s0 b0 A _ a _ ha (by omega)) (va_cwS 2 hX.ts (lw_S q735 q736 q65 q737) rfl rfl rfl (by decide +kernel) ⟨Nat.le_of_ble_eq_true rfl, Nat.le_of_ble_eq_true rfl⟩) rfl (Nat.le_of_ble_eq_true rfl) (by first | omega | (dsimp only; omega) | (show _ ≤ _; simp only []; omega)) (by first | omega | (dsimp only; omega) | (show _ ≤ _; simp only []; omega)) rfl dX1_fieldIn_17 (fun v_17 G_17 hp_17 => ?_)
  obtain ⟨rfl, e9⟩ := hp_17
  rw [e9]
  refine jr_aload hX rfl dX1_fieldIn_20 ?_
  refine jr_iload_n (i := 2) hX rfl rfl dX1_fieldIn_22 ?_
  refine jr_aload_n (i := 0) hX rfl rfl dX1_fieldIn_23 ?_
  refine jr_get (ci := 2) (k := 0) hX (by first | assumption | exact jup_s) rfl in_X1 (by decide) q363 rfl dX1_fieldIn_24 ?_
  refine jr_callV (As := [.int (nI a), .ref (ad 2 0 0)]) (bc1 := (0)) (bs1 := (0)) hX (met_fieldsIn l D s0 b0 A _ S ad T hR i t ht hk htv a ha hv) (cwV 2 hX.ts (lw_V q1592 q1102 q1103 q101 q1104) rfl rfl rfl (by decide +kernel) ⟨Nat.le_of_ble_eq_true rfl, Nat.le_of_ble_eq_true rfl⟩) hT rfl rfl (Nat.le_of_ble_eq_true rfl) (by first | omega | (dsimp only; omega) | (show _ ≤ _; simp only []; omega)) (by first | omega | (dsimp only; omega) | (show _ ≤ _; simp only []; omega)) rfl dX1_fieldIn_27 (fun v_27 G_27 hp_27 => ?_)
  obtain ⟨q, rfl, hn, hq, -⟩ := hp_27
  refine jr_astore hX (by decide) rfl dX1_fieldIn_30 ?_
  refine jr_iload_n (i := 3) hX rfl rfl dX1_fieldIn_32 ?_
  refine jr_aload hX rfl dX1_fieldIn_33 ?_
  refine jr_alen (t := 0) hX hq rfl rfl dX1_fieldIn_35 ?_
  refine jr_callS (As := [.int (nI f), .int (nI ((s_ver S a).2.1 t.2.1))]) (bc1 := (0)) (bs1 := (0)) hX (met_requireIndex l D s0 b0 A _ f _ hf (by omega)) (va_cwS 2 hX.ts (lw_S q735 q736 q65 q737) rfl rfl rfl (by decide +kernel) ⟨Nat.le_of_ble_eq_true rfl, Nat.le_of_ble_eq_true rfl⟩) rfl (Nat.le_of_ble_eq_true rfl) (by first | omega | (dsimp only; omega) | (show _ ≤ _; simp only []; omega)) (by first | omega | (dsimp only; omega) | (show _ ≤ _; simp only []; omega)) rfl dX1_fieldIn_36 (fun v_36 G_36 hp_36 => ?_)
  obtain ⟨rfl, e9⟩ := hp_36
  rw [e9]
  refine jr_aload hX rfl dX1_fieldIn_39 ?_
  refine jr_iload_n (i := 3) hX rfl rfl dX1_fieldIn_41 ?_
  refine jr_iald hX hq (vp_in_nI hf (by omega)) dX1_fieldIn_42 ?_
  rw [nI_clamp (by omega)]
  exact jr_iret hX hlk hr ⟨rfl, hn⟩ dX1_fieldIn_43
