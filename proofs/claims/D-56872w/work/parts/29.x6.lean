/-! changes against frames -/
section JSU
variable {p : Program} {l : Launch} {e : Env} {R : Room} {s : State} {m : MethodId} {args : Array Value} {below : List Frame} {meth : Method} {c : Code} {Q : State → Prop} {D : va_G} {s0 : State} {b0 : Nat} {A : Nat → Prop} {cc : ByteArray} {nL : Nat} {own : String} {G : jG} {bc bs pc : Nat} {lv : List (Nat × Value)} {st : List Value} {post : Option Value → jG → Prop}
theorem jr_callSU (hX : jX D s0 b0 A p s m args c cc nL own) {y : MethodName} {bytes : ByteArray} {maxL n index bc1 bs1 : Nat} {ret : Option FieldType} {ws : List Cond} {rm : Room} {As rest st1 : List Value} {b ci : Nat} {fs : List Value} {C : String} {T : u_T} {N : Nat} (hM : jM l y ws rm D s0 b0 A G (.ref b :: As) post) (cw : va_CS R s args own index y bytes maxL ret ws rm rm.cells rm.slots n) (hb : G b = some (jo ci fs)) (hc : jcl[ci]? = some (C, T, N)) (hn : As.length = n) (hw : (rest.map fun v => v.category).sum ≤ 8) (hbc : bc1 + rm.cells ≤ bc) (hbs : bs1 + rm.slots ≤ bs) (hst : st1 = As.reverse ++ .ref b :: rest) (d : decode cc pc = .ok (.invokespecial index, 3)) (kk : ∀ (v : Option Value) (G1 : jG), post v G1 → Jg p l e R s m args below meth c Q D A nL G1 bc1 bs1 (pc + 3) lv (v.toList ++ rest)) : Jg p l e R s m args below meth c Q D A nL G bc bs pc lv st1 :=
  jr_back hX (mc := rm.cells) (ms := rm.slots) hbc hbs (fun H locs ls cells slots hG hS hl hc0 hs => va_runSU (hX.K.1 ci _ hc).2 hX.fix hM cw ⟨jB.blind, jrecv hX.K hG hb hc, fun U hU hW => ⟨rfl, jB.to hG hX.S hX.2.2.2.2.2.2 hS hU hW⟩⟩ rfl hn hl.1 hst (lv_room hw) d ⟨by omega, by omega⟩) kk
end JSU

theorem shC_s {D : va_G} {s0 : State} {b0 : Nat} {S : sSt} {ad : jN} {k i j : Nat} {x : Nat → Nat × List sFr} (h5 : k ≠ 5) (h6 : k ≠ 6) (h8 : k ≠ 8) (h9 : k ≠ 9) : shC D s0 b0 (sw_s S x) ad k i j = shC D s0 b0 S ad k i j := by
  rcases k with _ | _ | _ | _ | _ | _ | _ | _ | _ | _ | _ | _ | _ | _ | _ | _ | _ | _ | _ | _ | _ | _ | _ | _ | k
  all_goals first | rfl | exact absurd rfl h5 | exact absurd rfl h6 | exact absurd rfl h8 | exact absurd rfl h9

theorem shC_p {D : va_G} {s0 : State} {b0 : Nat} {S : sSt} {ad : jN} {k i j : Nat} {x : Nat} (h1 : k ≠ 1) : shC D s0 b0 (sw_p S x) ad k i j = shC D s0 b0 S ad k i j := by
  rcases k with _ | _ | _ | _ | _ | _ | _ | _ | _ | _ | _ | _ | _ | _ | _ | _ | _ | _ | _ | _ | _ | _ | _ | _ | k
  all_goals first | rfl | exact absurd rfl h1

theorem shC_o {D : va_G} {s0 : State} {b0 : Nat} {S : sSt} {ad : jN} {k i j : Nat} {x : List sTh} (h2 : k ≠ 2) (h16 : k ≠ 16) (h17 : k ≠ 17) : shC D s0 b0 (sw_o S x) ad k i j = shC D s0 b0 S ad k i j := by
  rcases k with _ | _ | _ | _ | _ | _ | _ | _ | _ | _ | _ | _ | _ | _ | _ | _ | _ | _ | _ | _ | _ | _ | _ | _ | k
  all_goals first | rfl | exact absurd rfl h2 | exact absurd rfl h16 | exact absurd rfl h17

theorem shC_t {D : va_G} {s0 : State} {b0 : Nat} {S : sSt} {ad : jN} {k i j : Nat} {x : Nat → Nat} (h4 : k ≠ 4) : shC D s0 b0 (sw_t S x) ad k i j = shC D s0 b0 S ad k i j := by
  rcases k with _ | _ | _ | _ | _ | _ | _ | _ | _ | _ | _ | _ | _ | _ | _ | _ | _ | _ | _ | _ | _ | _ | _ | _ | k
  all_goals first | rfl | exact absurd rfl h4

theorem shC_c {D : va_G} {s0 : State} {b0 : Nat} {S : sSt} {ad : jN} {k i j : Nat} {x : List sCh} (h2 : k ≠ 2) (h18 : k ≠ 18) : shC D s0 b0 (sw_c S x) ad k i j = shC D s0 b0 S ad k i j := by
  rcases k with _ | _ | _ | _ | _ | _ | _ | _ | _ | _ | _ | _ | _ | _ | _ | _ | _ | _ | _ | _ | _ | _ | _ | _ | k
  all_goals first | rfl | exact absurd rfl h2 | exact absurd rfl h18

theorem shC_q {D : va_G} {s0 : State} {b0 : Nat} {S : sSt} {ad : jN} {k i j : Nat} {x : List Nat} (h2 : k ≠ 2) : shC D s0 b0 (sw_q S x) ad k i j = shC D s0 b0 S ad k i j := by
  rcases k with _ | _ | _ | _ | _ | _ | _ | _ | _ | _ | _ | _ | _ | _ | _ | _ | _ | _ | _ | _ | _ | _ | _ | _ | k
  all_goals first | rfl | exact absurd rfl h2

theorem shC_w {D : va_G} {s0 : State} {b0 : Nat} {S : sSt} {ad : jN} {k i j : Nat} {x : Bool} (h1 : k ≠ 1) : shC D s0 b0 (sw_w S x) ad k i j = shC D s0 b0 S ad k i j := by
  rcases k with _ | _ | _ | _ | _ | _ | _ | _ | _ | _ | _ | _ | _ | _ | _ | _ | _ | _ | _ | _ | _ | _ | _ | _ | k
  all_goals first | rfl | exact absurd rfl h1

theorem shC_l {D : va_G} {s0 : State} {b0 : Nat} {S : sSt} {ad : jN} {k i j : Nat} {x : Int32} (h1 : k ≠ 1) : shC D s0 b0 (sw_l S x) ad k i j = shC D s0 b0 S ad k i j := by
  rcases k with _ | _ | _ | _ | _ | _ | _ | _ | _ | _ | _ | _ | _ | _ | _ | _ | _ | _ | _ | _ | _ | _ | _ | _ | k
  all_goals first | rfl | exact absurd rfl h1

theorem shC_n {D : va_G} {s0 : State} {b0 : Nat} {S : sSt} {ad : jN} {k i j : Nat} {x : Nat} (h1 : k ≠ 1) : shC D s0 b0 (sw_n S x) ad k i j = shC D s0 b0 S ad k i j := by
  rcases k with _ | _ | _ | _ | _ | _ | _ | _ | _ | _ | _ | _ | _ | _ | _ | _ | _ | _ | _ | _ | _ | _ | _ | _ | k
  all_goals first | rfl | exact absurd rfl h1

theorem shC_i {D : va_G} {s0 : State} {b0 : Nat} {S : sSt} {ad : jN} {k i j : Nat} {x : List sIns} (h20 : k ≠ 20) : shC D s0 b0 (sw_i S x) ad k i j = shC D s0 b0 S ad k i j := by
  rcases k with _ | _ | _ | _ | _ | _ | _ | _ | _ | _ | _ | _ | _ | _ | _ | _ | _ | _ | _ | _ | _ | _ | _ | _ | k
  all_goals first | rfl | exact absurd rfl h20

/-- a frame, written -/
abbrev s_fw (S : sSt) (i j : Nat) (x : sFr) : sSt := sw_s S (sup (s_s S) i ((s_s S i).1, (s_s S i).2.set j x))
theorem co_wfr {D : va_G} {s0 : State} {b0 : Nat} {S : sSt} {ad : jN} {T : jT} {G : jG} {i j : Nat} {x y : sFr} (h : jCo D s0 b0 S ad T G) (hi : i < 3) (hx : (s_s S i).2[j]? = some x) (hl : y.2.2.2.1 = x.2.2.2.1) : jCo D s0 b0 (s_fw S i j y) ad T (jup G (ad 8 i j) (jo 6 [.int (nI y.1), .int (nI y.2.1), .int (nI y.2.2.1), .ref (ad 9 i j), .int (nI y.2.2.2.2)])) := by
  have hj : j < (s_s S i).2.length := lt_ofl hx
  refine jRep.put h (k := 8) (i := i) (j := j) (s0' := .inl (jo 6 [.int (nI x.1), .int (nI x.2.1), .int (nI x.2.2.1), .ref (ad 9 i j), .int (nI x.2.2.2.2)])) ?_ ?_ ?_
  · show (if i < 3 then Option.map _ ((s_s S i).2[j]?) else none) = _
    rw [if_pos hi, hx]; rfl
  · intro s hs
    have hs' : (if i < 3 then Option.map _ ((sup (s_s S) i ((s_s S i).1, (s_s S i).2.set j y) i).2[j]?) else none) = some s := hs
    rw [if_pos hi, sup_s] at hs'
    simp only [List.getElem?_set_self hj, Option.map_some, Option.some.injEq] at hs'
    exact hs'.symm
  · intro k' i' j' s hne hs
    refine Or.inl ?_
    rw [← hs]
    by_cases h5 : k' = 5
    · subst h5
      show (if i' < 3 ∧ j' = 0 then some (Sum.inl (jo 3 [.ref (ad 6 i' 0), .int (nI (s_s S i').1)])) else none) = (if i' < 3 ∧ j' = 0 then some (Sum.inl (jo 3 [.ref (ad 6 i' 0), .int (nI (sup (s_s S) i ((s_s S i).1, (s_s S i).2.set j y) i').1)])) else none)
      by_cases e : i' = i
      · subst e; simp only [sup_s]
      · simp only [sup_n e]
    by_cases h6 : k' = 6
    · subst h6
      show (if i' < 3 ∧ j' = 0 then some (Sum.inr (s_rg (s_s S i').2.length (fun q => ad 8 i' q), 0, 200)) else none) = (if i' < 3 ∧ j' = 0 then some (Sum.inr (s_rg (sup (s_s S) i ((s_s S i).1, (s_s S i).2.set j y) i').2.length (fun q => ad 8 i' q), 0, 200)) else none)
      by_cases e : i' = i
      · subst e; simp only [sup_s, List.length_set]
      · simp only [sup_n e]
    by_cases h8 : k' = 8
    · subst h8
      show (if i' < 3 then Option.map _ ((s_s S i').2[j']?) else none) = (if i' < 3 then Option.map _ ((sup (s_s S) i ((s_s S i).1, (s_s S i).2.set j y) i').2[j']?) else none)
      by_cases e : i' = i
      · subst e
        have e2 : j ≠ j' := fun q => hne ⟨rfl, rfl, q.symm⟩
        simp only [sup_s, List.getElem?_set_ne e2]
      · simp only [sup_n e]
    by_cases h9 : k' = 9
    · subst h9
      show (if i' < 3 then Option.map _ ((s_s S i').2[j']?) else none) = (if i' < 3 then Option.map _ ((sup (s_s S) i ((s_s S i).1, (s_s S i).2.set j y) i').2[j']?) else none)
      by_cases e : i' = i
      · subst e
        by_cases e2 : j = j'
        · subst e2
          simp only [sup_s, List.getElem?_set_self hj, hx, Option.map_some, hl]
        · simp only [sup_s, List.getElem?_set_ne e2]
      · simp only [sup_n e]
    exact (shC_s h5 h6 h8 h9).symm
theorem s_tgt {S : sSt} {b : Bool} (hl : s_lead S b = true) : (if b then nI (s_p S) - 1 else nI (s_p S) + 1) = nI (s_to S b) := by
  cases b with
  | true => exact nI_s1 (of_decide_eq_true hl)
  | false => exact nI_1 _
theorem s_mx {S : sSt} {b : Bool} (hl : s_lead S b = true) (hp : s_p S < 100) : (if nI (s_p S) < nI (s_to S b) then nI (s_to S b) else nI (s_p S)) = nI (s_lo S b + 1) := by
  cases b with
  | true =>
    have h : 0 < s_p S := of_decide_eq_true hl
    have e1 : s_to S true = s_p S - 1 := rfl
    have e2 : s_lo S true = s_p S - 1 := rfl
    rw [e1, e2, if_neg (nI_nlt (by omega) (by omega)), show s_p S - 1 + 1 = s_p S by omega]
  | false =>
    have e1 : s_to S false = s_p S + 1 := rfl
    have e2 : s_lo S false = s_p S := rfl
    rw [e1, e2, if_pos (nI_lt (by omega) (by omega))]
theorem s_mn {S : sSt} {b : Bool} (hl : s_lead S b = true) (hp : s_p S < 100) : (if nI (s_to S b) < nI (s_p S) then nI (s_to S b) else nI (s_p S)) = nI (s_lo S b) := by
  cases b with
  | true =>
    have h : 0 < s_p S := of_decide_eq_true hl
    have e1 : s_to S true = s_p S - 1 := rfl
    have e2 : s_lo S true = s_p S - 1 := rfl
    rw [e1, e2, if_pos (nI_lt (by omega) (by omega))]
  | false =>
    have e1 : s_to S false = s_p S + 1 := rfl
    have e2 : s_lo S false = s_p S := rfl
    rw [e1, e2, if_neg (nI_nlt (by omega) (by omega))]
theorem s_lt {S : sSt} {b : Bool} (hl : s_lead S b = true) (hp : s_p S < s_m S) : s_lo S b + 1 < s_m S ∧ s_to S b < s_m S := by
  cases b with
  | true =>
    have h : 0 < s_p S := of_decide_eq_true hl
    have e1 : s_to S true = s_p S - 1 := rfl
    have e2 : s_lo S true = s_p S - 1 := rfl
    omega
  | false =>
    have h : s_p S + 1 < s_m S := of_decide_eq_true hl
    have e1 : s_to S false = s_p S + 1 := rfl
    have e2 : s_lo S false = s_p S := rfl
    omega

set_option maxHeartbeats 4000000 in
set_option maxRecDepth 100000 in
theorem met_laterOf (l : Launch) (D : va_G) (s0 : State) (b0 : Nat) (A : Nat → Prop) (G : jG) (S : sSt) (ad : jN) (T : jT) (hR : jCo D s0 b0 S ad T G) (ci : Nat) (ch : sCh) (hch : (s_c S)[ci]? = some ch) (hi : sWi S) (hv : sWv S) (hp : s_p S < s_m S) (hl : s_lead S ch.2.1 = true) : jM l yX1_laterOf (ws_ yX1_laterOf cX1_laterOf 2 (some (.object "SwapWhile$Version"))) (jR 3 0 0) D s0 b0 A G [.ref (ad 1 0 0), .ref (ad 18 ci 0)] (fun w G1 => w = some (.ref (ad 7 (s_lo S ch.2.1 + 1) 0)) ∧ G1 = G) := by
  have hxx := co_x hR
  have hC := co_ch hR hch
  have hmm : s_m S = (s_v S).length - 1 := rfl
  have hvl := hv.1
  have hvu := hv.2.1
  obtain ⟨moV, capV, eaV, hVL, -, hVc, -⟩ := co_vs hR
  obtain ⟨hlt1, hlt2⟩ := s_lt hl hp
  have hVV := co_ver hR (v := s_lo S ch.2.1 + 1) (by omega)
  refine jM.of (by decide +kernel) (own := RX1) rfl (Nat.le_of_ble_eq_true rfl) ?_
  intro p e s m args below meth c hX hr hlk hnm
  refine jr_aload_n (i := 0) hX rfl rfl dX1_laterOf_0 ?_
  refine jr_get (ci := 2) (k := 0) hX (by first | assumption | exact jup_s) rfl in_X1 (by decide) q363 rfl dX1_laterOf_1 ?_
  refine jr_aload_n (i := 0) hX rfl rfl dX1_laterOf_4 ?_
  refine jr_get (ci := 2) (k := 8) hX (by first | assumption | exact jup_s) rfl in_X1 (by decide) q371 rfl dX1_laterOf_5 ?_
  refine jr_aload_n (i := 1) hX rfl rfl dX1_laterOf_8 ?_
  refine jr_aload_n (i := 0) hX rfl rfl dX1_laterOf_9 ?_
  refine jr_get (ci := 2) (k := 8) hX (by first | assumption | exact jup_s) rfl in_X1 (by decide) q371 rfl dX1_laterOf_10 ?_
  refine jr_callV (As := [.int (nI (s_p S))]) (bc1 := (0)) (bs1 := (0)) hX (met_target l D s0 b0 A _ (ad 18 ci 0) ch.2.1 _ _ _ _ hC (nI (s_p S))) (cwV 1 hX.ts (lw_V q1004 q1005 q1006 q102 q1007) rfl rfl rfl (by decide +kernel) ⟨Nat.le_of_ble_eq_true rfl, Nat.le_of_ble_eq_true rfl⟩) hC rfl rfl (Nat.le_of_ble_eq_true rfl) (by first | omega | (dsimp only; omega) | (show _ ≤ _; simp only []; omega)) (by first | omega | (dsimp only; omega) | (show _ ≤ _; simp only []; omega)) rfl dX1_laterOf_13 (fun v_13 G_13 hp_13 => ?_)
  obtain ⟨rfl, e9⟩ := hp_13
  rw [e9, s_tgt hl]
  refine jr_callS (As := [.int (nI (s_p S)), .int (nI (s_to S ch.2.1))]) (bc1 := (0)) (bs1 := (0)) hX (met_max l D s0 b0 A _ _ _) (va_cwS 2 hX.ts (lw_S q1029 q205 q72 q206) rfl rfl rfl (by decide +kernel) ⟨Nat.le_of_ble_eq_true rfl, Nat.le_of_ble_eq_true rfl⟩) rfl (Nat.le_of_ble_eq_true rfl) (by first | omega | (dsimp only; omega) | (show _ ≤ _; simp only []; omega)) (by first | omega | (dsimp only; omega) | (show _ ≤ _; simp only []; omega)) rfl dX1_laterOf_16 (fun v_16 G_16 hp_16 => ?_)
  obtain ⟨rfl, e9⟩ := hp_16
  rw [e9, s_mx hl (by omega)]
  refine jr_callF (As := [.int (nI (s_lo S ch.2.1 + 1))]) (bc1 := (0)) (bs1 := (0)) hX (met_get l D s0 b0 A _ (ad 2 0 0) (s_rg (s_m S) (fun v => ad 7 v 0)) moV capV eaV hVL (s_lo S ch.2.1 + 1) (ad 7 (s_lo S ch.2.1 + 1) 0) (rg_at (by omega))) (va_cwF 1 hX.ts (lw_F q299 q302 q304 q68 q306) rfl rfl rfl (hX.S.fw ⟨by decide +kernel, by decide +kernel⟩ q301 q300 q305 q303 q183) (by decide +kernel) ⟨Nat.le_of_ble_eq_true rfl, Nat.le_of_ble_eq_true rfl⟩) hVL.1 rfl rfl (Nat.le_of_ble_eq_true rfl) (by first | omega | (dsimp only; omega) | (show _ ≤ _; simp only []; omega)) (by first | omega | (dsimp only; omega) | (show _ ≤ _; simp only []; omega)) rfl dX1_laterOf_19 (fun v_19 G_19 hp_19 => ?_)
  obtain ⟨rfl, e9⟩ := hp_19
  rw [e9]
  refine jr_castS hX hVV rfl q167 dX1_laterOf_24 ?_
  exact jr_aret hX hlk hr (by first | exact Or.inl ⟨_, rfl⟩ | exact Or.inr ⟨_, rfl⟩) (Or.inr ⟨_, rfl⟩) ⟨rfl, rfl⟩ dX1_laterOf_27

set_option maxHeartbeats 4000000 in
set_option maxRecDepth 100000 in
theorem met_canLead (l : Launch) (D : va_G) (s0 : State) (b0 : Nat) (A : Nat → Prop) (G : jG) (S : sSt) (ad : jN) (T : jT) (hR : jCo D s0 b0 S ad T G) (ci : Nat) (ch : sCh) (hch : (s_c S)[ci]? = some ch) (hi : sWi S) (hv : sWv S) (hp : s_p S < s_m S) : jM l yX1_canLead (ws_ yX1_canLead cX1_canLead 2 (some .boolean)) (jR 1 0 0) D s0 b0 A G [.ref (ad 1 0 0), .ref (ad 18 ci 0)] (fun w G1 => w = some (.int (jbz (s_lead S ch.2.1))) ∧ G1 = G) := by
  have hxx := co_x hR
  have hC := co_ch hR hch
  have hmm : s_m S = (s_v S).length - 1 := rfl
  have hvl := hv.1
  have hvu := hv.2.1
  obtain ⟨moV, capV, eaV, hVL, -, hVc, -⟩ := co_vs hR
  refine jM.of (by decide +kernel) (own := RX1) rfl (Nat.le_of_ble_eq_true rfl) ?_
  intro p e s m args below meth c hX hr hlk hnm
  refine jr_aload_n (i := 1) hX rfl rfl dX1_canLead_0 ?_
  refine jr_aload_n (i := 0) hX rfl rfl dX1_canLead_1 ?_
  refine jr_get (ci := 2) (k := 8) hX (by first | assumption | exact jup_s) rfl in_X1 (by decide) q371 rfl dX1_canLead_2 ?_
  refine jr_callV (As := [.int (nI (s_p S))]) (bc1 := (0)) (bs1 := (0)) hX (met_target l D s0 b0 A _ (ad 18 ci 0) ch.2.1 _ _ _ _ hC (nI (s_p S))) (cwV 1 hX.ts (lw_V q1004 q1005 q1006 q102 q1007) rfl rfl rfl (by decide +kernel) ⟨Nat.le_of_ble_eq_true rfl, Nat.le_of_ble_eq_true rfl⟩) hC rfl rfl (Nat.le_of_ble_eq_true rfl) (by first | omega | (dsimp only; omega) | (show _ ≤ _; simp only []; omega)) (by first | omega | (dsimp only; omega) | (show _ ≤ _; simp only []; omega)) rfl dX1_canLead_5 (fun v_5 G_5 hp_5 => ?_)
  obtain ⟨rfl, e9⟩ := hp_5
  rw [e9]
  refine jr_iconst (v := 0) hX rfl dX1_canLead_8 ?_
  refine jr_aload_n (i := 0) hX rfl rfl dX1_canLead_9 ?_
  refine jr_get (ci := 2) (k := 0) hX (by first | assumption | exact jup_s) rfl in_X1 (by decide) q363 rfl dX1_canLead_10 ?_
  refine jr_callF (As := []) (bc1 := (0)) (bs1 := (0)) hX (met_size l D s0 b0 A _ (ad 2 0 0) (s_rg (s_m S) (fun v => ad 7 v 0)) moV capV eaV hVL) (va_cwF 0 hX.ts (lw_F q405 q408 q410 q68 q412) rfl rfl rfl (hX.S.fw ⟨by decide +kernel, by decide +kernel⟩ q407 q406 q411 q409 q183) (by decide +kernel) ⟨Nat.le_of_ble_eq_true rfl, Nat.le_of_ble_eq_true rfl⟩) hVL.1 rfl rfl (Nat.le_of_ble_eq_true rfl) (by first | omega | (dsimp only; omega) | (show _ ≤ _; simp only []; omega)) (by first | omega | (dsimp only; omega) | (show _ ≤ _; simp only []; omega)) rfl dX1_canLead_13 (fun v_13 G_13 hp_13 => ?_)
  obtain ⟨rfl, e9⟩ := hp_13
  rw [e9, rg_len]
  refine jr_iconst (v := 1) hX rfl dX1_canLead_18 ?_
  refine jr_isub hX dX1_canLead_19 ?_
  rw [nI_s1 (by omega)]
  refine jr_callS (As := [.int (if ch.2.1 then nI (s_p S) - 1 else nI (s_p S) + 1), .int 0, .int (nI (s_m S - 1))]) (bc1 := (0)) (bs1 := (0)) hX (met_isIn l D s0 b0 A _ _ _ _) (va_cwS 3 hX.ts (lw_S q453 q454 q65 q455) rfl rfl rfl (by decide +kernel) ⟨Nat.le_of_ble_eq_true rfl, Nat.le_of_ble_eq_true rfl⟩) rfl (Nat.le_of_ble_eq_true rfl) (by first | omega | (dsimp only; omega) | (show _ ≤ _; simp only []; omega)) (by first | omega | (dsimp only; omega) | (show _ ≤ _; simp only []; omega)) rfl dX1_canLead_20 (fun v_20 G_20 hp_20 => ?_)
  obtain ⟨rfl, e9⟩ := hp_20
  rw [e9]
  exact jr_zret hX hlk hr (jbz_n _) ⟨by
    have e : decide ((0 : Int32) ≤ (if ch.2.1 then nI (s_p S) - 1 else nI (s_p S) + 1) ∧ (if ch.2.1 then nI (s_p S) - 1 else nI (s_p S) + 1) ≤ nI (s_m S - 1)) = s_lead S ch.2.1 := by
      cases hb : ch.2.1 with
      | true =>
        show decide ((0 : Int32) ≤ nI (s_p S) - 1 ∧ nI (s_p S) - 1 ≤ nI (s_m S - 1)) = decide (0 < s_p S)
        by_cases h0 : 0 < s_p S
        · rw [nI_s1 h0, decide_eq_true h0]
          exact decide_eq_true ⟨nI_pos' (by omega), nI_le (by omega) (by omega)⟩
        · rw [show s_p S = 0 by omega]
          exact (decide_eq_false (fun q => absurd q.1 (by decide))).trans (decide_eq_false (by omega)).symm
      | false =>
        show decide ((0 : Int32) ≤ nI (s_p S) + 1 ∧ nI (s_p S) + 1 ≤ nI (s_m S - 1)) = decide (s_p S + 1 < s_m S)
        rw [nI_1]
        by_cases h0 : s_p S + 1 < s_m S
        · rw [decide_eq_true h0]
          exact decide_eq_true ⟨nI_pos' (by omega), nI_le (by omega) (by omega)⟩
        · rw [decide_eq_false h0]
          exact decide_eq_false fun q => absurd ((nI_leI (by omega) (by omega)).mp q.2) (by omega)
    rw [e], rfl⟩ dX1_canLead_23

set_option maxHeartbeats 4000000 in
set_option maxRecDepth 100000 in
theorem met_isTouchedF (l : Launch) (D : va_G) (s0 : State) (b0 : Nat) (A : Nat → Prop) (G : jG) (S : sSt) (ad : jN) (T : jT) (hR : jCo D s0 b0 S ad T G) (ci : Nat) (ch : sCh) (hch : (s_c S)[ci]? = some ch) (hi : sWi S) (hv : sWv S) (hp : s_p S < s_m S) (hl : s_lead S ch.2.1 = true) (i j : Nat) (x : sFr) (hi3 : i < 3) (hx : (s_s S i).2[j]? = some x) (hs : sWs S) : jM l yX1_isTouched_2 (ws_ yX1_isTouched_2 cX1_isTouched_2 4 (some .boolean)) (jR 6 1 4) D s0 b0 A G [.ref (ad 1 0 0), .ref (ad 18 ci 0), .ref (ad 8 i j)] (fun w G1 => w = some (.int (jbz (s_tch S (s_lo S ch.2.1) x.2.1))) ∧ jNw G G1) := by
  have hxx := co_x hR
  have hC := co_ch hR hch
  have hmm : s_m S = (s_v S).length - 1 := rfl
  have hvl := hv.1
  have hvu := hv.2.1
  have hF := co_fr hR hi3 hx
  have hfx := (hs i hi3).2.2 j x hx
  obtain ⟨moV, capV, eaV, hVL, -, hVc, -⟩ := co_vs hR
  obtain ⟨hlt1, hlt2⟩ := s_lt hl hp
  have hVV := co_ver hR (v := s_lo S ch.2.1) (by omega)
  have hVW := co_ver hR (v := s_lo S ch.2.1 + 1) (by omega)
  refine jM.of (by decide +kernel) (own := RX1) rfl (Nat.le_of_ble_eq_true rfl) ?_
  intro p e s m args below meth c hX hr hlk hnm
  refine jr_aload_n (i := 0) hX rfl rfl dX1_isTouched_2_0 ?_
  refine jr_aload_n (i := 1) hX rfl rfl dX1_isTouched_2_1 ?_
  refine jr_callV (As := [.ref (ad 18 ci 0)]) (bc1 := (1)) (bs1 := (4)) hX (met_laterOf l D s0 b0 A _ S ad T hR ci ch hch hi hv hp hl) (cwV 1 hX.ts (lw_V q1025 q1027 qs14 q65 q1028) rfl rfl rfl (by decide +kernel) ⟨Nat.le_of_ble_eq_true rfl, Nat.le_of_ble_eq_true rfl⟩) hxx rfl rfl (Nat.le_of_ble_eq_true rfl) (by first | omega | (dsimp only; omega) | (show _ ≤ _; simp only []; omega)) (by first | omega | (dsimp only; omega) | (show _ ≤ _; simp only []; omega)) rfl dX1_isTouched_2_2 (fun v_2 G_2 hp_2 => ?_)
  obtain ⟨rfl, e9⟩ := hp_2
  rw [e9]
  refine jr_astore_n (i := 3) hX rfl (by decide) rfl dX1_isTouched_2_5 ?_
  refine jr_aload_n (i := 3) hX rfl rfl dX1_isTouched_2_6 ?_
  refine jr_aload_n (i := 0) hX rfl rfl dX1_isTouched_2_7 ?_
  refine jr_get (ci := 2) (k := 0) hX (by first | assumption | exact jup_s) rfl in_X1 (by decide) q363 rfl dX1_isTouched_2_8 ?_
  refine jr_aload_n (i := 0) hX rfl rfl dX1_isTouched_2_11 ?_
  refine jr_get (ci := 2) (k := 8) hX (by first | assumption | exact jup_s) rfl in_X1 (by decide) q371 rfl dX1_isTouched_2_12 ?_
  refine jr_aload_n (i := 1) hX rfl rfl dX1_isTouched_2_15 ?_
  refine jr_aload_n (i := 0) hX rfl rfl dX1_isTouched_2_16 ?_
  refine jr_get (ci := 2) (k := 8) hX (by first | assumption | exact jup_s) rfl in_X1 (by decide) q371 rfl dX1_isTouched_2_17 ?_
  refine jr_callV (As := [.int (nI (s_p S))]) (bc1 := (1)) (bs1 := (4)) hX (met_target l D s0 b0 A _ (ad 18 ci 0) ch.2.1 _ _ _ _ hC (nI (s_p S))) (cwV 1 hX.ts (lw_V q1004 q1005 q1006 q102 q1007) rfl rfl rfl (by decide +kernel) ⟨Nat.le_of_ble_eq_true rfl, Nat.le_of_ble_eq_true rfl⟩) hC rfl rfl (Nat.le_of_ble_eq_true rfl) (by first | omega | (dsimp only; omega) | (show _ ≤ _; simp only []; omega)) (by first | omega | (dsimp only; omega) | (show _ ≤ _; simp only []; omega)) rfl dX1_isTouched_2_20 (fun v_20 G_20 hp_20 => ?_)
  obtain ⟨rfl, e9⟩ := hp_20
  rw [e9, s_tgt hl]
  refine jr_callS (As := [.int (nI (s_p S)), .int (nI (s_to S ch.2.1))]) (bc1 := (1)) (bs1 := (4)) hX (met_min l D s0 b0 A _ _ _) (va_cwS 2 hX.ts (lw_S q1030 q262 q72 q263) rfl rfl rfl (by decide +kernel) ⟨Nat.le_of_ble_eq_true rfl, Nat.le_of_ble_eq_true rfl⟩) rfl (Nat.le_of_ble_eq_true rfl) (by first | omega | (dsimp only; omega) | (show _ ≤ _; simp only []; omega)) (by first | omega | (dsimp only; omega) | (show _ ≤ _; simp only []; omega)) rfl dX1_isTouched_2_23 (fun v_23 G_23 hp_23 => ?_)
  obtain ⟨rfl, e9⟩ := hp_23
  rw [e9, s_mn hl (by omega)]
  refine jr_callF (As := [.int (nI (s_lo S ch.2.1))]) (bc1 := (1)) (bs1 := (4)) hX (met_get l D s0 b0 A _ (ad 2 0 0) (s_rg (s_m S) (fun v => ad 7 v 0)) moV capV eaV hVL (s_lo S ch.2.1) (ad 7 (s_lo S ch.2.1) 0) (rg_at (by omega))) (va_cwF 1 hX.ts (lw_F q299 q302 q304 q68 q306) rfl rfl rfl (hX.S.fw ⟨by decide +kernel, by decide +kernel⟩ q301 q300 q305 q303 q183) (by decide +kernel) ⟨Nat.le_of_ble_eq_true rfl, Nat.le_of_ble_eq_true rfl⟩) hVL.1 rfl rfl (Nat.le_of_ble_eq_true rfl) (by first | omega | (dsimp only; omega) | (show _ ≤ _; simp only []; omega)) (by first | omega | (dsimp only; omega) | (show _ ≤ _; simp only []; omega)) rfl dX1_isTouched_2_26 (fun v_26 G_26 hp_26 => ?_)
  obtain ⟨rfl, e9⟩ := hp_26
  rw [e9]
  refine jr_castS hX hVV rfl q167 dX1_isTouched_2_31 ?_
  refine jr_aload_n (i := 2) hX rfl rfl dX1_isTouched_2_34 ?_
  refine jr_getN (ci := 6) (k := 1) hX (by first | assumption | exact jup_s) rfl in_X13 (by decide) q967 rfl dX1_isTouched_2_35 ?_
  refine jr_callV (As := [.ref (ad 7 (s_lo S ch.2.1) 0), .int (nI x.2.1)]) (bc1 := (0)) (bs1 := (0)) hX (met_touches l D s0 b0 A _ S ad T hR hi hv (s_lo S ch.2.1) x.2.1 (by omega) hfx.2.1) (cwV 2 hX.ts (lw_V q753 q754 q755 q70 q756) rfl rfl rfl (by decide +kernel) ⟨Nat.le_of_ble_eq_true rfl, Nat.le_of_ble_eq_true rfl⟩) hVW rfl rfl (Nat.le_of_ble_eq_true rfl) (by first | omega | (dsimp only; omega) | (show _ ≤ _; simp only []; omega)) (by first | omega | (dsimp only; omega) | (show _ ≤ _; simp only []; omega)) rfl dX1_isTouched_2_38 (fun v_38 G_38 hp_38 => ?_)
  obtain ⟨rfl, e9⟩ := hp_38
  exact jr_zret hX hlk hr (jbz_n _) ⟨rfl, e9⟩ dX1_isTouched_2_41

set_option maxHeartbeats 4000000 in
set_option maxRecDepth 100000 in
theorem met_forwardPlace (l : Launch) (D : va_G) (s0 : State) (b0 : Nat) (A : Nat → Prop) (G : jG) (S : sSt) (ad : jN) (T : jT) (hR : jCo D s0 b0 S ad T G) (v f q : Nat) (hvv : v < (s_v S).length) (hf : f < 5) (hq : q < 11) : jM l yX3_forwardPlace (ws_ yX3_forwardPlace cX3_forwardPlace 3 (some .int)) (jR 0 0 0) D s0 b0 A G [.ref (ad 7 v 0), .int (nI f), .int (nI q)] (fun w G1 => w = some (.int ((s_ver S v).2.2.2.2 f q)) ∧ G1 = G) := by
  have hV := co_ver hR hvv
  have hM := co_map hR hvv
  have hW := co_row hR hvv hf
  refine jM.of (by decide +kernel) (own := RX3) rfl (Nat.le_of_ble_eq_true rfl) ?_
  intro p e s m args below meth c hX hr hlk hnm
  refine jr_aload_n (i := 0) hX rfl rfl dX3_forwardPlace_0 ?_
  refine jr_get (ci := 4) (k := 4) hX (by first | assumption | exact jup_s) rfl in_X3 (by decide) q282 rfl dX3_forwardPlace_1 ?_
  refine jr_iload_n (i := 1) hX rfl rfl dX3_forwardPlace_4 ?_
  refine jr_aald (t := 4) (v := .ref (ad 23 v f)) hX hM rfl rfl (vp_in_nI hf (by omega)) (by rw [nI_clamp (by omega)]; rfl) dX3_forwardPlace_5 ?_
  refine jr_iload_n (i := 2) hX rfl rfl dX3_forwardPlace_6 ?_
  refine jr_iald hX hW (vp_in_nI hq (by omega)) dX3_forwardPlace_7 ?_
  rw [nI_clamp (by omega)]
  exact jr_iret hX hlk hr ⟨rfl, rfl⟩ dX3_forwardPlace_8

theorem sbp_at {row : Nat → Int32} {x : Int32} {i : Nat} (hi : i < 11) (h : row i = x) (hall : ∀ p, p < i → row p ≠ x) : s_bp row x = nI i := by
  have e : (List.range 11).find? (fun p => decide (row p = x)) = some i := by
    rw [List.find?_range_eq_some]
    refine ⟨by simpa using h, by simpa using hi, fun j hj => by simpa using hall j hj⟩
  unfold s_bp
  rw [e]
theorem sbp_no {row : Nat → Int32} {x : Int32} (hall : ∀ p, p < 11 → row p ≠ x) : s_bp row x = -1 := by
  have e : (List.range 11).find? (fun p => decide (row p = x)) = none := by
    rw [List.find?_eq_none]
    intro p hp
    simpa using hall p (List.mem_range.mp hp)
  unfold s_bp
  rw [e]
theorem s_bp_in {row : Nat → Int32} {x : Int32} : s_bp row x = -1 ∨ ∃ p, p ≤ 10 ∧ s_bp row x = nI p := by
  unfold s_bp
  cases e : (List.range 11).find? (fun p => decide (row p = x)) with
  | none => exact Or.inl rfl
  | some p =>
    have := List.mem_range.mp (List.mem_of_find?_eq_some e)
    exact Or.inr ⟨p, by omega, rfl⟩

set_option maxHeartbeats 4000000 in
set_option maxRecDepth 100000 in
theorem met_backPlace (l : Launch) (D : va_G) (s0 : State) (b0 : Nat) (A : Nat → Prop) (G : jG) (S : sSt) (ad : jN) (T : jT) (hR : jCo D s0 b0 S ad T G) (v f q : Nat) (hvv : v < (s_v S).length) (hf : f < 5) : jM l yX3_backPlace (ws_ yX3_backPlace cX3_backPlace 4 (some .int)) (jR 0 0 0) D s0 b0 A G [.ref (ad 7 v 0), .int (nI f), .int (nI q)] (fun w G1 => w = some (.int (s_bp ((s_ver S v).2.2.2.2 f) (nI q))) ∧ G1 = G) := by
  have hV := co_ver hR hvv
  have hM := co_map hR hvv
  have hW := co_row hR hvv hf
  refine jM.of (by decide +kernel) (own := RX3) rfl (Nat.le_of_ble_eq_true rfl) ?_
  intro p e s m args below meth c hX hr hlk hnm
  refine jr_iconst (v := 0) hX rfl dX3_backPlace_0 ?_
  refine jr_istore_n (i := 3) hX rfl (by decide) rfl dX3_backPlace_1 ?_
  have loop : ∀ (n i : Nat), 11 - i = n → i ≤ 11 → (∀ p, p < i → (s_ver S v).2.2.2.2 f p ≠ nI q) → Jg p l e (jR 0 0 0) s m args below meth c (MQ below (jQ D A (fun w G1 => w = some (.int (s_bp ((s_ver S v).2.2.2.2 f) (nI q))) ∧ G1 = G)) args s 0 0 A) D A 4 G 0 0 2 [(3, .int (nI i)), (0, .ref (ad 7 v 0)), (1, .int (nI f)), (2, .int (nI q))] [] := by
    intro n
    induction n using Nat.strongRecOn with
    | ind n ih0 =>
    intro i hn hik hall
    have ih : ∀ i1 : Nat, i < i1 → i1 ≤ 11 → (∀ p, p < i1 → (s_ver S v).2.2.2.2 f p ≠ nI q) → Jg p l e (jR 0 0 0) s m args below meth c (MQ below (jQ D A (fun w G1 => w = some (.int (s_bp ((s_ver S v).2.2.2.2 f) (nI q))) ∧ G1 = G)) args s 0 0 A) D A 4 G 0 0 2 [(3, .int (nI i1)), (0, .ref (ad 7 v 0)), (1, .int (nI f)), (2, .int (nI q))] [] := fun i1 h1 h2 => ih0 (11 - i1) (by omega) i1 rfl h2
    refine jr_iload_n (i := 3) hX rfl rfl dX3_backPlace_2 ?_
    refine jr_bipush (v := 10) hX (by decide) dX3_backPlace_3 ?_
    refine jr_icmp_gt hX (tgt := 28) (by decide) dX3_backPlace_5 (fun c_5 => ?_) (fun c_5 => ?_)
    · have hi11 : 11 ≤ i := by
        refine Nat.not_lt.mp fun q9 => ?_
        exact absurd c_5 (nI_nlt (a := 10) (b := i) (by omega) (by omega))
      refine jr_iconst (v := -1) hX rfl dX3_backPlace_28 ?_
      exact jr_iret hX hlk hr ⟨by rw [sbp_no (fun p hp9 => hall p (by omega))], rfl⟩ dX3_backPlace_29
    · have hi11 : i < 11 := Nat.not_le.mp fun q9 => c_5 (nI_lt (a := 10) (b := i) (by omega) (by omega))
      refine jr_aload_n (i := 0) hX rfl rfl dX3_backPlace_8 ?_
      refine jr_get (ci := 4) (k := 4) hX (by first | assumption | exact jup_s) rfl in_X3 (by decide) q282 rfl dX3_backPlace_9 ?_
      refine jr_iload_n (i := 1) hX rfl rfl dX3_backPlace_12 ?_
      refine jr_aald (t := 4) (v := .ref (ad 23 v f)) hX hM rfl rfl (vp_in_nI hf (by omega)) (by rw [nI_clamp (by omega)]; rfl) dX3_backPlace_13 ?_
      refine jr_iload_n (i := 3) hX rfl rfl dX3_backPlace_14 ?_
      refine jr_iald hX hW (vp_in_nI (by omega) (by omega)) dX3_backPlace_15 ?_
      rw [nI_clamp (by omega)]
      refine jr_iload_n (i := 2) hX rfl rfl dX3_backPlace_16 ?_
      refine jr_icmp_ne hX (tgt := 22) (by decide) dX3_backPlace_17 (fun c_17 => ?_) (fun c_17 => ?_)
      · refine jr_iinc (w := 1) hX rfl rfl (by decide) rfl dX3_backPlace_22 ?_
        refine jr_goto hX (tgt := 2) (by decide) dX3_backPlace_25 ?_
        rw [show nI i + 1 = nI (i + 1) from nI_1 i]
        refine jr_lvm [(3, .int (nI (i + 1))), (0, .ref (ad 7 v 0)), (1, .int (nI f)), (2, .int (nI q))] rfl ?_
        exact ih (i + 1) (by omega) (by omega) (fun p hp9 => by
          by_cases e : p = i
          · subst e; exact c_17
          · exact hall p (by omega))
      · refine jr_iload_n (i := 3) hX rfl rfl dX3_backPlace_20 ?_
        exact jr_iret hX hlk hr ⟨by rw [sbp_at (by omega) c_17 hall], rfl⟩ dX3_backPlace_21
  refine jr_lvm [(3, .int (nI 0)), (0, .ref (ad 7 v 0)), (1, .int (nI f)), (2, .int (nI q))] rfl ?_
  exact loop 11 0 rfl (Nat.zero_le _) (fun p hp9 => absurd hp9 (Nat.not_lt_zero p))

set_option maxHeartbeats 4000000 in
set_option maxRecDepth 100000 in
theorem met_placeFor (l : Launch) (D : va_G) (s0 : State) (b0 : Nat) (A : Nat → Prop) (G : jG) (S : sSt) (ad : jN) (T : jT) (hR : jCo D s0 b0 S ad T G) (ci : Nat) (ch : sCh) (hch : (s_c S)[ci]? = some ch) (hi : sWi S) (hv : sWv S) (hp : s_p S < s_m S) (hl : s_lead S ch.2.1 = true) (i j : Nat) (x : sFr) (hi3 : i < 3) (hx : (s_s S i).2[j]? = some x) (hs : sWs S) : jM l yX1_placeFor (ws_ yX1_placeFor cX1_placeFor 4 (some .int)) (jR 4 0 0) D s0 b0 A G [.ref (ad 1 0 0), .ref (ad 18 ci 0), .ref (ad 8 i j)] (fun w G1 => w = some (.int (s_pl S ch.2.1 x.2.1 x.2.2.2.2)) ∧ G1 = G) := by
  have hxx := co_x hR
  have hC := co_ch hR hch
  have hmm : s_m S = (s_v S).length - 1 := rfl
  have hvl := hv.1
  have hvu := hv.2.1
  have hF := co_fr hR hi3 hx
  have hfx := (hs i hi3).2.2 j x hx
  obtain ⟨hlt1, hlt2⟩ := s_lt hl hp
  have hVW := co_ver hR (v := s_lo S ch.2.1 + 1) (by omega)
  refine jM.of (by decide +kernel) (own := RX1) rfl (Nat.le_of_ble_eq_true rfl) ?_
  intro p e s m args below meth c hX hr hlk hnm
  refine jr_aload_n (i := 0) hX rfl rfl dX1_placeFor_0 ?_
  refine jr_aload_n (i := 1) hX rfl rfl dX1_placeFor_1 ?_
  refine jr_callV (As := [.ref (ad 18 ci 0)]) (bc1 := (0)) (bs1 := (0)) hX (met_laterOf l D s0 b0 A _ S ad T hR ci ch hch hi hv hp hl) (cwV 1 hX.ts (lw_V q1025 q1027 qs14 q65 q1028) rfl rfl rfl (by decide +kernel) ⟨Nat.le_of_ble_eq_true rfl, Nat.le_of_ble_eq_true rfl⟩) hxx rfl rfl (Nat.le_of_ble_eq_true rfl) (by first | omega | (dsimp only; omega) | (show _ ≤ _; simp only []; omega)) (by first | omega | (dsimp only; omega) | (show _ ≤ _; simp only []; omega)) rfl dX1_placeFor_2 (fun v_2 G_2 hp_2 => ?_)
  obtain ⟨rfl, e9⟩ := hp_2
  rw [e9]
  refine jr_astore_n (i := 3) hX rfl (by decide) rfl dX1_placeFor_5 ?_
  refine jr_aload_n (i := 1) hX rfl rfl dX1_placeFor_6 ?_
  refine jr_getN (ci := 8) (k := 1) hX (by first | assumption | exact jup_s) rfl in_X16 (by decide) q1223 rfl dX1_placeFor_7 ?_
  refine jr_if_eq hX (tgt := 28) (by decide) dX1_placeFor_10 (fun c_10 => ?_) (fun c_10 => ?_)
  · refine jr_aload_n (i := 3) hX rfl rfl dX1_placeFor_28 ?_
    refine jr_aload_n (i := 2) hX rfl rfl dX1_placeFor_29 ?_
    refine jr_getN (ci := 6) (k := 1) hX (by first | assumption | exact jup_s) rfl in_X13 (by decide) q967 rfl dX1_placeFor_30 ?_
    refine jr_aload_n (i := 2) hX rfl rfl dX1_placeFor_33 ?_
    refine jr_getN (ci := 6) (k := 4) hX (by first | assumption | exact jup_s) rfl in_X13 (by decide) q973 rfl dX1_placeFor_34 ?_
    refine jr_callV (As := [.int (nI x.2.1), .int (nI x.2.2.2.2)]) (bc1 := (0)) (bs1 := (0)) hX (met_forwardPlace l D s0 b0 A _ S ad T hR (s_lo S ch.2.1 + 1) x.2.1 x.2.2.2.2 (by omega) hfx.2.1 (by omega)) (cwV 2 hX.ts (lw_V q1046 q1047 q1048 q70 q1049) rfl rfl rfl (by decide +kernel) ⟨Nat.le_of_ble_eq_true rfl, Nat.le_of_ble_eq_true rfl⟩) hVW rfl rfl (Nat.le_of_ble_eq_true rfl) (by first | omega | (dsimp only; omega) | (show _ ≤ _; simp only []; omega)) (by first | omega | (dsimp only; omega) | (show _ ≤ _; simp only []; omega)) rfl dX1_placeFor_37 (fun v_37 G_37 hp_37 => ?_)
    obtain ⟨rfl, e9⟩ := hp_37
    rw [e9]
    exact jr_iret hX hlk hr ⟨by unfold s_pl; rw [jbz_0 c_10]; rfl, rfl⟩ dX1_placeFor_40
  · refine jr_aload_n (i := 3) hX rfl rfl dX1_placeFor_13 ?_
    refine jr_aload_n (i := 2) hX rfl rfl dX1_placeFor_14 ?_
    refine jr_getN (ci := 6) (k := 1) hX (by first | assumption | exact jup_s) rfl in_X13 (by decide) q967 rfl dX1_placeFor_15 ?_
    refine jr_aload_n (i := 2) hX rfl rfl dX1_placeFor_18 ?_
    refine jr_getN (ci := 6) (k := 4) hX (by first | assumption | exact jup_s) rfl in_X13 (by decide) q973 rfl dX1_placeFor_19 ?_
    refine jr_callV (As := [.int (nI x.2.1), .int (nI x.2.2.2.2)]) (bc1 := (0)) (bs1 := (0)) hX (met_backPlace l D s0 b0 A _ S ad T hR (s_lo S ch.2.1 + 1) x.2.1 x.2.2.2.2 (by omega) hfx.2.1) (cwV 2 hX.ts (lw_V q1042 q1043 q1044 q70 q1045) rfl rfl rfl (by decide +kernel) ⟨Nat.le_of_ble_eq_true rfl, Nat.le_of_ble_eq_true rfl⟩) hVW rfl rfl (Nat.le_of_ble_eq_true rfl) (by first | omega | (dsimp only; omega) | (show _ ≤ _; simp only []; omega)) (by first | omega | (dsimp only; omega) | (show _ ≤ _; simp only []; omega)) rfl dX1_placeFor_22 (fun v_22 G_22 hp_22 => ?_)
    obtain ⟨rfl, e9⟩ := hp_22
    rw [e9]
    refine jr_goto hX (tgt := 40) (by decide) dX1_placeFor_25 ?_
    exact jr_iret hX hlk hr ⟨by unfold s_pl; rw [jbz_1 c_10]; rfl, rfl⟩ dX1_placeFor_40
