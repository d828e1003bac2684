/-! frames made -/
set_option maxHeartbeats 4000000 in
set_option maxRecDepth 100000 in
theorem met_VerInit_f (l : Launch) (D : va_G) (s0 : State) (b0 : Nat) (A : Nat → Prop) (G : jG) (a : Nat) (v v0 : Int32) (x1 x2 x3 x4 : Value) (ha : G a = some (jo 6 [.int v0, x1, x2, x3, x4])) : jM l yX12_init (ws_ yX12_init cX12_init 2 none) (jR 1 0 0) D s0 b0 A G [.ref a, .int v] (fun w G1 => w = none ∧ G1 = jup G a (jo 6 [.int v, x1, x2, x3, x4])) := by
  refine jM.of (by decide +kernel) (own := RX12) rfl (Nat.le_of_ble_eq_true rfl) ?_
  intro p e s m args below meth c hX hr hlk hnm
  refine jr_aload_n (i := 0) hX rfl rfl dX12_init_0 ?_
  refine jr_oinit hX q965 q118 q119 (Nat.le_of_ble_eq_true rfl) (Nat.le_of_ble_eq_true rfl) dX12_init_1 ?_
  refine jr_aload_n (i := 0) hX rfl rfl dX12_init_4 ?_
  refine jr_iload_n (i := 1) hX rfl rfl dX12_init_5 ?_
  first | (refine jr_put (ci := 6) (k := 0) hX (by first | assumption | exact jup_s) rfl in_X13 (by decide) tyX13 tyX13_ok nmX13 q974 rfl (by first | rfl | assumption) (by first | rfl | assumption) (Nat.le_of_ble_eq_true rfl) dX12_init_6 ?_) | (refine jr_put (ci := 7) (k := 0) hX (by first | assumption | exact jup_s) rfl in_X15 (by decide) tyX15 tyX15_ok nmX15 q974 rfl (by first | rfl | assumption) (by first | rfl | assumption) (Nat.le_of_ble_eq_true rfl) dX12_init_6 ?_)
  exact jr_vret hX hlk hr ⟨rfl, rfl⟩ dX12_init_9

set_option maxHeartbeats 4000000 in
set_option maxRecDepth 100000 in
theorem met_FrInit (l : Launch) (D : va_G) (s0 : State) (b0 : Nat) (A : Nat → Prop) (G : jG) (n : Nat) (v fn arg into : Int32) (hn : G n = some (jo 6 [.int 0, .int 0, .int 0, .null, .int 0])) : jM l yX13_init (ws_ yX13_init cX13_init 5 none) (jR 2 1 4) D s0 b0 A G [.ref n, .int v, .int fn, .int arg, .int into] (fun w G1 => w = none ∧ ∃ q, G q = none ∧ A q ∧ q ≠ n ∧ G1 n = some (jo 6 [.int v, .int fn, .int into, .ref q, .int 0]) ∧ G1 q = some (ji D 4 (upd (fun _ => 0) 0 arg)) ∧ ∀ b, b ≠ n → b ≠ q → G1 b = G b) := by
  refine jM.of (by decide +kernel) (own := RX13) rfl (Nat.le_of_ble_eq_true rfl) ?_
  intro p e s m args below meth c hX hr hlk hnm
  refine jr_aload_n (i := 0) hX rfl rfl dX13_init_0 ?_
  refine jr_iload_n (i := 1) hX rfl rfl dX13_init_1 ?_
  refine jr_callI (ret := none) (As := [.int v]) (bc1 := (1)) (bs1 := (4)) hX (met_VerInit_f l D s0 b0 A _ n v 0 _ _ _ _ hn) (cwI 1 hX.ts (lw_meth q964) rfl rfl rfl (hX.ts _ q98) (hX.ts _ q962) (hX.ts _ q963) rfl (by decide +kernel) ⟨Nat.le_of_ble_eq_true rfl, Nat.le_of_ble_eq_true rfl⟩) rfl (Nat.le_of_ble_eq_true rfl) (by first | omega | (dsimp only; omega) | (show _ ≤ _; simp only []; omega)) (by first | omega | (dsimp only; omega) | (show _ ≤ _; simp only []; omega)) rfl dX13_init_2 (fun v_2 G_2 hp_2 => ?_)
  obtain ⟨rfl, e9⟩ := hp_2
  rw [e9]
  refine jr_aload_n (i := 0) hX rfl rfl dX13_init_5 ?_
  refine jr_iconst (v := 4) hX rfl dX13_init_6 ?_
  refine jr_newi (N := 4) (bc1 := 0) (bs1 := 0) hX q295 (by decide) (by decide) (by omega) (by omega) (by omega) dX13_init_7 (fun q hq hqA => ?_)
  refine jr_putF (ci := 6) (k := 3) hX (jup_f jup_s hq) rfl in_X13 (by decide) tyX13 tyX13_ok nmX13 q970 rfl hnm rfl (by first | rfl | assumption) (by first | rfl | assumption) (Nat.le_of_ble_eq_true rfl) dX13_init_9 ?_
  refine jr_aload_n (i := 0) hX rfl rfl dX13_init_12 ?_
  refine jr_iload_n (i := 2) hX rfl rfl dX13_init_13 ?_
  refine jr_putF (ci := 6) (k := 1) hX jup_s rfl in_X13 (by decide) tyX13 tyX13_ok nmX13 q966 rfl hnm rfl (by first | rfl | assumption) (by first | rfl | assumption) (Nat.le_of_ble_eq_true rfl) dX13_init_14 ?_
  rw [jup_jup]
  refine jr_aload_n (i := 0) hX rfl rfl dX13_init_17 ?_
  refine jr_iload hX rfl dX13_init_18 ?_
  refine jr_putF (ci := 6) (k := 2) hX jup_s rfl in_X13 (by decide) tyX13 tyX13_ok nmX13 q968 rfl hnm rfl (by first | rfl | assumption) (by first | rfl | assumption) (Nat.le_of_ble_eq_true rfl) dX13_init_20 ?_
  rw [jup_jup]
  refine jr_aload_n (i := 0) hX rfl rfl dX13_init_23 ?_
  refine jr_get (ci := 6) (k := 3) hX jup_s rfl in_X13 (by decide) q970 rfl dX13_init_24 ?_
  refine jr_iconst (v := 0) hX rfl dX13_init_27 ?_
  refine jr_iload_n (i := 3) hX rfl rfl dX13_init_28 ?_
  refine jr_iast hX (jup_o jup_s (jup_f jup_s hq) (by simp)) (vp_in_nI (n := 0) (by omega) (by omega)) dX13_init_29 ?_
  have hqn : q ≠ n := fun z => by rw [z, jup_s] at hq; cases hq
  have hq0 : G q = none := by rw [jup_n hqn] at hq; exact hq
  exact jr_vret hX hlk hr ⟨rfl, q, hq0, hqA, hqn, by rw [jup_n (Ne.symm hqn), jup_s]; rfl, jup_s, fun b z1 z2 => by rw [jup_n z2, jup_n z1, jup_n z2, jup_n z1]⟩ dX13_init_30

/-- a frame's cells get their roles -/
theorem co_ad89 {D : va_G} {s0 : State} {b0 : Nat} {S : sSt} {ad : jN} {T : jT} {G : jG} {i n q : Nat} (h : jCo D s0 b0 S ad T G) (hi : i < 3) (hn : (T n).1 = 0) (hq : (T q).1 = 0) (hqn : q ≠ n) (h1 : G n ≠ none) (h2 : G q ≠ none) (h3 : n ≠ jEE s0 b0) (h4 : q ≠ jEE s0 b0) :
    jCo D s0 b0 S (jas (jas ad 8 i (s_s S i).2.length n) 9 i (s_s S i).2.length q) (jTs (jTs T n 8 i (s_s S i).2.length) q 9 i (s_s S i).2.length) G := by
  have g1 := h.ado hn h1 h3 8 i (s_s S i).2.length
  have g2 := g1.ado (a := q) (by rw [jTs_n hqn]; exact hq) h2 h4 9 i (s_s S i).2.length
  refine g2.sub fun k' i' j' s hs => ?_
  have hnone : ∀ {α : Type} (f : sFr → α), (if i < 3 then Option.map f ((s_s S i).2[(s_s S i).2.length]?) else none) = none := fun f => by
    rw [if_pos hi, List.getElem?_eq_none (Nat.le_refl _)]; rfl
  by_cases h9 : k' = 9 ∧ i' = i ∧ j' = (s_s S i).2.length
  · obtain ⟨rfl, rfl, rfl⟩ := h9
    exact absurd hs (by
      show (if i' < 3 then Option.map _ ((s_s S i').2[(s_s S i').2.length]?) else none) ≠ some s
      rw [hnone]; simp)
  by_cases h8 : k' = 8 ∧ i' = i ∧ j' = (s_s S i).2.length
  · obtain ⟨rfl, rfl, rfl⟩ := h8
    exact absurd hs (by
      show (if i' < 3 then Option.map _ ((s_s S i').2[(s_s S i').2.length]?) else none) ≠ some s
      rw [hnone]; simp)
  show (if _ then _ else (if _ then _ else _)) = _
  rw [if_neg h9, if_neg h8, ← hs]
  by_cases e8 : k' = 8
  · subst e8
    show (if i' < 3 then Option.map (fun f : sFr => (Sum.inl (jo 6 [.int (nI f.1), .int (nI f.2.1), .int (nI f.2.2.1), .ref (ad 9 i' j'), .int (nI f.2.2.2.2)]) : jSh)) ((s_s S i').2[j']?) else none) = (if i' < 3 then Option.map (fun f : sFr => (Sum.inl (jo 6 [.int (nI f.1), .int (nI f.2.1), .int (nI f.2.2.1), .ref (jas (jas ad 8 i (s_s S i).2.length n) 9 i (s_s S i).2.length q 9 i' j'), .int (nI f.2.2.2.2)]) : jSh)) ((s_s S i').2[j']?) else none)
    rw [jas_n (fun z => h8 ⟨rfl, z.2⟩), jas_n (fun z => by omega)]
  · rw [shC_a9 e8]
    by_cases e6 : k' = 6
    · subst e6
      show (if i' < 3 ∧ j' = 0 then some (Sum.inr (s_rg (s_s S i').2.length (fun q => ad 8 i' q), 0, 200) : jSh) else none) = (if i' < 3 ∧ j' = 0 then some (Sum.inr (s_rg (s_s S i').2.length (fun q => jas ad 8 i (s_s S i).2.length n 8 i' q), 0, 200) : jSh) else none)
      have e : s_rg (s_s S i').2.length (fun q => jas ad 8 i (s_s S i).2.length n 8 i' q) = s_rg (s_s S i').2.length (fun q => ad 8 i' q) := List.map_congr_left fun q hq => jas_n fun z => by
        obtain ⟨-, z1, z2⟩ := z
        have := List.mem_range.mp hq
        rw [z1] at this
        omega
      rw [e]
    · exact (shC_a8 e6).symm
def s_cal (S : sSt) (i fn : Nat) (arg : Int32) (into : Nat) : sSt := if (s_s S i).2.length = 8 then s_end S i 102 else sw_s S (sup (s_s S) i ((s_s S i).1, (s_s S i).2 ++ [(s_p S, fn, into, upd (fun _ => 0) 0 arg, 0)]))
theorem rg_ap {n : Nat} {f g : Nat → Nat} (h : ∀ q, q < n → g q = f q) : s_rg n f ++ [g n] = s_rg (n + 1) g := by
  unfold s_rg
  rw [List.range_succ, List.map_append]
  congr 1
  exact List.map_congr_left fun q hq => (h q (List.mem_range.mp hq)).symm

set_option maxHeartbeats 4000000 in
set_option maxRecDepth 100000 in
theorem met_callC (l : Launch) (D : va_G) (s0 : State) (b0 : Nat) (A : Nat → Prop) (G : jG) (S : sSt) (ad : jN) (T : jT) (hR : jCo D s0 b0 S ad T G) (hs : sWs S) (i : Nat) (hi3 : i < 3) (fn : Nat) (arg : Int32) (into : Nat) : jM l yX1_call (ws_ yX1_call cX1_call 5 none) (jR 7 3 19) D s0 b0 A G [.ref (ad 1 0 0), .ref (ad 5 i 0), .int (nI fn), .int arg, .int (nI into)] (fun w G1 => w = none ∧ ∃ (ad1 : jN) (T1 : jT), jCo D s0 b0 (s_cal S i fn arg into) ad1 T1 G1 ∧ jFm 1 30 T G T1 G1 ∧ ∀ k i' j', ¬ ((k = 8 ∨ k = 9) ∧ i' = i ∧ j' = (s_s S i).2.length) → ad1 k i' j' = ad k i' j') := by
  have hxx := co_x hR
  have hst := co_str hR hi3
  obtain ⟨moF, capF, eaF, hFL, -, hFc, hFt⟩ := co_frl hR hi3
  obtain ⟨hs1, hs2, hs3⟩ := hs i hi3
  refine jM.of (by decide +kernel) (own := RX1) rfl (Nat.le_of_ble_eq_true rfl) ?_
  intro p e s m args below meth c hX hr hlk hnm
  refine jr_aload_n (i := 1) hX rfl rfl dX1_call_0 ?_
  refine jr_getN (ci := 3) (k := 0) hX (by first | assumption | exact jup_s) rfl in_X2 (by decide) q159 rfl dX1_call_1 ?_
  refine jr_callF (As := []) (bc1 := (3)) (bs1 := (19)) hX (met_size l D s0 b0 A _ (ad 6 i 0) (s_rg (s_s S i).2.length (fun q => ad 8 i q)) moF capF eaF hFL) (va_cwF 0 hX.ts (lw_F q405 q408 q410 q68 q412) rfl rfl rfl (hX.S.fw ⟨by decide +kernel, by decide +kernel⟩ q407 q406 q411 q409 q183) (by decide +kernel) ⟨Nat.le_of_ble_eq_true rfl, Nat.le_of_ble_eq_true rfl⟩) hFL.1 rfl rfl (Nat.le_of_ble_eq_true rfl) (by first | omega | (dsimp only; omega) | (show _ ≤ _; simp only []; omega)) (by first | omega | (dsimp only; omega) | (show _ ≤ _; simp only []; omega)) rfl dX1_call_4 (fun v_4 G_4 hp_4 => ?_)
  obtain ⟨rfl, e9⟩ := hp_4
  rw [e9, rg_len]
  refine jr_bipush (v := 8) hX (by decide) dX1_call_9 ?_
  refine jr_icmp_ne hX (tgt := 23) (by decide) dX1_call_11 (fun c_11 => ?_) (fun c_11 => ?_)
  · have h8 : (s_s S i).2.length ≠ 8 := fun z => c_11 (by rw [z]; rfl)
    refine jr_aload_n (i := 1) hX rfl rfl dX1_call_23 ?_
    refine jr_getN (ci := 3) (k := 0) hX (by first | assumption | exact jup_s) rfl in_X2 (by decide) q159 rfl dX1_call_24 ?_
    refine jr_ee hX (fun hE0 => ?_)
    refine jr_new (ci := 6) (fs := [.int 0, .int 0, .int 0, .null, .int 0]) (bc1 := 2) (bs1 := 14) hX in_X13 tyX13 tyX13_ok q957 q958 q99 rfl (by decide) (by omega) (by omega) dX1_call_27 (fun n_27 hn_27 hA_27 => ?_)
    refine jr_dup hX rfl dX1_call_30 ?_
    refine jr_aload_n (i := 0) hX rfl rfl dX1_call_31 ?_
    refine jr_get (ci := 2) (k := 8) hX (jup_f hxx hn_27) rfl in_X1 (by decide) q371 rfl dX1_call_32 ?_
    refine jr_iload_n (i := 2) hX rfl rfl dX1_call_35 ?_
    refine jr_iload_n (i := 3) hX rfl rfl dX1_call_36 ?_
    refine jr_iload hX rfl dX1_call_37 ?_
    refine jr_callI (ret := none) (As := [.int (nI (s_p S)), .int (nI fn), .int arg, .int (nI into)]) (bc1 := (1)) (bs1 := (10)) hX (met_FrInit l D s0 b0 A _ n_27 (nI (s_p S)) (nI fn) arg (nI into) jup_s) (cwI 4 hX.ts (lw_meth q961) rfl rfl rfl (hX.ts _ q99) (hX.ts _ q959) (hX.ts _ q960) rfl (by decide +kernel) ⟨Nat.le_of_ble_eq_true rfl, Nat.le_of_ble_eq_true rfl⟩) rfl (Nat.le_of_ble_eq_true rfl) (by first | omega | (dsimp only; omega) | (show _ ≤ _; simp only []; omega)) (by first | omega | (dsimp only; omega) | (show _ ≤ _; simp only []; omega)) rfl dX1_call_39 (fun v_39 G_39 hp_39 => ?_)
    obtain ⟨rfl, q, hq, hqA, hqn, hgn, hgq, hgo⟩ := hp_39
    have hq0 : G q = none := by rw [jup_n hqn] at hq; exact hq
    have hnw : jNw G G_39 := fun b x hb => by
      have z1 : b ≠ n_27 := fun z => by rw [z, hn_27] at hb; cases hb
      have z2 : b ≠ q := fun z => by rw [z, hq0] at hb; cases hb
      rw [hgo b z1 z2, jup_n z1]; exact hb
    have hR1 := co_ad89 (n := n_27) (q := q) (jRep.nw hR hnw) hi3 (hR.un hn_27) (hR.un hq0) hqn (by rw [hgn]; simp) (by rw [hgq]; simp) (hX.ee hA_27) (hX.ee hqA)
    have hFL1 := hnw.jLS hFL
    refine jr_callF (As := [.ref n_27]) (bc1 := (0)) (bs1 := (0)) hX (met_add l D s0 b0 A _ (ad 6 i 0) (s_rg (s_s S i).2.length (fun q => ad 8 i q)) moF capF eaF hFL1 (ob_fr (jRep.nw hR hnw) hi3) n_27 (ob_o hgn (r := (RX13, TX13, 5)) rfl q2235) 1 10 (by omega) (fun hz => ⟨by omega, by rw [rg_len] at hz; have h9 := hFL.2.2.2; unfold jgw; split <;> omega⟩)) (va_cwF 1 hX.ts (lw_F q297 q184 q186 q68 q188) rfl rfl rfl (hX.S.fw ⟨by decide +kernel, by decide +kernel⟩ q182 q181 q187 q185 q183) (by decide +kernel) ⟨Nat.le_of_ble_eq_true rfl, Nat.le_of_ble_eq_true rfl⟩) hFL1.1 rfl rfl (Nat.le_of_ble_eq_true rfl) (by first | omega | (dsimp only; omega) | (show _ ≤ _; simp only []; omega)) (by first | omega | (dsimp only; omega) | (show _ ≤ _; simp only []; omega)) rfl dX1_call_42 (fun v_42 G_42 hp_42 => ?_)
    obtain ⟨rfl, hU⟩ := hp_42
    refine jr_ee hX (fun hE1 => ?_)
    have hlast : jas (jas ad 8 i (s_s S i).2.length n_27) 9 i (s_s S i).2.length q 8 i (s_s S i).2.length = n_27 := by rw [jas_n (fun z => by omega), jas_s]
    rw [show s_rg (s_s S i).2.length (fun q => ad 8 i q) ++ [n_27] = s_rg ((s_s S i).2 ++ [(s_p S, fn, into, upd (fun _ => 0) 0 arg, 0)]).length (fun j => (jas (jas ad 8 i (s_s S i).2.length n_27) 9 i (s_s S i).2.length q) 8 i j) by
      rw [List.length_append, List.length_singleton, ← rg_ap (f := fun q => ad 8 i q) (fun q9 hq9 => by rw [jas_n (fun z => by omega), jas_n (fun z => by omega)]), hlast]] at hU
    have hE01 : G_39 (jEE s0 b0) = none := by
      rw [hgo _ (fun z => hX.ee hA_27 z.symm) (fun z => hX.ee hqA z.symm), jup_n (fun z => hX.ee hA_27 z.symm)]
      exact hE0
    have hcap1 : (if (s_rg (s_s S i).2.length (fun q => ad 8 i q)).length = capF then jgw capF (capF + 1) else capF) ≤ 200 := by
      rw [rg_len]
      have h9 := hFL.2.2.2
      split
      · unfold jgw; split <;> omega
      · exact hFc
    obtain ⟨T2, hR2, hfm2⟩ := co_frs (fs := (s_s S i).2 ++ [(s_p S, fn, into, upd (fun _ => 0) 0 arg, 0)]) hR1 hi3 hE1 (mo := moF) (cap := capF) (ea := eaF) (by
        rw [show s_rg (s_s S i).2.length (fun q9 => (jas (jas ad 8 i (s_s S i).2.length n_27) 9 i (s_s S i).2.length q) 8 i q9) = s_rg (s_s S i).2.length (fun q => ad 8 i q) from List.map_congr_left fun q9 hq9 => by
          have := List.mem_range.mp hq9
          rw [jas_n (fun z => by omega), jas_n (fun z => by omega)]]
        exact hFL1) (fun hc9 => by
        have ht := hFt hc9
        rw [jTs_n, jTs_n]
        · exact ht
        · intro z; rw [z, hR.un hn_27 |> fun h => (by rfl : T n_27 = T n_27)] at ht; have := hR.un hn_27; rw [ht] at this; cases this
        · intro z; rw [z] at ht; have := hR.un hq0; rw [ht] at this; cases this) hU hcap1 (fun j x hx => by
        by_cases hj : j < (s_s S i).2.length
        · rw [List.getElem?_append_left hj] at hx; exact Or.inl hx
        · have hjl := lt_ofl hx
          rw [List.length_append, List.length_singleton] at hjl
          have ej : j = (s_s S i).2.length := by omega
          subst ej
          rw [List.getElem?_append_right (Nat.le_refl _), Nat.sub_self] at hx
          have ex := Option.some.inj hx
          subst ex
          rw [hlast, jas_s]
          exact Or.inr ⟨by rw [jTs_n (Ne.symm hqn), jTs_s], hgn, jTs_s, hgq⟩)
    refine jr_pop hX rfl dX1_call_47 ?_
    exact jr_vret hX hlk hr ⟨rfl, _, T2, by unfold s_cal; rw [if_neg h8]; exact hR2, (fun b hb hk => by
      have z1 : b ≠ n_27 := fun z => hb (by rw [z]; exact hn_27)
      have z2 : b ≠ q := fun z => hb (by rw [z]; exact hq0)
      have hb1 : G_39 b ≠ none := by rw [hgo b z1 z2, jup_n z1]; exact hb
      have h9 := co_fm (by omega) hE01 hfm2 b hb1 (by rw [jTs_n z2, jTs_n z1]; exact hk)
      rw [jTs_n z2, jTs_n z1, hgo b z1 z2, jup_n z1] at h9
      exact h9), fun k9 i9 j9 hk => by
      rw [jas_n (fun z => hk ⟨Or.inr z.1, z.2⟩), jas_n (fun z => hk ⟨Or.inl z.1, z.2⟩)]⟩ dX1_call_48
  · refine jr_aload_n (i := 1) hX rfl rfl dX1_call_14 ?_
    refine jr_bipush (v := 102) hX (by decide) dX1_call_15 ?_
    have h8 : (s_s S i).2.length = 8 := (nI_eq (by omega) (by omega)).mp c_11
    refine jr_callV (As := [.int 102]) (bc1 := (3)) (bs1 := (19)) hX (met_send l D s0 b0 A _ S ad T hR i hi3 102 (by omega)) (cwV 1 hX.ts (lw_V q951 q952 q953 q69 q954) rfl rfl rfl (by decide +kernel) ⟨Nat.le_of_ble_eq_true rfl, Nat.le_of_ble_eq_true rfl⟩) hst rfl rfl (Nat.le_of_ble_eq_true rfl) (by first | omega | (dsimp only; omega) | (show _ ≤ _; simp only []; omega)) (by first | omega | (dsimp only; omega) | (show _ ≤ _; simp only []; omega)) rfl dX1_call_17 (fun v_17 G_17 hp_17 => ?_)
    obtain ⟨rfl, T1, hR1, hfm⟩ := hp_17
    refine jr_goto hX (tgt := 48) (by decide) dX1_call_20 ?_
    exact jr_vret hX hlk hr ⟨rfl, ad, T1, by unfold s_cal; rw [if_pos h8]; exact hR1, hfm, fun _ _ _ _ => rfl⟩ dX1_call_48
