/-! the draft's places: the model's picture, map -/
def s_vp (d : sVer) (Q : Nat → Nat → Int32) : sVer := (d.1, d.2.1, d.2.2.1, d.2.2.2.1, Q)
/-- a place of the draft is mapped -/
def s_mp (S : sSt) (f p : Nat) (to : Int32) : sSt := s_dv S (s_vp (s_dr0 S) (sup (s_dr0 S).2.2.2.2 f (sup ((s_dr0 S).2.2.2.2 f) p to)))
theorem shM_vp {D : va_G} {s0 : State} {b0 th : Nat} {V V' : List sVer} {R : Nat × (Nat → Nat × List sFr) × List sTh × (Nat → Nat) × List sCh × List Nat × Bool × Int32 × List (Int32 × Nat) × Nat × Nat × List sIns} {ad : jN} {k i j : Nat} (h1 : V'.length = V.length) (h2 : ∀ v, (V'.getD v v0).1 = (V.getD v v0).1) (h3 : ∀ v, (V'.getD v v0).2.1 = (V.getD v v0).2.1) (h4 : ∀ v, (V'.getD v v0).2.2.1 = (V.getD v v0).2.2.1) (h5 : ∀ v, (V'.getD v v0).2.2.2.1 = (V.getD v v0).2.2.2.1) (h44 : k ≠ 44) : shM D s0 b0 th (V', R) ad k i j = shM D s0 b0 th (V, R) ad k i j := by
  obtain ⟨r1, r2, r3, r4, r5, r6, r7, r8, r9, r10, r11, r12⟩ := R
  rcases k with _ | _ | _ | _ | _ | _ | _ | _ | _ | _ | _ | _ | _ | _ | _ | _ | _ | _ | _ | _ | _ | _ | _ | _ | _ | _ | _ | _ | _ | _ | _ | _ | _ | _ | _ | _ | _ | _ | _ | _ | _ | _ | _ | _ | _ | _ | _ | _ | _ | _ | _ | k
  all_goals first | exact absurd rfl h44 | simp only [shM, s_m, s_v, s_ver, s_p, s_s, s_o, s_t, s_c, s_q, s_w, s_l, s_u, s_k, s_n, s_i, h1, h2, h3, h4, h5]
theorem mo_wpl {D : va_G} {s0 : State} {b0 th : Nat} {S : sSt} {ad : jN} {T : jT} {G : jG} (h : jMo D s0 b0 th S ad T G) (hV : 0 < (s_v S).length) (Q : Nat → Nat → Int32) : jMo D s0 b0 th (s_dv S (s_vp (s_dr0 S) Q)) ad T (jup G (ad 44 (s_m S) 0) (ji D 55 (fun q => Q (q / 11) (q % 11)))) := by
  have hm : s_m S < (s_v S).length := by show (s_v S).length - 1 < _; omega
  refine jRep.put h (k := 44) (i := s_m S) (j := 0) (s0' := .inl (ji D 55 (fun q => (s_ver S (s_m S)).2.2.2.2 (q / 11) (q % 11)))) (if_pos ⟨hm, rfl⟩) (fun s hs => ?_) (fun k' i' j' s hne hs => Or.inl ?_)
  · have hs' : (if s_m S < (s_v (s_dv S (s_vp (s_dr0 S) Q))).length ∧ 0 = 0 then some (Sum.inl (ji D 55 (fun q => (s_ver (s_dv S (s_vp (s_dr0 S) Q)) (s_m S)).2.2.2.2 (q / 11) (q % 11))) : jSh) else none) = some s := hs
    rw [dv_len, if_pos ⟨hm, rfl⟩, dv_at hV] at hs'
    exact (Option.some.inj hs').symm
  · rw [← hs]
    by_cases h44 : k' = 44
    · subst h44
      show (if i' < (s_v S).length ∧ j' = 0 then some (Sum.inl (ji D 55 (fun q => (s_ver S i').2.2.2.2 (q / 11) (q % 11))) : jSh) else none) = (if i' < (s_v (s_dv S (s_vp (s_dr0 S) Q))).length ∧ j' = 0 then some (Sum.inl (ji D 55 (fun q => (s_ver (s_dv S (s_vp (s_dr0 S) Q)) i').2.2.2.2 (q / 11) (q % 11))) : jSh) else none)
      rw [dv_len]
      by_cases hj : j' = 0
      · have hi : i' ≠ s_m S := fun z => hne ⟨rfl, z, hj⟩
        rw [dv_n hi]
      · rw [if_neg (fun z => hj z.2), if_neg (fun z => hj z.2)]
    · have key : ∀ {α : Type} (F : sVer → α), F (s_vp (s_dr0 S) Q) = F (s_dr0 S) → ∀ v, F (((s_v S).set (s_m S) (s_vp (s_dr0 S) Q)).getD v v0) = F ((s_v S).getD v v0) := fun F hF v => by
        by_cases ev : v = s_m S
        · subst ev
          have h9 := congrArg F (dv_at (S := S) (d := s_vp (s_dr0 S) Q) hV)
          exact h9.trans hF
        · exact congrArg F (dv_n (S := S) (d := s_vp (s_dr0 S) Q) ev)
      exact (shM_vp (V := s_v S) (V' := (s_v S).set (s_m S) (s_vp (s_dr0 S) Q)) (R := S.2) List.length_set (key (fun d => d.1) rfl) (key (fun d => d.2.1) rfl) (key (fun d => d.2.2.1) rfl) (key (fun d => d.2.2.2.1) rfl) h44).symm

/-- how many places are mapped -/
def s_cnm (row : Nat → Int32) (i : Nat) : Nat := (List.range i).countP (fun p => decide (row p ≠ -1))
theorem cnm_s {row : Nat → Int32} {i : Nat} : s_cnm row (i + 1) = s_cnm row i + (if row i ≠ -1 then 1 else 0) := by
  unfold s_cnm
  rw [List.range_succ, List.countP_append, List.countP_singleton]
  by_cases e : row i = -1 <;> simp [e]
theorem cnm_le {row : Nat → Int32} {i : Nat} : s_cnm row i ≤ i := Nat.le_trans List.countP_le_length (by rw [List.length_range]; exact Nat.le_refl _)

set_option maxHeartbeats 4000000 in
set_option maxRecDepth 100000 in
theorem mm_mapC (l : Launch) (D : va_G) (s0 : State) (b0 : Nat) (A : Nat → Prop) (G : jG) (S : sSt) (th : Nat) (ad : jN) (T : jT) (hR : jMo D s0 b0 th S ad T G) (hv : sWv S) (f pp : Nat) (to : Int32) (hf : f < 5) (hp : pp ≤ ((s_ver S (s_m S - 1)).1 f).length) (hto : (-1 : Int32) ≤ to ∧ to ≤ nI ((s_dr0 S).1 f).length) : jM l yX5_map (ws_ yX5_map cX5_map 6 (some .int)) (jR 5 0 0) D s0 b0 A G [.ref (ad 31 0 0), .int (nI f), .int (nI pp), .int to] (fun w G1 => w = some (.int (nI (s_cnm (sup ((s_dr0 S).2.2.2.2 f) pp to) 11))) ∧ jMo D s0 b0 0 (s_mp S f pp to) ad T G1 ∧ jFm 31 60 T G T G1) := by
  have hxx := mo_x hR
  have hvl := hv.1
  have hvu := hv.2.1
  have hmm : s_m S = (s_v S).length - 1 := rfl
  have hV9 : 0 < (s_v S).length := by omega
  have hml : s_m S < (s_v S).length := by omega
  have hR0 := mo_wth hR 0
  have hx0 := mo_x hR0
  have hV0 := mo_ver hR hml
  have hVl := mo_ver hR (v := s_m S - 1) (by omega)
  have hV1 := mo_ver hR0 hml
  have hpl := ((hv.2.2 (s_m S - 1) (by omega)).1 f hf).1
  have hin : (0 : Int32) ≤ nI f ∧ nI f ≤ 4 := ⟨nI_pos' (by omega), nI_le (b := 4) (by omega) (by omega)⟩
  have hin2 : (0 : Int32) ≤ nI pp ∧ nI pp ≤ nI ((s_ver S (s_m S - 1)).1 f).length := ⟨nI_pos' (by omega), nI_le hp (by omega)⟩
  have hto2 : (-1 : Int32) ≤ to ∧ to ≤ nI ((s_ver S (s_m S)).1 f).length := hto
  have hF0 : jFm 31 60 T G T _ := jFm.pt (T := T) (G := G) (lo := 31) (hi := 60) (c := jo 11 [.int (nI 0), .ref (ad 32 0 0), .ref (ad 37 (s_m S) 0), .int (nI (s_p S)), .ref (ad 32 1 0), .ref (ad 32 2 0), .ref (ad 34 0 0), .ref (ad 32 3 0), .ref (ad 32 4 0), .int (jbz (s_w S)), .int (s_l S), .ref (ad 32 5 0), .ref (ad 32 6 0), .long (lN (s_n S))]) (mo_t31 hR) (by decide)
  refine jM.of (by decide +kernel) (own := RX5) rfl (Nat.le_of_ble_eq_true rfl) ?_
  intro p e s m args below meth c hX hr hlk hnm
  refine jr_aload_n (i := 0) hX rfl rfl dX5_map_0 ?_
  refine jr_iload_n (i := 1) hX rfl rfl dX5_map_1 ?_
  refine jr_callS (As := [.int (nI f)]) (bc1 := (0)) (bs1 := (0)) hX (mm_isFunction l D s0 b0 A _ (nI f)) (va_cwS 1 hX.ts (lw_S q1781 q1782 q78 q1783) rfl rfl rfl (by decide +kernel) ⟨Nat.le_of_ble_eq_true rfl, Nat.le_of_ble_eq_true rfl⟩) rfl (Nat.le_of_ble_eq_true rfl) (by first | omega | (dsimp only; omega) | (show _ ≤ _; simp only []; omega)) (by first | omega | (dsimp only; omega) | (show _ ≤ _; simp only []; omega)) rfl dX5_map_2 (fun v_2 G_2 hp_2 => ?_)
  obtain ⟨rfl, e9⟩ := hp_2
  rw [e9, decide_eq_true hin]
  refine jr_if_eq hX (tgt := 44) (by decide) dX5_map_5 (fun c_5 => absurd c_5 (by decide)) (fun c_5 => ?_)
  refine jr_iload_n (i := 2) hX rfl rfl dX5_map_8 ?_
  refine jr_iconst (v := 0) hX rfl dX5_map_9 ?_
  refine jr_aload_n (i := 0) hX rfl rfl dX5_map_10 ?_
  refine jr_callV (As := []) (bc1 := (0)) (bs1 := (0)) hX (mm_latest l D s0 b0 A _ S th ad T hR (by omega) (by omega)) (cwV 0 hX.ts (lw_V q1830 q1832 qs38 q78 q1833) rfl rfl rfl (by decide +kernel) ⟨Nat.le_of_ble_eq_true rfl, Nat.le_of_ble_eq_true rfl⟩) hxx rfl rfl (Nat.le_of_ble_eq_true rfl) (by first | omega | (dsimp only; omega) | (show _ ≤ _; simp only []; omega)) (by first | omega | (dsimp only; omega) | (show _ ≤ _; simp only []; omega)) rfl dX5_map_11 (fun v_11 G_11 hp_11 => ?_)
  obtain ⟨rfl, e9⟩ := hp_11
  rw [e9]
  refine jr_iload_n (i := 1) hX rfl rfl dX5_map_14 ?_
  refine jr_callV (As := [.int (nI f)]) (bc1 := (0)) (bs1 := (0)) hX (mm_length l D s0 b0 A _ S th ad T hR (s_m S - 1) f (by omega) hf) (cwV 1 hX.ts (lw_V q1793 q1794 q1795 q79 q1796) rfl rfl rfl (by decide +kernel) ⟨Nat.le_of_ble_eq_true rfl, Nat.le_of_ble_eq_true rfl⟩) hVl rfl rfl (Nat.le_of_ble_eq_true rfl) (by first | omega | (dsimp only; omega) | (show _ ≤ _; simp only []; omega)) (by first | omega | (dsimp only; omega) | (show _ ≤ _; simp only []; omega)) rfl dX5_map_15 (fun v_15 G_15 hp_15 => ?_)
  obtain ⟨rfl, e9⟩ := hp_15
  rw [e9]
  refine jr_callS (As := [.int (nI pp), .int 0, .int (nI ((s_ver S (s_m S - 1)).1 f).length)]) (bc1 := (0)) (bs1 := (0)) hX (mm_in l D s0 b0 A _ (nI pp) (0) (nI ((s_ver S (s_m S - 1)).1 f).length)) (va_cwS 3 hX.ts (lw_S q1784 q1785 q78 q1786) rfl rfl rfl (by decide +kernel) ⟨Nat.le_of_ble_eq_true rfl, Nat.le_of_ble_eq_true rfl⟩) rfl (Nat.le_of_ble_eq_true rfl) (by first | omega | (dsimp only; omega) | (show _ ≤ _; simp only []; omega)) (by first | omega | (dsimp only; omega) | (show _ ≤ _; simp only []; omega)) rfl dX5_map_18 (fun v_18 G_18 hp_18 => ?_)
  obtain ⟨rfl, e9⟩ := hp_18
  rw [e9, decide_eq_true hin2]
  refine jr_if_eq hX (tgt := 44) (by decide) dX5_map_21 (fun c_21 => absurd c_21 (by decide)) (fun c_21 => ?_)
  refine jr_iload_n (i := 3) hX rfl rfl dX5_map_24 ?_
  refine jr_iconst (v := -1) hX rfl dX5_map_25 ?_
  refine jr_aload_n (i := 0) hX rfl rfl dX5_map_26 ?_
  refine jr_get (ci := 11) (k := 2) hX hxx rfl in_X5 (by decide) q1732 rfl dX5_map_27 ?_
  refine jr_iload_n (i := 1) hX rfl rfl dX5_map_30 ?_
  refine jr_callV (As := [.int (nI f)]) (bc1 := (0)) (bs1 := (0)) hX (mm_length l D s0 b0 A _ S th ad T hR (s_m S) f hml hf) (cwV 1 hX.ts (lw_V q1793 q1794 q1795 q79 q1796) rfl rfl rfl (by decide +kernel) ⟨Nat.le_of_ble_eq_true rfl, Nat.le_of_ble_eq_true rfl⟩) hV0 rfl rfl (Nat.le_of_ble_eq_true rfl) (by first | omega | (dsimp only; omega) | (show _ ≤ _; simp only []; omega)) (by first | omega | (dsimp only; omega) | (show _ ≤ _; simp only []; omega)) rfl dX5_map_31 (fun v_31 G_31 hp_31 => ?_)
  obtain ⟨rfl, e9⟩ := hp_31
  rw [e9]
  refine jr_callS (As := [.int to, .int (-1), .int (nI ((s_ver S (s_m S)).1 f).length)]) (bc1 := (0)) (bs1 := (0)) hX (mm_in l D s0 b0 A _ to ((-1)) (nI ((s_ver S (s_m S)).1 f).length)) (va_cwS 3 hX.ts (lw_S q1784 q1785 q78 q1786) rfl rfl rfl (by decide +kernel) ⟨Nat.le_of_ble_eq_true rfl, Nat.le_of_ble_eq_true rfl⟩) rfl (Nat.le_of_ble_eq_true rfl) (by first | omega | (dsimp only; omega) | (show _ ≤ _; simp only []; omega)) (by first | omega | (dsimp only; omega) | (show _ ≤ _; simp only []; omega)) rfl dX5_map_34 (fun v_34 G_34 hp_34 => ?_)
  obtain ⟨rfl, e9⟩ := hp_34
  rw [e9, decide_eq_true hto2]
  refine jr_if_eq hX (tgt := 44) (by decide) dX5_map_37 (fun c_37 => absurd c_37 (by decide)) (fun c_37 => ?_)
  refine jr_iconst (v := 0) hX rfl dX5_map_40 ?_
  refine jr_goto hX (tgt := 45) (by decide) dX5_map_41 ?_
  refine jr_put (ci := 11) (k := 0) hX hxx rfl in_X5 (by decide) tyX5 tyX5_ok nmX5 q1730 rfl (by first | rfl | assumption) (by first | rfl | assumption) (Nat.le_of_ble_eq_true rfl) dX5_map_45 ?_
  refine jr_aload_n (i := 0) hX rfl rfl dX5_map_48 ?_
  refine jr_get (ci := 11) (k := 0) hX hx0 rfl in_X5 (by decide) q1730 rfl dX5_map_49 ?_
  refine jr_if_le hX (tgt := 57) (by decide) dX5_map_52 (fun c_52 => ?_) (fun c_52 => absurd (by decide) c_52)
  refine jr_aload_n (i := 0) hX rfl rfl dX5_map_57 ?_
  refine jr_get (ci := 11) (k := 2) hX hx0 rfl in_X5 (by decide) q1732 rfl dX5_map_58 ?_
  refine jr_getN (ci := 12) (k := 6) hX hV1 rfl in_X6 (by decide) q1695 rfl dX5_map_61 ?_
  refine jr_bipush (v := 11) hX (by decide) dX5_map_64 ?_
  refine jr_iload_n (i := 1) hX rfl rfl dX5_map_66 ?_
  refine jr_imul hX dX5_map_67 ?_
  rw [show (11 : Int32) * nI f = nI (11 * f) from nI_mul 11 f]
  refine jr_iload_n (i := 2) hX rfl rfl dX5_map_68 ?_
  refine jr_iadd hX dX5_map_69 ?_
  rw [nI_add]
  refine jr_iload_n (i := 3) hX rfl rfl dX5_map_70 ?_
  refine jr_iast hX (mo_plc hR0 (v := s_m S) hml) (vp_in_nI (by omega) (by omega)) dX5_map_71 ?_
  rw [nI_clamp (by omega)]
  refine jr_norm (fun q => (sup (s_dr0 S).2.2.2.2 f (sup ((s_dr0 S).2.2.2.2 f) pp to)) (q / 11) (q % 11)) jup_s (fun q hq => ?_) ?_
  · unfold upd sup
    by_cases e : q = 11 * f + pp
    · rw [if_pos e, if_pos (show q / 11 = f by omega), if_pos (show q % 11 = pp by omega)]
    · rw [if_neg e]
      by_cases e2 : q / 11 = f
      · rw [if_pos e2, if_neg (show ¬ q % 11 = pp by omega), ← e2]; rfl
      · rw [if_neg e2]; rfl
  rw [jup_jup]
  have hR2' := mo_wpl hR0 hV9 (sup (s_dr0 S).2.2.2.2 f (sup ((s_dr0 S).2.2.2.2 f) pp to))
  have hF2' := hF0.trans (jFm.pt (T := T) (lo := 31) (hi := 60) (c := ji D 55 (fun q => (sup (s_dr0 S).2.2.2.2 f (sup ((s_dr0 S).2.2.2.2 f) pp to)) (q / 11) (q % 11))) (hR0.t (k := 44) (i := s_m S) (j := 0) (if_pos ⟨hml, rfl⟩)) (by decide))
  refine jr_Gof rfl (fun Gz hGz => ?_)
  have hR2 : jMo D s0 b0 0 (s_mp S f pp to) ad T Gz := by rw [hGz]; exact hR2'
  have hF2 : jFm 31 60 T G T Gz := by rw [hGz]; exact hF2'
  have hPl : Gz (ad 44 (s_m S) 0) = some (ji D 55 (fun q => (sup (s_dr0 S).2.2.2.2 f (sup ((s_dr0 S).2.2.2.2 f) pp to)) (q / 11) (q % 11))) := by rw [hGz, jup_s]
  have hm2 : s_m (s_mp S f pp to) = s_m S := by show (List.set _ _ _).length - 1 = _; rw [List.length_set]
  have hx2 := mo_x hR2
  rw [hm2] at hx2
  have hV2 := mo_ver hR2 (v := s_m S) (by show s_m S < (List.set _ _ _).length; rw [List.length_set]; exact hml)
  refine jr_iconst (v := 0) hX rfl dX5_map_72 ?_
  refine jr_istore hX (by decide) rfl dX5_map_73 ?_
  refine jr_iconst (v := 0) hX rfl dX5_map_75 ?_
  refine jr_istore hX (by decide) rfl dX5_map_76 ?_
  have loop : ∀ (n9 : Nat) (i : Nat), 11 - i = n9 → i ≤ 11 → Jg p l e (jR 5 0 0) s m args below meth c (MQ below (jQ D A (fun w G1 => w = some (.int (nI (s_cnm (sup ((s_dr0 S).2.2.2.2 f) pp to) 11))) ∧ jMo D s0 b0 0 (s_mp S f pp to) ad T G1 ∧ jFm 31 60 T G T G1)) args s 0 0 A) D A 6 Gz 0 0 78 [(4, .int (nI (s_cnm (sup ((s_dr0 S).2.2.2.2 f) pp to) i))), (5, .int (nI i)), (1, .int (nI f)), (0, .ref (ad 31 0 0))] [] := by
    intro n9
    induction n9 using Nat.strongRecOn with
    | ind n9 ih0 =>
    intro i hn9 hil
    have ih : ∀ m9, m9 < n9 → ∀ (i : Nat), 11 - i = m9 → i ≤ 11 → Jg p l e (jR 5 0 0) s m args below meth c (MQ below (jQ D A (fun w G1 => w = some (.int (nI (s_cnm (sup ((s_dr0 S).2.2.2.2 f) pp to) 11))) ∧ jMo D s0 b0 0 (s_mp S f pp to) ad T G1 ∧ jFm 31 60 T G T G1)) args s 0 0 A) D A 6 Gz 0 0 78 [(4, .int (nI (s_cnm (sup ((s_dr0 S).2.2.2.2 f) pp to) i))), (5, .int (nI i)), (1, .int (nI f)), (0, .ref (ad 31 0 0))] [] := fun m9 hm => ih0 m9 hm
    refine jr_iload hX rfl dX5_map_78 ?_
    refine jr_bipush (v := 11) hX (by decide) dX5_map_80 ?_
    refine jr_icmp_ge hX (tgt := 120) (by decide) dX5_map_82 (fun c_82 => ?_) (fun c_82 => ?_)
    · have hi11 : 11 ≤ i := Nat.not_lt.mp fun z => absurd c_82 (nI_ge (b := 11) z (by omega))
      rw [show i = 11 by omega]
      refine jr_iload hX rfl dX5_map_120 ?_
      exact jr_iret hX hlk hr ⟨rfl, hR2, hF2⟩ dX5_map_122
    · have hi11 : i < 11 := Nat.not_le.mp fun z => c_82 (nI_le (a := 11) z (by omega))
      refine jr_iload hX rfl dX5_map_85 ?_
      refine jr_aload_n (i := 0) hX rfl rfl dX5_map_87 ?_
      refine jr_get (ci := 11) (k := 2) hX hx2 rfl in_X5 (by decide) q1732 rfl dX5_map_88 ?_
      refine jr_getN (ci := 12) (k := 6) hX hV2 rfl in_X6 (by decide) q1695 rfl dX5_map_91 ?_
      refine jr_bipush (v := 11) hX (by decide) dX5_map_94 ?_
      refine jr_iload_n (i := 1) hX rfl rfl dX5_map_96 ?_
      refine jr_imul hX dX5_map_97 ?_
      rw [show (11 : Int32) * nI f = nI (11 * f) from nI_mul 11 f]
      refine jr_iload hX rfl dX5_map_98 ?_
      refine jr_iadd hX dX5_map_100 ?_
      rw [nI_add]
      refine jr_iald hX hPl (vp_in_nI (by omega) (by omega)) dX5_map_101 ?_
      rw [nI_clamp (by omega), show (11 * f + i) / 11 = f by omega, show (11 * f + i) % 11 = i by omega, show (sup (s_dr0 S).2.2.2.2 f (sup ((s_dr0 S).2.2.2.2 f) pp to)) f i = (sup ((s_dr0 S).2.2.2.2 f) pp to) i from by rw [sup_s]]
      refine jr_iconst (v := -1) hX rfl dX5_map_102 ?_
      refine jr_icmp_eq hX (tgt := 110) (by decide) dX5_map_103 (fun c_103 => ?_) (fun c_103 => ?_)
      · refine jr_iconst (v := 0) hX rfl dX5_map_110 ?_
        refine jr_iadd hX dX5_map_111 ?_
        rw [Int32.add_zero, show s_cnm (sup ((s_dr0 S).2.2.2.2 f) pp to) i = s_cnm (sup ((s_dr0 S).2.2.2.2 f) pp to) (i + 1) from by rw [cnm_s, if_neg (fun z => z c_103)]; rfl]
        refine jr_istore hX (by decide) rfl dX5_map_112 ?_
        refine jr_iinc (w := 1) hX rfl rfl (by decide) rfl dX5_map_114 ?_
        rw [show nI i + 1 = nI (i + 1) from nI_1 i]
        refine jr_goto hX (tgt := 78) (by decide) dX5_map_117 ?_
        refine jr_lvm [(4, .int (nI (s_cnm (sup ((s_dr0 S).2.2.2.2 f) pp to)  (i + 1)))), (5, .int (nI  (i + 1))), (1, .int (nI f)), (0, .ref (ad 31 0 0))] rfl ?_
        exact ih _ (by omega) (i + 1) rfl (by omega)
      · refine jr_iconst (v := 1) hX rfl dX5_map_106 ?_
        refine jr_goto hX (tgt := 111) (by decide) dX5_map_107 ?_
        refine jr_iadd hX dX5_map_111 ?_
        rw [nI_1, show s_cnm (sup ((s_dr0 S).2.2.2.2 f) pp to) i + 1 = s_cnm (sup ((s_dr0 S).2.2.2.2 f) pp to) (i + 1) from by rw [cnm_s, if_pos c_103]]
        refine jr_istore hX (by decide) rfl dX5_map_112 ?_
        refine jr_iinc (w := 1) hX rfl rfl (by decide) rfl dX5_map_114 ?_
        rw [show nI i + 1 = nI (i + 1) from nI_1 i]
        refine jr_goto hX (tgt := 78) (by decide) dX5_map_117 ?_
        refine jr_lvm [(4, .int (nI (s_cnm (sup ((s_dr0 S).2.2.2.2 f) pp to)  (i + 1)))), (5, .int (nI  (i + 1))), (1, .int (nI f)), (0, .ref (ad 31 0 0))] rfl ?_
        exact ih _ (by omega) (i + 1) rfl (by omega)
  refine jr_lvm [(4, .int (nI (s_cnm (sup ((s_dr0 S).2.2.2.2 f) pp to) 0))), (5, .int (nI 0)), (1, .int (nI f)), (0, .ref (ad 31 0 0))] rfl ?_
  exact loop _ 0 rfl (Nat.zero_le _)
