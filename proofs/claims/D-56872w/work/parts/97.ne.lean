/-! the model's add, empty -/
theorem mo_ad50 {D : va_G} {s0 : State} {b0 th : Nat} {S : sSt} {ad : jN} {T : jT} {G : jG} {n : Nat} (hv : sWv S) (h : jMo D s0 b0 th S ad T G) (hn : (T n).1 = 0) (h1 : G n ≠ none) (h3 : n ≠ jEE s0 b0) :
    jMo D s0 b0 th S (jas ad 50 (s_i S).length 0 n) (jTs T n 50 (s_i S).length 0) G := by
  refine (h.ado hn h1 h3 50 (s_i S).length 0).sub fun k' i' j' s hs => ?_
  by_cases h8 : k' = 50 ∧ i' = (s_i S).length ∧ j' = 0
  · obtain ⟨rfl, rfl, rfl⟩ := h8
    exact absurd hs (by
      show (if 0 = 0 then Option.map _ ((s_i S)[(s_i S).length]?) else none) ≠ some s
      rw [if_pos rfl, List.getElem?_eq_none (Nat.le_refl _)]; simp)
  show (if _ then _ else _) = _
  rw [if_neg h8, ← hs]
  by_cases e6 : k' = 41
  · subst e6
    show (if i' < (s_v S).length ∧ j' < 5 then some (Sum.inr (((s_ver S i').1 j').map (fun q => ad 50 q 0), 0, 200) : jSh) else none) = (if i' < (s_v S).length ∧ j' < 5 then some (Sum.inr (((s_ver S i').1 j').map (fun q => jas ad 50 (s_i S).length 0 n 50 q 0), 0, 200) : jSh) else none)
    by_cases hc : i' < (s_v S).length ∧ j' < 5
    · rw [if_pos hc, if_pos hc]
      have e : ((s_ver S i').1 j').map (fun q => jas ad 50 (s_i S).length 0 n 50 q 0) = ((s_ver S i').1 j').map (fun q => ad 50 q 0) := List.map_congr_left fun q hq => jas_n fun z => by
        have := ((hv.2.2 i' hc.1).1 j' hc.2).2 q hq
        omega
      rw [e]
    · rw [if_neg hc, if_neg hc]
  · exact (shM_a50 e6).symm
theorem ob_cdM {D : va_G} {s0 : State} {b0 th : Nat} {S : sSt} {ad : jN} {T : jT} {G : jG} (hv : sWv S) (h : jMo D s0 b0 th S ad T G) {v f : Nat} (hvl : v < (s_v S).length) (hf : f < 5) : ∀ y ∈ ((s_ver S v).1 f).map (fun q => ad 50 q 0), jOb s0 b0 D G y := fun y hy => by
  obtain ⟨q, hq, rfl⟩ := List.mem_map.mp hy
  exact ob_o (mo_cd h (((hv.2.2 v hvl).1 f hf).2 q hq)) (r := (RX11, TX11, 4)) rfl q2230
theorem add_f {S : sSt} {f : Nat} {I : sIns} (h : 0 < (s_v S).length) : (s_ver (s_add S f I) (s_m S)).1 f = (s_dr0 S).1 f ++ [(s_i S).length] := by
  unfold s_add
  rw [show s_ver (s_dv (sw_i S (s_i S ++ [I])) (s_vf (s_dr0 S) f ((s_dr0 S).1 f ++ [(s_i S).length]))) (s_m S) = _ from dv_at (S := sw_i S (s_i S ++ [I])) h]
  exact sup_s

set_option maxHeartbeats 4000000 in
set_option maxRecDepth 100000 in
theorem mm_addC (l : Launch) (D : va_G) (s0 : State) (b0 : Nat) (A : Nat → Prop) (G : jG) (S : sSt) (th : Nat) (ad : jN) (T : jT) (hR : jMo D s0 b0 th S ad T G) (hv : sWv S) (f : Nat) (hf : f < 5) (q : Nat) (hq : q < 12) (a b c9 : Int32) (hok : s_okc q a b c9 = true) (hl10 : ((s_dr0 S).1 f).length < 10) : jM l yX5_add (ws_ yX5_add cX5_add 6 (some .int)) (jR 7 2 14) D s0 b0 A G [.ref (ad 31 0 0), .int (nI f), .int (jCL.getD q 0), .int a, .int b, .int c9] (fun w G1 => w = some (.int (nI (((s_dr0 S).1 f).length + 1))) ∧ ∃ (ad1 : jN) (T1 : jT), jMo D s0 b0 0 (s_add S f (q, a, b, c9)) ad1 T1 G1 ∧ jFm 31 60 T G T1 G1 ∧ ∀ k i j, ¬ (k = 50 ∧ i = (s_i S).length ∧ j = 0) → ad1 k i j = ad k i j) := by
  have hxx := mo_x hR
  have hV9 : 0 < (s_v S).length := by have := hv.1; omega
  have hml : s_m S < (s_v S).length := by show (s_v S).length - 1 < _; omega
  have hR0 := mo_wth hR 0
  have hx0 := mo_x hR0
  have hF0 : jFm 31 60 T G T _ := jFm.pt (T := T) (G := G) (lo := 31) (hi := 60) (c := jo 11 [.int (nI 0), .ref (ad 32 0 0), .ref (ad 37 (s_m S) 0), .int (nI (s_p S)), .ref (ad 32 1 0), .ref (ad 32 2 0), .ref (ad 34 0 0), .ref (ad 32 3 0), .ref (ad 32 4 0), .int (jbz (s_w S)), .int (s_l S), .ref (ad 32 5 0), .ref (ad 32 6 0), .long (lN (s_n S))]) (mo_t31 hR) (by decide)
  have hV0 := mo_ver hR hml
  have hV1 := mo_ver hR0 hml
  have hpl := ((hv.2.2 (s_m S) hml).1 f hf).2
  have hin : (0 : Int32) ≤ nI f ∧ nI f ≤ 4 := ⟨nI_pos' (by omega), nI_le (b := 4) (by omega) (by omega)⟩
  obtain ⟨moF, capF, eaF, hFL, -, -, -⟩ := mo_fns hR0 hml
  obtain ⟨moI, capI, eaI, hIL, -, hIc, hIt⟩ := mo_fn hR0 hml hf
  have hl10' : ((s_ver S (s_m S)).1 f).length < 10 := hl10
  refine jM.of (by decide +kernel) (own := RX5) rfl (Nat.le_of_ble_eq_true rfl) ?_
  intro p e s m args below meth c hX hr hlk hnm
  refine jr_aload_n (i := 0) hX rfl rfl dX5_add_0 ?_
  refine jr_iload_n (i := 1) hX rfl rfl dX5_add_1 ?_
  refine jr_callS (As := [.int (nI f)]) (bc1 := (2)) (bs1 := (14)) hX (mm_isFunction l D s0 b0 A _ (nI f)) (va_cwS 1 hX.ts (lw_S q1781 q1782 q78 q1783) rfl rfl rfl (by decide +kernel) ⟨Nat.le_of_ble_eq_true rfl, Nat.le_of_ble_eq_true rfl⟩) rfl (Nat.le_of_ble_eq_true rfl) (by first | omega | (dsimp only; omega) | (show _ ≤ _; simp only []; omega)) (by first | omega | (dsimp only; omega) | (show _ ≤ _; simp only []; omega)) rfl dX5_add_2 (fun v_2 G_2 hp_2 => ?_)
  obtain ⟨rfl, e9⟩ := hp_2
  rw [e9, decide_eq_true hin]
  refine jr_if_eq hX (tgt := 20) (by decide) dX5_add_5 (fun c_5 => absurd c_5 (by decide)) (fun c_5 => ?_)
  refine jr_iload_n (i := 2) hX rfl rfl dX5_add_8 ?_
  refine jr_iload_n (i := 3) hX rfl rfl dX5_add_9 ?_
  refine jr_iload hX rfl dX5_add_10 ?_
  refine jr_iload hX rfl dX5_add_12 ?_
  refine jr_callS (As := [.int (jCL.getD q 0), .int a, .int b, .int c9]) (bc1 := (2)) (bs1 := (14)) hX (mm_isCode l D s0 b0 A _ q hq a b c9) (va_cwS 4 hX.ts (lw_S q1787 q1788 q78 q1789) rfl rfl rfl (by decide +kernel) ⟨Nat.le_of_ble_eq_true rfl, Nat.le_of_ble_eq_true rfl⟩) rfl (Nat.le_of_ble_eq_true rfl) (by first | omega | (dsimp only; omega) | (show _ ≤ _; simp only []; omega)) (by first | omega | (dsimp only; omega) | (show _ ≤ _; simp only []; omega)) rfl dX5_add_14 (fun v_14 G_14 hp_14 => ?_)
  obtain ⟨rfl, e9⟩ := hp_14
  rw [e9, hok]
  refine jr_if_ne hX (tgt := 24) (by decide) dX5_add_17 (fun c_17 => ?_) (fun c_17 => absurd c_17 (by decide))
  refine jr_aload_n (i := 0) hX rfl rfl dX5_add_24 ?_
  refine jr_get (ci := 11) (k := 2) hX hxx rfl in_X5 (by decide) q1732 rfl dX5_add_25 ?_
  refine jr_iload_n (i := 1) hX rfl rfl dX5_add_28 ?_
  refine jr_callV (As := [.int (nI f)]) (bc1 := (2)) (bs1 := (14)) hX (mm_length l D s0 b0 A _ S th ad T hR (s_m S) f hml hf) (cwV 1 hX.ts (lw_V q1793 q1794 q1795 q79 q1796) rfl rfl rfl (by decide +kernel) ⟨Nat.le_of_ble_eq_true rfl, Nat.le_of_ble_eq_true rfl⟩) hV0 rfl rfl (Nat.le_of_ble_eq_true rfl) (by first | omega | (dsimp only; omega) | (show _ ≤ _; simp only []; omega)) (by first | omega | (dsimp only; omega) | (show _ ≤ _; simp only []; omega)) rfl dX5_add_29 (fun v_29 G_29 hp_29 => ?_)
  obtain ⟨rfl, e9⟩ := hp_29
  rw [e9]
  refine jr_bipush (v := 10) hX (by decide) dX5_add_32 ?_
  refine jr_icmp_ne hX (tgt := 41) (by decide) dX5_add_34 (fun c_34 => ?_) (fun c_34 => absurd c_34 (fun z => absurd ((nI_eq (b := 10) (by omega) (by omega)).mp z) (by omega)))
  refine jr_iconst (v := 0) hX rfl dX5_add_41 ?_
  refine jr_put (ci := 11) (k := 0) hX hxx rfl in_X5 (by decide) tyX5 tyX5_ok nmX5 q1730 rfl (by first | rfl | assumption) (by first | rfl | assumption) (Nat.le_of_ble_eq_true rfl) dX5_add_42 ?_
  refine jr_aload_n (i := 0) hX rfl rfl dX5_add_45 ?_
  refine jr_get (ci := 11) (k := 0) hX hx0 rfl in_X5 (by decide) q1730 rfl dX5_add_46 ?_
  refine jr_if_le hX (tgt := 54) (by decide) dX5_add_49 (fun c_49 => ?_) (fun c_49 => absurd (by decide) c_49)
  refine jr_aload_n (i := 0) hX rfl rfl dX5_add_54 ?_
  refine jr_get (ci := 11) (k := 2) hX hx0 rfl in_X5 (by decide) q1732 rfl dX5_add_55 ?_
  refine jr_getN (ci := 12) (k := 0) hX hV1 rfl in_X6 (by decide) q1683 rfl dX5_add_58 ?_
  refine jr_iload_n (i := 1) hX rfl rfl dX5_add_61 ?_
  refine jr_callV (As := [.int (nI f)]) (bc1 := (2)) (bs1 := (14)) hX (met_get l D s0 b0 A _ (ad 40 (s_m S) 0) (s_rg 5 (fun f => ad 41 (s_m S) f)) moF capF eaF hFL f (ad 41 (s_m S) f) (rg_at hf)) (cwV 1 hX.ts (lw_V q1712 q304 q2203 q68 q306) rfl rfl rfl (by decide +kernel) ⟨Nat.le_of_ble_eq_true rfl, Nat.le_of_ble_eq_true rfl⟩) hFL.1 rfl rfl (Nat.le_of_ble_eq_true rfl) (by first | omega | (dsimp only; omega) | (show _ ≤ _; simp only []; omega)) (by first | omega | (dsimp only; omega) | (show _ ≤ _; simp only []; omega)) rfl dX5_add_62 (fun v_62 G_62 hp_62 => ?_)
  obtain ⟨rfl, e9⟩ := hp_62
  rw [e9]
  refine jr_castS hX hIL.1 rfl q1664 dX5_add_65 ?_
  refine jr_ee hX (fun hE0 => ?_)
  refine jr_new (ci := 14) (fs := [.int 0, .int 0, .int 0, .int 0]) (bc1 := 1) (bs1 := 10) hX in_X11 tyX11 tyX11_ok q1798 q1799 q91 rfl (by decide) (by omega) (by omega) dX5_add_68 (fun n_68 hn_68 hA_68 => ?_)
  refine jr_dup hX rfl dX5_add_71 ?_
  refine jr_iload_n (i := 2) hX rfl rfl dX5_add_72 ?_
  refine jr_iload_n (i := 3) hX rfl rfl dX5_add_73 ?_
  refine jr_iload hX rfl dX5_add_74 ?_
  refine jr_iload hX rfl dX5_add_76 ?_
  refine jr_callI (ret := none) (As := [.int (jCL.getD q 0), .int a, .int b, .int c9]) (bc1 := (1)) (bs1 := (10)) hX (mm_CdInit l D s0 b0 A _ n_68 q hq a b c9 jup_s) (cwI 4 hX.ts (lw_meth q1802) rfl rfl rfl (hX.ts _ q91) (hX.ts _ q1800) (hX.ts _ q1801) rfl (by decide +kernel) ⟨Nat.le_of_ble_eq_true rfl, Nat.le_of_ble_eq_true rfl⟩) rfl (Nat.le_of_ble_eq_true rfl) (by first | omega | (dsimp only; omega) | (show _ ≤ _; simp only []; omega)) (by first | omega | (dsimp only; omega) | (show _ ≤ _; simp only []; omega)) rfl dX5_add_78 (fun v_78 G_78 hp_78 => ?_)
  obtain ⟨rfl, e9⟩ := hp_78
  rw [jup_jup] at e9
  have hgn : G_78 n_68 = some (jo 14 [.int (jCL.getD q 0), .int a, .int b, .int c9]) := by rw [e9, jup_s]
  have hnw := jNw.new hn_68 (c := jo 14 [.int (jCL.getD q 0), .int a, .int b, .int c9])
  rw [← e9] at hnw
  have hR1 := mo_ad50 (n := n_68) hv (jRep.nw hR0 hnw) (hR0.un hn_68) (by rw [hgn]; simp) (hX.ee hA_68)
  have hIL1 := hnw.jLS hIL
  refine jr_callV (As := [.ref n_68]) (bc1 := (0)) (bs1 := (0)) hX (met_add l D s0 b0 A _ (ad 41 (s_m S) f) (((s_dr0 S).1 f).map (fun q => ad 50 q 0)) moI capI eaI hIL1 (ob_cdM hv (jRep.nw hR0 hnw) hml hf) n_68 (ob_o hgn (r := (RX11, TX11, 4)) rfl q2230) 1 10 (by omega) (fun hz => ⟨by omega, by rw [List.length_map] at hz; have h9 := hIL.2.2.2; unfold jgw; split <;> omega⟩)) (cwV 1 hX.ts (lw_V q1711 q186 q2202 q68 q188) rfl rfl rfl (by decide +kernel) ⟨Nat.le_of_ble_eq_true rfl, Nat.le_of_ble_eq_true rfl⟩) hIL1.1 rfl rfl (Nat.le_of_ble_eq_true rfl) (by first | omega | (dsimp only; omega) | (show _ ≤ _; simp only []; omega)) (by first | omega | (dsimp only; omega) | (show _ ≤ _; simp only []; omega)) rfl dX5_add_81 (fun v_81 G_81 hp_81 => ?_)
  obtain ⟨rfl, hU⟩ := hp_81
  refine jr_ee hX (fun hE1 => ?_)
  have hlast : (jas ad 50 (s_i S).length 0 n_68) 50 (s_i S).length 0 = n_68 := jas_s
  have hsame : ∀ v, v < (s_i S).length → (jas ad 50 (s_i S).length 0 n_68) 50 v 0 = ad 50 v 0 := fun v hv9 => jas_n (fun z => by omega)
  have hmp : ((s_dr0 S).1 f).map (fun q => ad 50 q 0) = ((s_dr0 S).1 f).map (fun q => (jas ad 50 (s_i S).length 0 n_68) 50 q 0) := List.map_congr_left (fun q9 hq9 => (hsame q9 (hpl q9 hq9)).symm)
  rw [show ((s_dr0 S).1 f).map (fun q => ad 50 q 0) ++ [n_68] = (((s_dr0 S).1 f) ++ [(s_i S).length]).map (fun q => (jas ad 50 (s_i S).length 0 n_68) 50 q 0) by
    rw [List.map_append, show [(s_i S).length].map (fun q => (jas ad 50 (s_i S).length 0 n_68) 50 q 0) = [n_68] from congrArg (fun z => [z]) hlast, ← hmp]] at hU
  have hE01 : G_78 (jEE s0 b0) = none := by
    rw [e9, jup_n (fun z => hX.ee hA_68 z.symm)]
    exact hE0
  have hcap1 : (if (((s_dr0 S).1 f).map (fun q => ad 50 q 0)).length = capI then jgw capI (capI + 1) else capI) ≤ 200 := by
    rw [List.length_map]
    have h9 := hIL.2.2.2
    split
    · unfold jgw; split <;> omega
    · exact hIc
  obtain ⟨T2, hR2, hfm2⟩ := mo_fnl (S := S) (pool := s_i S ++ [(q, a, b, c9)]) (L := ((s_dr0 S).1 f) ++ [(s_i S).length]) hR1 hV9 hf hE1 (mo := moI) (cap := capI) (ea := eaI) (by
      rw [← hmp]
      exact hIL1) (fun hc9 => by
      have ht := hIt hc9
      rw [jTs_n]
      · exact ht
      · intro z; rw [z] at ht; have := hR0.un hn_68; rw [ht] at this; cases this) hU hcap1 (fun j9 x9 hx9 => by
      by_cases hj : j9 < (s_i S).length
      · rw [List.getElem?_append_left hj] at hx9; exact Or.inl hx9
      · have hjl := lt_ofl hx9
        rw [List.length_append, List.length_singleton] at hjl
        have ej : j9 = (s_i S).length := by omega
        subst ej
        rw [List.getElem?_append_right (Nat.le_refl _), Nat.sub_self] at hx9
        have ex := Option.some.inj hx9
        subst ex
        rw [hlast]
        exact Or.inr ⟨jTs_s, hgn⟩)
  have hR3 : jMo D s0 b0 0 (s_add S f (q, a, b, c9)) (jas ad 50 (s_i S).length 0 n_68) T2 G_81 := hR2
  have hm3 : s_m (s_add S f (q, a, b, c9)) = s_m S := by show (List.set _ _ _).length - 1 = _; rw [List.length_set]
  have hx3 := mo_x hR3
  have hV3 := mo_ver hR3 (v := s_m S) (by show s_m S < (List.set _ _ _).length; rw [List.length_set]; exact hml)
  rw [hm3] at hx3
  rw [show (jas ad 50 (s_i S).length 0 n_68) 31 0 0 = ad 31 0 0 from jas_n (fun z => by omega), show (jas ad 50 (s_i S).length 0 n_68) 37 (s_m S) 0 = ad 37 (s_m S) 0 from jas_n (fun z => by omega)] at hx3
  rw [show (jas ad 50 (s_i S).length 0 n_68) 37 (s_m S) 0 = ad 37 (s_m S) 0 from jas_n (fun z => by omega)] at hV3
  have h8 := mm_length l D s0 b0 A _ (s_add S f (q, a, b, c9)) 0 (jas ad 50 (s_i S).length 0 n_68) T2 hR3 (s_m S) f (by show s_m S < (List.set _ _ _).length; rw [List.length_set]; exact hml) hf
  rw [show (jas ad 50 (s_i S).length 0 n_68) 37 (s_m S) 0 = ad 37 (s_m S) 0 from jas_n (fun z => by omega), add_f hV9] at h8
  refine jr_pop hX rfl dX5_add_84 ?_
  refine jr_aload_n (i := 0) hX rfl rfl dX5_add_85 ?_
  refine jr_get (ci := 11) (k := 2) hX hx3 rfl in_X5 (by decide) q1732 rfl dX5_add_86 ?_
  refine jr_iload_n (i := 1) hX rfl rfl dX5_add_89 ?_
  refine jr_callV (As := [.int (nI f)]) (bc1 := (0)) (bs1 := (0)) hX (h8) (cwV 1 hX.ts (lw_V q1793 q1794 q1795 q79 q1796) rfl rfl rfl (by decide +kernel) ⟨Nat.le_of_ble_eq_true rfl, Nat.le_of_ble_eq_true rfl⟩) hV3 rfl rfl (Nat.le_of_ble_eq_true rfl) (by first | omega | (dsimp only; omega) | (show _ ≤ _; simp only []; omega)) (by first | omega | (dsimp only; omega) | (show _ ≤ _; simp only []; omega)) rfl dX5_add_90 (fun v_90 G_90 hp_90 => ?_)
  obtain ⟨rfl, e8⟩ := hp_90
  rw [e8, List.length_append]
  refine jr_iret hX hlk hr ⟨rfl, (jas ad 50 (s_i S).length 0 n_68), T2, hR3, ?_, fun k9 i9 j9 hk => jas_n hk⟩ dX5_add_93
  refine hF0.trans (fun b hb hk => ?_)
  have z1 : b ≠ n_68 := fun z => hb (by rw [z]; exact hn_68)
  have hb1 : G_78 b ≠ none := by rw [e9, jup_n z1]; exact hb
  have h9 := mo_fm (by omega) hE01 hfm2 b hb1 (by rw [jTs_n z1]; exact hk)
  rw [jTs_n z1, e9, jup_n z1] at h9
  exact h9
