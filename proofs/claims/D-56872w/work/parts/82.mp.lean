/-! the model's does -/
section
variable {p : Program} {l : Launch} {e : Env} {R : Room} {s : State} {m : MethodId} {args : Array Value} {below : List Frame} {meth : Method} {c : Code} {Q : State → Prop} {D : va_G} {A : Nat → Prop} {nL : Nat} {G : jG} {bc bs pc : Nat} {lv : List (Nat × Value)} {st : List Value}
theorem jr_Gof {G2 : jG} (h : G = G2) (k : ∀ Ga : jG, Ga = G2 → Jg p l e R s m args below meth c Q D A nL Ga bc bs pc lv st) : Jg p l e R s m args below meth c Q D A nL G bc bs pc lv st := k G h
end

set_option maxHeartbeats 4000000 in
set_option maxRecDepth 100000 in
theorem mm_does (l : Launch) (D : va_G) (s0 : State) (b0 : Nat) (A : Nat → Prop) (G : jG) (S : sSt) (th : Nat) (ad : jN) (T : jT) (hR : jMo D s0 b0 th S ad T G) (S0 : sSt) (i j : Nat) (x x1 : sFr) (hi3 : i < 3) (hx : (s_s S i).2[j]? = some x) (hx1 : x1 = (x.1, x.2.1, x.2.2.1, x.2.2.2.1, x.2.2.2.2 + 1)) (hS0 : S0 = s_fw S i j x1) (hx0 : (s_s S0 i).2[j]? = some x1) (hi : sWi S0) (hv : sWv S0) (hs : sWs S0) (ho : sWo S0) (hW : ∀ q ∈ s_q S0, q < (s_c S0).length) (hk : sWk S0) (hk13 : s_k S0 < 13000) (hcl : (s_c S0).length < 100) (hql : (s_q S0).length < 100) (hpp : s_p S0 < 100) (hu2 : ∀ v, v < (s_u S0).length → ((s_u S0).getD v (0, 0)).2 + 128 < 256) (qi : Nat) (hqi : qi < (s_i S0).length) : jM l yX5_does (ws_ yX5_does cX5_does 5 none) (jR 10 7 ((400 + 8 * (s_k (s_act S0 i j x1 (s_ins S0 qi)) - s_k S0)))) D s0 b0 A G [.ref (ad 31 0 0), .ref (ad 35 i 0), .ref (ad 38 i j), .ref (ad 50 qi 0)] (fun w G1 => w = none ∧ ∃ (ad1 : jN) (T1 : jT), jMo D s0 b0 th (s_act S0 i j x1 (s_ins S0 qi)) ad1 T1 G1 ∧ jFm 31 60 T G T1 G1 ∧ ∀ k i j, k < 38 → ad1 k i j = ad k i j) := by
  have hF := mo_fr hR hi3 hx
  have hmm : s_m S0 = (s_v S0).length - 1 := rfl
  have hvu := hv.2.1
  have hfx := (hs i hi3).2.2 j x1 hx0
  have hne : 0 < (s_s S0 i).2.length := by have := lt_ofl hx0; omega
  obtain ⟨hc12, hA, hB, hC⟩ := hi qi hqi
  have hCd : G (ad 50 qi 0) = some (jo 14 [.int (jCL.getD (s_ins S0 qi).1 0), .int (s_ins S0 qi).2.1, .int (s_ins S0 qi).2.2.1, .int (s_ins S0 qi).2.2.2]) := by
    subst hS0
    exact mo_cd hR hqi
  have h12 : (s_ins S0 qi).1 = 0 ∨ (s_ins S0 qi).1 = 1 ∨ (s_ins S0 qi).1 = 2 ∨ (s_ins S0 qi).1 = 3 ∨ (s_ins S0 qi).1 = 4 ∨ (s_ins S0 qi).1 = 5 ∨ (s_ins S0 qi).1 = 6 ∨ (s_ins S0 qi).1 = 7 ∨ (s_ins S0 qi).1 = 8 ∨ (s_ins S0 qi).1 = 9 ∨ (s_ins S0 qi).1 = 10 ∨ (s_ins S0 qi).1 = 11 := by omega
  refine jM.of (by decide +kernel) (own := RX5) rfl (Nat.le_of_ble_eq_true rfl) ?_
  intro p e s m args below meth c hX hr hlk hnm
  refine jr_aload_n (i := 2) hX rfl rfl dX5_does_0 ?_
  refine jr_getN (ci := 15) (k := 3) hX hF rfl in_X14 (by decide) q1901 rfl dX5_does_1 ?_
  refine jr_astore hX (by decide) rfl dX5_does_4 ?_
  refine jr_aload_n (i := 2) hX rfl rfl dX5_does_6 ?_
  refine jr_dup hX rfl dX5_does_7 ?_
  refine jr_getN (ci := 15) (k := 2) hX hF rfl in_X14 (by decide) q1899 rfl dX5_does_8 ?_
  refine jr_iconst (v := 1) hX rfl dX5_does_11 ?_
  refine jr_iadd hX dX5_does_12 ?_
  rw [nI_1]
  refine jr_putN (ci := 15) (k := 2) hX hF rfl in_X14 (by decide) tyX14 tyX14_ok nmX14 q1899 rfl (by first | rfl | assumption) (by first | rfl | assumption) (Nat.le_of_ble_eq_true rfl) dX5_does_13 ?_
  have hR0 : jMo D s0 b0 th S0 ad T (jup G (ad 38 i j) (jo 15 [.int (nI x.1), .int (nI x.2.1), .int (nI (x.2.2.2.2 + 1)), .ref (ad 39 i j), .int (nI x.2.2.1)])) := by
    rw [hS0, hx1]
    exact mo_wfr (y := (x.1, x.2.1, x.2.2.1, x.2.2.2.1, x.2.2.2.2 + 1)) hR hi3 hx rfl
  have hF0 : jFm 31 60 T G T (jup G (ad 38 i j) (jo 15 [.int (nI x.1), .int (nI x.2.1), .int (nI (x.2.2.2.2 + 1)), .ref (ad 39 i j), .int (nI x.2.2.1)])) := jFm.pt (mo_t38 hR hi3 hx) (by decide)
  refine jr_Gof (G2 := jup G (ad 38 i j) (jo 15 [.int (nI x.1), .int (nI x.2.1), .int (nI (x.2.2.2.2 + 1)), .ref (ad 39 i j), .int (nI x.2.2.1)])) rfl (fun Ga hGa => ?_)
  rw [← hGa] at hR0 hF0
  have hxx0 := mo_x hR0
  have hFr0 := mo_fr hR0 hi3 hx0
  have hL0 := mo_loc hR0 hi3 hx0
  have hI0 := mo_cd hR0 hqi
  have hLn0 := mo_lan hR0 hi3
  refine jr_aload_n (i := 3) hX rfl rfl dX5_does_16 ?_
  refine jr_getN (ci := 14) (k := 0) hX hI0 rfl in_X11 (by decide) q1805 rfl dX5_does_17 ?_
  rcases h12 with hcode | hcode | hcode | hcode | hcode | hcode | hcode | hcode | hcode | hcode | hcode | hcode
  · rw [hcode] at hA hB hC hI0
    obtain ⟨aa, ha4, haa⟩ := op_0 hA
    have ea : (s_ins S0 qi).2.1.toNatClampNeg = aa := by rw [haa]; exact nI_clamp (by omega)
    rw [haa] at hI0
    have eS : s_act S0 i j x1 (s_ins S0 qi) = s_lw S0 i j x1 (upd x1.2.2.2.1 aa (s_ins S0 qi).2.2.1) := by
      unfold s_act
      rw [hcode]
      show s_lw S0 i j x1 (upd x1.2.2.2.1 (s_ins S0 qi).2.1.toNatClampNeg (s_ins S0 qi).2.2.1) = _
      rw [ea]
    rw [hcode]
    refine jr_tableIn hX (off := 96) (tgt := 116) (by decide +kernel) (by decide +kernel) (by decide +kernel) (by decide) dX5_does_20 ?_
    refine jr_aload hX rfl dX5_does_116 ?_
    refine jr_aload_n (i := 3) hX rfl rfl dX5_does_118 ?_
    refine jr_getN (ci := 14) (k := 1) hX hI0 rfl in_X11 (by decide) q1807 rfl dX5_does_119 ?_
    refine jr_aload_n (i := 3) hX rfl rfl dX5_does_122 ?_
    refine jr_getN (ci := 14) (k := 2) hX hI0 rfl in_X11 (by decide) q1809 rfl dX5_does_123 ?_
    refine jr_iast hX hL0 (vp_in_nI ha4 (by omega)) dX5_does_126 ?_
    rw [nI_clamp (by omega)]
    refine jr_goto hX (tgt := 283) (by decide) dX5_does_127 ?_
    refine jr_vret hX hlk hr ⟨rfl, ad, T, ?_, hF0.trans (jFm.pt (mo_t39 hR0 hi3 hx0) (by decide)), fun _ _ _ _ => rfl⟩ dX5_does_283
    rw [eS]
    exact mo_wloc hR0 hi3 hx0 _
  · rw [hcode] at hA hB hC hI0
    obtain ⟨aa, ha4, haa⟩ := op_0 hA
    have ea : (s_ins S0 qi).2.1.toNatClampNeg = aa := by rw [haa]; exact nI_clamp (by omega)
    rw [haa] at hI0
    obtain ⟨bb, hb4, hbb⟩ := op_0 hB
    have eb : (s_ins S0 qi).2.2.1.toNatClampNeg = bb := by rw [hbb]; exact nI_clamp (by omega)
    rw [hbb] at hI0
    have eS : s_act S0 i j x1 (s_ins S0 qi) = s_lw S0 i j x1 (upd x1.2.2.2.1 aa (x1.2.2.2.1 aa + x1.2.2.2.1 bb)) := by
      unfold s_act
      rw [hcode]
      show s_lw S0 i j x1 (upd x1.2.2.2.1 (s_ins S0 qi).2.1.toNatClampNeg (x1.2.2.2.1 (s_ins S0 qi).2.1.toNatClampNeg + x1.2.2.2.1 (s_ins S0 qi).2.2.1.toNatClampNeg)) = _
      rw [ea, eb]
    rw [hcode]
    refine jr_tableIn hX (off := 110) (tgt := 130) (by decide +kernel) (by decide +kernel) (by decide +kernel) (by decide) dX5_does_20 ?_
    refine jr_aload hX rfl dX5_does_130 ?_
    refine jr_aload_n (i := 3) hX rfl rfl dX5_does_132 ?_
    refine jr_getN (ci := 14) (k := 1) hX hI0 rfl in_X11 (by decide) q1807 rfl dX5_does_133 ?_
    refine jr_dup2 hX rfl rfl dX5_does_136 ?_
    refine jr_iald hX hL0 (vp_in_nI ha4 (by omega)) dX5_does_137 ?_
    rw [nI_clamp (by omega)]
    refine jr_aload hX rfl dX5_does_138 ?_
    refine jr_aload_n (i := 3) hX rfl rfl dX5_does_140 ?_
    refine jr_getN (ci := 14) (k := 2) hX hI0 rfl in_X11 (by decide) q1809 rfl dX5_does_141 ?_
    refine jr_iald hX hL0 (vp_in_nI hb4 (by omega)) dX5_does_144 ?_
    rw [nI_clamp (by omega)]
    refine jr_iadd hX dX5_does_145 ?_
    refine jr_iast hX hL0 (vp_in_nI ha4 (by omega)) dX5_does_146 ?_
    rw [nI_clamp (by omega)]
    refine jr_goto hX (tgt := 283) (by decide) dX5_does_147 ?_
    refine jr_vret hX hlk hr ⟨rfl, ad, T, ?_, hF0.trans (jFm.pt (mo_t39 hR0 hi3 hx0) (by decide)), fun _ _ _ _ => rfl⟩ dX5_does_283
    rw [eS]
    exact mo_wloc hR0 hi3 hx0 _
  · rw [hcode] at hA hB hC hI0
    obtain ⟨aa, ha4, haa⟩ := op_0 hA
    have ea : (s_ins S0 qi).2.1.toNatClampNeg = aa := by rw [haa]; exact nI_clamp (by omega)
    rw [haa] at hI0
    obtain ⟨bb, hb4, hbb⟩ := op_4 hB
    have eb : (s_ins S0 qi).2.2.1.toNatClampNeg = bb := by rw [hbb]; exact nI_clamp (by omega)
    rw [hbb] at hI0
    have eS : s_act S0 i j x1 (s_ins S0 qi) = s_mk S0 i j x1 bb aa := by
      unfold s_act
      rw [hcode]
      show s_mk S0 i j x1 (s_ins S0 qi).2.2.1.toNatClampNeg (s_ins S0 qi).2.1.toNatClampNeg = _
      rw [ea, eb]
    rw [hcode]
    refine jr_tableIn hX (off := 130) (tgt := 150) (by decide +kernel) (by decide +kernel) (by decide +kernel) (by decide) dX5_does_20 ?_
    refine jr_aload_n (i := 0) hX rfl rfl dX5_does_150 ?_
    refine jr_aload_n (i := 1) hX rfl rfl dX5_does_151 ?_
    refine jr_aload_n (i := 2) hX rfl rfl dX5_does_152 ?_
    refine jr_aload_n (i := 3) hX rfl rfl dX5_does_153 ?_
    refine jr_callV (As := [.ref (ad 35 i 0), .ref (ad 38 i j), .ref (ad 50 qi 0)]) (bc1 := (0)) (bs1 := (0)) hX (mm_makesNew l D s0 b0 A _ S0 th ad T hR0 hv hs ho i j x1 hi3 hx0 qi hqi aa bb haa hbb ha4 hb4) (cwV 3 hX.ts (lw_V q1983 q1985 qs54 q78 q1986) rfl rfl rfl (by decide +kernel) ⟨Nat.le_of_ble_eq_true rfl, Nat.le_of_ble_eq_true rfl⟩) hxx0 rfl rfl (Nat.le_of_ble_eq_true rfl) (by first | omega | (dsimp only; omega) | (show _ ≤ _; simp only []; omega)) (by first | omega | (dsimp only; omega) | (show _ ≤ _; simp only []; omega)) rfl dX5_does_154 (fun v_154 G_154 hp_154 => ?_)
    obtain ⟨rfl, ad1, T1, h1, h2, h3⟩ := hp_154
    refine jr_goto hX (tgt := 283) (by decide) dX5_does_157 ?_
    refine jr_vret hX hlk hr ⟨rfl, ad1, T1, ?_, hF0.trans h2, fun k i' j' hk => h3 k i' j' (by omega)⟩ dX5_does_283
    rw [eS]
    exact h1
  · rw [hcode] at hA hB hC hI0
    obtain ⟨aa, ha4, haa⟩ := op_0 hA
    have ea : (s_ins S0 qi).2.1.toNatClampNeg = aa := by rw [haa]; exact nI_clamp (by omega)
    rw [haa] at hI0
    obtain ⟨kk, ff, hkk, hff, hb1, hb2⟩ := op_5 hB
    obtain ⟨cy, hc4, hcy⟩ := op_0 hC
    have ec : (s_ins S0 qi).2.2.2.toNatClampNeg = cy := by rw [hcy]; exact nI_clamp (by omega)
    rw [hcy] at hI0
    have eS : s_act S0 i j x1 (s_ins S0 qi) = s_acR S0 i j x1 (s_ins S0 qi) := by
      unfold s_act
      rw [hcode]
      rfl
    rw [hcode]
    refine jr_tableIn hX (off := 140) (tgt := 160) (by decide +kernel) (by decide +kernel) (by decide +kernel) (by decide) dX5_does_20 ?_
    refine jr_aload_n (i := 0) hX rfl rfl dX5_does_160 ?_
    refine jr_aload_n (i := 1) hX rfl rfl dX5_does_161 ?_
    refine jr_aload_n (i := 2) hX rfl rfl dX5_does_162 ?_
    refine jr_aload_n (i := 3) hX rfl rfl dX5_does_163 ?_
    refine jr_callV (As := [.ref (ad 35 i 0), .ref (ad 38 i j), .ref (ad 50 qi 0)]) (bc1 := (0)) (bs1 := (0)) hX (mm_looksInto l D s0 b0 A _ S0 th ad T hR0 hv hs ho i j x1 hi3 hx0 qi hqi (Or.inl hcode) aa cy kk ff haa hcy ha4 hc4 hb1 hb2 hkk (by omega)) (cwV 3 hX.ts (lw_V q2005 q2007 qs55 q78 q2008) rfl rfl rfl (by decide +kernel) ⟨Nat.le_of_ble_eq_true rfl, Nat.le_of_ble_eq_true rfl⟩) hxx0 rfl rfl (Nat.le_of_ble_eq_true rfl) (by first | omega | (dsimp only; omega) | (show _ ≤ _; simp only []; omega)) (by first | omega | (dsimp only; omega) | (show _ ≤ _; simp only []; omega)) rfl dX5_does_164 (fun v_164 G_164 hp_164 => ?_)
    obtain ⟨rfl, ad1, T1, h1, h2, h3⟩ := hp_164
    refine jr_goto hX (tgt := 283) (by decide) dX5_does_167 ?_
    refine jr_vret hX hlk hr ⟨rfl, ad1, T1, ?_, hF0.trans h2, fun k i' j' hk => h3 k i' j' (by omega)⟩ dX5_does_283
    rw [eS]
    exact h1
  · rw [hcode] at hA hB hC hI0
    obtain ⟨aa, ha4, haa⟩ := op_0 hA
    have ea : (s_ins S0 qi).2.1.toNatClampNeg = aa := by rw [haa]; exact nI_clamp (by omega)
    rw [haa] at hI0
    obtain ⟨kk, ff, hkk, hff, hb1, hb2⟩ := op_5 hB
    obtain ⟨cy, hc4, hcy⟩ := op_0 hC
    have ec : (s_ins S0 qi).2.2.2.toNatClampNeg = cy := by rw [hcy]; exact nI_clamp (by omega)
    rw [hcy] at hI0
    have eS : s_act S0 i j x1 (s_ins S0 qi) = s_acR S0 i j x1 (s_ins S0 qi) := by
      unfold s_act
      rw [hcode]
      rfl
    rw [hcode]
    refine jr_tableIn hX (off := 140) (tgt := 160) (by decide +kernel) (by decide +kernel) (by decide +kernel) (by decide) dX5_does_20 ?_
    refine jr_aload_n (i := 0) hX rfl rfl dX5_does_160 ?_
    refine jr_aload_n (i := 1) hX rfl rfl dX5_does_161 ?_
    refine jr_aload_n (i := 2) hX rfl rfl dX5_does_162 ?_
    refine jr_aload_n (i := 3) hX rfl rfl dX5_does_163 ?_
    refine jr_callV (As := [.ref (ad 35 i 0), .ref (ad 38 i j), .ref (ad 50 qi 0)]) (bc1 := (0)) (bs1 := (0)) hX (mm_looksInto l D s0 b0 A _ S0 th ad T hR0 hv hs ho i j x1 hi3 hx0 qi hqi (Or.inr hcode) aa cy kk ff haa hcy ha4 hc4 hb1 hb2 hkk (by omega)) (cwV 3 hX.ts (lw_V q2005 q2007 qs55 q78 q2008) rfl rfl rfl (by decide +kernel) ⟨Nat.le_of_ble_eq_true rfl, Nat.le_of_ble_eq_true rfl⟩) hxx0 rfl rfl (Nat.le_of_ble_eq_true rfl) (by first | omega | (dsimp only; omega) | (show _ ≤ _; simp only []; omega)) (by first | omega | (dsimp only; omega) | (show _ ≤ _; simp only []; omega)) rfl dX5_does_164 (fun v_164 G_164 hp_164 => ?_)
    obtain ⟨rfl, ad1, T1, h1, h2, h3⟩ := hp_164
    refine jr_goto hX (tgt := 283) (by decide) dX5_does_167 ?_
    refine jr_vret hX hlk hr ⟨rfl, ad1, T1, ?_, hF0.trans h2, fun k i' j' hk => h3 k i' j' (by omega)⟩ dX5_does_283
    rw [eS]
    exact h1
  · rw [hcode] at hA hB hC hI0
    obtain ⟨aa, ha4, haa⟩ := op_0 hA
    have ea : (s_ins S0 qi).2.1.toNatClampNeg = aa := by rw [haa]; exact nI_clamp (by omega)
    rw [haa] at hI0
    obtain ⟨bb, hb4, hbb⟩ := op_1 hB
    have eb : (s_ins S0 qi).2.2.1.toNatClampNeg = bb := by rw [hbb]; exact nI_clamp (by omega)
    rw [hbb] at hI0
    have eS : s_act S0 i j x1 (s_ins S0 qi) = s_fw S0 i j (x1.1, x1.2.1, x1.2.2.1, x1.2.2.2.1, if 0 < x1.2.2.2.1 aa then bb else x1.2.2.2.2) := by
      unfold s_act
      rw [hcode]
      show s_fw S0 i j (x1.1, x1.2.1, x1.2.2.1, x1.2.2.2.1, if 0 < x1.2.2.2.1 (s_ins S0 qi).2.1.toNatClampNeg then (s_ins S0 qi).2.2.1.toNatClampNeg else x1.2.2.2.2) = _
      rw [ea, eb]
    rw [hcode]
    refine jr_tableIn hX (off := 150) (tgt := 170) (by decide +kernel) (by decide +kernel) (by decide +kernel) (by decide) dX5_does_20 ?_
    refine jr_aload_n (i := 2) hX rfl rfl dX5_does_170 ?_
    refine jr_aload hX rfl dX5_does_171 ?_
    refine jr_aload_n (i := 3) hX rfl rfl dX5_does_173 ?_
    refine jr_getN (ci := 14) (k := 1) hX hI0 rfl in_X11 (by decide) q1807 rfl dX5_does_174 ?_
    refine jr_iald hX hL0 (vp_in_nI ha4 (by omega)) dX5_does_177 ?_
    rw [nI_clamp (by omega)]
    refine jr_if_le hX (tgt := 188) (by decide) dX5_does_178 (fun c_178 => ?_) (fun c_178 => ?_)
    · refine jr_aload_n (i := 2) hX rfl rfl dX5_does_188 ?_
      refine jr_getN (ci := 15) (k := 2) hX hFr0 rfl in_X14 (by decide) q1899 rfl dX5_does_189 ?_
      refine jr_putN (ci := 15) (k := 2) hX hFr0 rfl in_X14 (by decide) tyX14 tyX14_ok nmX14 q1899 rfl (by first | rfl | assumption) (by first | rfl | assumption) (Nat.le_of_ble_eq_true rfl) dX5_does_192 ?_
      refine jr_goto hX (tgt := 283) (by decide) dX5_does_195 ?_
      refine jr_vret hX hlk hr ⟨rfl, ad, T, ?_, hF0.trans (jFm.pt (mo_t38 hR0 hi3 hx0) (by decide)), fun _ _ _ _ => rfl⟩ dX5_does_283
      rw [eS, if_neg (Int32.not_lt.mpr c_178)]
      exact mo_wfr (y := (x1.1, x1.2.1, x1.2.2.1, x1.2.2.2.1, x1.2.2.2.2)) hR0 hi3 hx0 rfl
    · refine jr_aload_n (i := 3) hX rfl rfl dX5_does_181 ?_
      refine jr_getN (ci := 14) (k := 2) hX hI0 rfl in_X11 (by decide) q1809 rfl dX5_does_182 ?_
      refine jr_goto hX (tgt := 192) (by decide) dX5_does_185 ?_
      refine jr_putN (ci := 15) (k := 2) hX hFr0 rfl in_X14 (by decide) tyX14 tyX14_ok nmX14 q1899 rfl (by first | rfl | assumption) (by first | rfl | assumption) (Nat.le_of_ble_eq_true rfl) dX5_does_192 ?_
      refine jr_goto hX (tgt := 283) (by decide) dX5_does_195 ?_
      refine jr_vret hX hlk hr ⟨rfl, ad, T, ?_, hF0.trans (jFm.pt (mo_t38 hR0 hi3 hx0) (by decide)), fun _ _ _ _ => rfl⟩ dX5_does_283
      rw [eS, if_pos (Int32.not_le.mp c_178)]
      exact mo_wfr (y := (x1.1, x1.2.1, x1.2.2.1, x1.2.2.2.1, bb)) hR0 hi3 hx0 rfl
  · rw [hcode] at hA hB hC hI0
    obtain ⟨aa, ha4, haa⟩ := op_2 hA
    have ea : (s_ins S0 qi).2.1.toNatClampNeg = aa := by rw [haa]; exact nI_clamp (by omega)
    rw [haa] at hI0
    obtain ⟨bb, hb4, hbb⟩ := op_0 hB
    have eb : (s_ins S0 qi).2.2.1.toNatClampNeg = bb := by rw [hbb]; exact nI_clamp (by omega)
    rw [hbb] at hI0
    obtain ⟨cy, hc4, hcy⟩ := op_0 hC
    have ec : (s_ins S0 qi).2.2.2.toNatClampNeg = cy := by rw [hcy]; exact nI_clamp (by omega)
    rw [hcy] at hI0
    have eS : s_act S0 i j x1 (s_ins S0 qi) = s_cal S0 i aa (x1.2.2.2.1 bb) cy := by
      unfold s_act
      rw [hcode]
      show s_cal S0 i (s_ins S0 qi).2.1.toNatClampNeg (x1.2.2.2.1 (s_ins S0 qi).2.2.1.toNatClampNeg) (s_ins S0 qi).2.2.2.toNatClampNeg = _
      rw [ea, eb, ec]
    rw [hcode]
    refine jr_tableIn hX (off := 178) (tgt := 198) (by decide +kernel) (by decide +kernel) (by decide +kernel) (by decide) dX5_does_20 ?_
    refine jr_aload_n (i := 0) hX rfl rfl dX5_does_198 ?_
    refine jr_aload_n (i := 1) hX rfl rfl dX5_does_199 ?_
    refine jr_aload_n (i := 2) hX rfl rfl dX5_does_200 ?_
    refine jr_aload_n (i := 3) hX rfl rfl dX5_does_201 ?_
    refine jr_getN (ci := 14) (k := 1) hX hI0 rfl in_X11 (by decide) q1807 rfl dX5_does_202 ?_
    refine jr_aload_n (i := 3) hX rfl rfl dX5_does_205 ?_
    refine jr_callV (As := [.ref (ad 35 i 0), .ref (ad 38 i j), .int (nI aa), .ref (ad 50 qi 0)]) (bc1 := (0)) (bs1 := (0)) hX (mm_calls l D s0 b0 A _ S0 th ad T hR0 hs i j x1 hi3 hx0 aa qi hqi bb cy hbb hb4 hcy) (cwV 4 hX.ts (lw_V q2009 q2011 qs56 q78 q2012) rfl rfl rfl (by decide +kernel) ⟨Nat.le_of_ble_eq_true rfl, Nat.le_of_ble_eq_true rfl⟩) hxx0 rfl rfl (Nat.le_of_ble_eq_true rfl) (by first | omega | (dsimp only; omega) | (show _ ≤ _; simp only []; omega)) (by first | omega | (dsimp only; omega) | (show _ ≤ _; simp only []; omega)) rfl dX5_does_206 (fun v_206 G_206 hp_206 => ?_)
    obtain ⟨rfl, ad1, T1, h1, h2, h3⟩ := hp_206
    refine jr_goto hX (tgt := 283) (by decide) dX5_does_209 ?_
    refine jr_vret hX hlk hr ⟨rfl, ad1, T1, ?_, hF0.trans h2, fun k i' j' hk => h3 k i' j' (by omega)⟩ dX5_does_283
    rw [eS]
    exact h1
  · rw [hcode] at hA hB hC hI0
    obtain ⟨aa, ha4, haa⟩ := op_3 hA
    have ea : (s_ins S0 qi).2.1.toNatClampNeg = aa := by rw [haa]; exact nI_clamp (by omega)
    rw [haa] at hI0
    obtain ⟨bb, hb4, hbb⟩ := op_0 hB
    have eb : (s_ins S0 qi).2.2.1.toNatClampNeg = bb := by rw [hbb]; exact nI_clamp (by omega)
    rw [hbb] at hI0
    obtain ⟨cy, hc4, hcy⟩ := op_0 hC
    have ec : (s_ins S0 qi).2.2.2.toNatClampNeg = cy := by rw [hcy]; exact nI_clamp (by omega)
    rw [hcy] at hI0
    have eS : s_act S0 i j x1 (s_ins S0 qi) = s_cal S0 i (s_t S0 aa) (x1.2.2.2.1 bb) cy := by
      unfold s_act
      rw [hcode]
      show s_cal S0 i (s_t S0 (s_ins S0 qi).2.1.toNatClampNeg) (x1.2.2.2.1 (s_ins S0 qi).2.2.1.toNatClampNeg) (s_ins S0 qi).2.2.2.toNatClampNeg = _
      rw [ea, eb, ec]
    rw [hcode]
    refine jr_tableIn hX (off := 192) (tgt := 212) (by decide +kernel) (by decide +kernel) (by decide +kernel) (by decide) dX5_does_20 ?_
    refine jr_aload_n (i := 0) hX rfl rfl dX5_does_212 ?_
    refine jr_aload_n (i := 1) hX rfl rfl dX5_does_213 ?_
    refine jr_aload_n (i := 2) hX rfl rfl dX5_does_214 ?_
    refine jr_aload_n (i := 0) hX rfl rfl dX5_does_215 ?_
    refine jr_get (ci := 11) (k := 6) hX hxx0 rfl in_X5 (by decide) q1736 rfl dX5_does_216 ?_
    refine jr_aload_n (i := 3) hX rfl rfl dX5_does_219 ?_
    refine jr_getN (ci := 14) (k := 1) hX hI0 rfl in_X11 (by decide) q1807 rfl dX5_does_220 ?_
    refine jr_iald hX (mo_tbl hR0) (vp_in_nI ha4 (by omega)) dX5_does_223 ?_
    rw [nI_clamp (by omega)]
    refine jr_aload_n (i := 3) hX rfl rfl dX5_does_224 ?_
    refine jr_callV (As := [.ref (ad 35 i 0), .ref (ad 38 i j), .int (nI (s_t S0 aa)), .ref (ad 50 qi 0)]) (bc1 := (0)) (bs1 := (0)) hX (mm_calls l D s0 b0 A _ S0 th ad T hR0 hs i j x1 hi3 hx0 (s_t S0 aa) qi hqi bb cy hbb hb4 hcy) (cwV 4 hX.ts (lw_V q2009 q2011 qs56 q78 q2012) rfl rfl rfl (by decide +kernel) ⟨Nat.le_of_ble_eq_true rfl, Nat.le_of_ble_eq_true rfl⟩) hxx0 rfl rfl (Nat.le_of_ble_eq_true rfl) (by first | omega | (dsimp only; omega) | (show _ ≤ _; simp only []; omega)) (by first | omega | (dsimp only; omega) | (show _ ≤ _; simp only []; omega)) rfl dX5_does_225 (fun v_225 G_225 hp_225 => ?_)
    obtain ⟨rfl, ad1, T1, h1, h2, h3⟩ := hp_225
    refine jr_goto hX (tgt := 283) (by decide) dX5_does_228 ?_
    refine jr_vret hX hlk hr ⟨rfl, ad1, T1, ?_, hF0.trans h2, fun k i' j' hk => h3 k i' j' (by omega)⟩ dX5_does_283
    rw [eS]
    exact h1
  · rw [hcode] at hA hB hC hI0
    obtain ⟨aa, ha4, haa⟩ := op_3 hA
    have ea : (s_ins S0 qi).2.1.toNatClampNeg = aa := by rw [haa]; exact nI_clamp (by omega)
    rw [haa] at hI0
    obtain ⟨bb, hb4, hbb⟩ := op_2 hB
    have eb : (s_ins S0 qi).2.2.1.toNatClampNeg = bb := by rw [hbb]; exact nI_clamp (by omega)
    rw [hbb] at hI0
    have eS : s_act S0 i j x1 (s_ins S0 qi) = sw_t S0 (sup (s_t S0) aa bb) := by
      unfold s_act
      rw [hcode]
      show sw_t S0 (sup (s_t S0) (s_ins S0 qi).2.1.toNatClampNeg (s_ins S0 qi).2.2.1.toNatClampNeg) = _
      rw [ea, eb]
    rw [hcode]
    refine jr_tableIn hX (off := 211) (tgt := 231) (by decide +kernel) (by decide +kernel) (by decide +kernel) (by decide) dX5_does_20 ?_
    refine jr_aload_n (i := 0) hX rfl rfl dX5_does_231 ?_
    refine jr_get (ci := 11) (k := 6) hX hxx0 rfl in_X5 (by decide) q1736 rfl dX5_does_232 ?_
    refine jr_aload_n (i := 3) hX rfl rfl dX5_does_235 ?_
    refine jr_getN (ci := 14) (k := 1) hX hI0 rfl in_X11 (by decide) q1807 rfl dX5_does_236 ?_
    refine jr_aload_n (i := 3) hX rfl rfl dX5_does_239 ?_
    refine jr_getN (ci := 14) (k := 2) hX hI0 rfl in_X11 (by decide) q1809 rfl dX5_does_240 ?_
    refine jr_iast hX (mo_tbl hR0) (vp_in_nI ha4 (by omega)) dX5_does_243 ?_
    rw [nI_clamp (by omega), show upd (fun q => nI (s_t S0 q)) aa (nI bb) = fun q => nI (sup (s_t S0) aa bb q) from funext fun q => by unfold upd sup; by_cases e : q = aa <;> simp [e]]
    refine jr_goto hX (tgt := 283) (by decide) dX5_does_244 ?_
    refine jr_vret hX hlk hr ⟨rfl, ad, T, ?_, hF0.trans (jFm.pt (k := 34) (i := 0) (j := 0) (hR0.t (k := 34) (i := 0) (j := 0) rfl) (by decide)), fun _ _ _ _ => rfl⟩ dX5_does_283
    rw [eS]
    exact mo_wtb hR0 _
  · rw [hcode] at hA hB hC hI0
    obtain ⟨aa, ha4, haa⟩ := op_0 hA
    have ea : (s_ins S0 qi).2.1.toNatClampNeg = aa := by rw [haa]; exact nI_clamp (by omega)
    rw [haa] at hI0
    have eS : s_act S0 i j x1 (s_ins S0 qi) = s_gb S0 i (x1.2.2.2.1 aa) := by
      unfold s_act
      rw [hcode]
      show s_gb S0 i (x1.2.2.2.1 (s_ins S0 qi).2.1.toNatClampNeg) = _
      rw [ea]
    rw [hcode]
    refine jr_tableIn hX (off := 227) (tgt := 247) (by decide +kernel) (by decide +kernel) (by decide +kernel) (by decide) dX5_does_20 ?_
    refine jr_aload_n (i := 0) hX rfl rfl dX5_does_247 ?_
    refine jr_aload_n (i := 1) hX rfl rfl dX5_does_248 ?_
    refine jr_aload hX rfl dX5_does_249 ?_
    refine jr_aload_n (i := 3) hX rfl rfl dX5_does_251 ?_
    refine jr_getN (ci := 14) (k := 1) hX hI0 rfl in_X11 (by decide) q1807 rfl dX5_does_252 ?_
    refine jr_iald hX hL0 (vp_in_nI ha4 (by omega)) dX5_does_255 ?_
    rw [nI_clamp (by omega)]
    refine jr_callV (As := [.ref (ad 35 i 0), .int (x1.2.2.2.1 aa)]) (bc1 := (0)) (bs1 := (0)) hX (mm_returns l D s0 b0 A _ S0 th ad T hR0 hs i hi3 (x1.2.2.2.1 aa) hne) (cwV 2 hX.ts (lw_V q2013 q2015 qs57 q78 q2016) rfl rfl rfl (by decide +kernel) ⟨Nat.le_of_ble_eq_true rfl, Nat.le_of_ble_eq_true rfl⟩) hxx0 rfl rfl (Nat.le_of_ble_eq_true rfl) (by first | omega | (dsimp only; omega) | (show _ ≤ _; simp only []; omega)) (by first | omega | (dsimp only; omega) | (show _ ≤ _; simp only []; omega)) rfl dX5_does_256 (fun v_256 G_256 hp_256 => ?_)
    obtain ⟨rfl, T1, h1, h2⟩ := hp_256
    refine jr_goto hX (tgt := 283) (by decide) dX5_does_259 ?_
    refine jr_vret hX hlk hr ⟨rfl, ad, T1, ?_, hF0.trans h2, fun _ _ _ _ => rfl⟩ dX5_does_283
    rw [eS]
    exact h1
  · rw [hcode] at hA hB hC hI0
    obtain ⟨aa, ha4, haa⟩ := op_0 hA
    have ea : (s_ins S0 qi).2.1.toNatClampNeg = aa := by rw [haa]; exact nI_clamp (by omega)
    rw [haa] at hI0
    have eS : s_act S0 i j x1 (s_ins S0 qi) = s_out S0 x1.1 (x1.2.2.2.1 aa) := by
      unfold s_act
      rw [hcode]
      show s_out S0 x1.1 (x1.2.2.2.1 (s_ins S0 qi).2.1.toNatClampNeg) = _
      rw [ea]
    rw [hcode]
    refine jr_tableIn hX (off := 242) (tgt := 262) (by decide +kernel) (by decide +kernel) (by decide +kernel) (by decide) dX5_does_20 ?_
    refine jr_aload_n (i := 0) hX rfl rfl dX5_does_262 ?_
    refine jr_aload_n (i := 2) hX rfl rfl dX5_does_263 ?_
    refine jr_aload hX rfl dX5_does_264 ?_
    refine jr_aload_n (i := 3) hX rfl rfl dX5_does_266 ?_
    refine jr_getN (ci := 14) (k := 1) hX hI0 rfl in_X11 (by decide) q1807 rfl dX5_does_267 ?_
    refine jr_iald hX hL0 (vp_in_nI ha4 (by omega)) dX5_does_270 ?_
    rw [nI_clamp (by omega)]
    have ek : s_k (s_act S0 i j x1 (s_ins S0 qi)) = s_gr S0 := by rw [eS]; exact out_k
    have hg9 : (s_u S0).length = s_k S0 → jgw (s_k S0) (s_k S0 + 1) ≤ 4 * (s_gr S0 - s_k S0) := fun z => by
      unfold s_gr
      rw [if_pos z]
      exact gw_le hk.2.1
    refine jr_callV (As := [.ref (ad 38 i j), .int (x1.2.2.2.1 aa)]) (bc1 := (0)) (bs1 := (0)) hX (mm_putOut l D s0 b0 A _ S0 th ad T hR0 hW hcl hql hpp i j x1 hi3 hx0 (by omega) hu2 (x1.2.2.2.1 aa) hk13 (4 * (s_gr S0 - s_k S0)) 7 (400 + 8 * (s_gr S0 - s_k S0)) hg9 (by decide) (by omega) (fun _ => by decide) (fun _ => by omega)) (cwV 2 hX.ts (lw_V q2018 q2020 qs58 q78 q2021) rfl rfl rfl (by decide +kernel) ⟨Nat.le_of_ble_eq_true rfl, Nat.le_of_ble_eq_true rfl⟩) hxx0 rfl rfl (Nat.le_of_ble_eq_true rfl) (by first | omega | (dsimp only; omega) | (show _ ≤ _; simp only []; omega)) (by rw [ek]; show 0 + (400 + 8 * (s_gr S0 - s_k S0)) ≤ _; omega) rfl dX5_does_271 (fun v_271 G_271 hp_271 => ?_)
    obtain ⟨rfl, ad1, T1, h1, h2, h3⟩ := hp_271
    refine jr_goto hX (tgt := 283) (by decide) dX5_does_274 ?_
    refine jr_vret hX hlk hr ⟨rfl, ad1, T1, ?_, hF0.trans h2, fun k i' j' hk => h3 k i' j' (by omega) (by omega)⟩ dX5_does_283
    rw [eS]
    exact h1
  · rw [hcode] at hA hB hC hI0
    have eS : s_act S0 i j x1 (s_ins S0 qi) = s_st S0 i 119 := by
      unfold s_act
      rw [hcode]
      rfl
    rw [hcode]
    refine jr_tableOut hX (tgt := 277) (Or.inr (by decide +kernel)) (by decide) dX5_does_20 ?_
    refine jr_aload_n (i := 1) hX rfl rfl dX5_does_277 ?_
    refine jr_bipush (v := 119) hX (by decide) dX5_does_278 ?_
    refine jr_putN (ci := 13) (k := 0) hX hLn0 rfl in_X7 (by decide) tyX7 tyX7_ok nmX7 q1722 rfl (by first | rfl | assumption) (by first | rfl | assumption) (Nat.le_of_ble_eq_true rfl) dX5_does_280 ?_
    refine jr_vret hX hlk hr ⟨rfl, ad, T, ?_, hF0.trans (jFm.pt (mo_t35 hR0 hi3) (by decide)), fun _ _ _ _ => rfl⟩ dX5_does_283
    rw [eS]
    exact mo_wst hR0 hi3 119
