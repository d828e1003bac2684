/-! an instruction keeps what holds of a state -/
def sFok (S : sSt) (x : sFr) : Prop := x.1 < s_m S ∧ x.2.1 < 5 ∧ x.2.2.1 < 4 ∧ x.2.2.2.2 ≤ 10
/-- a strand written -/
theorem sW_st {S : sSt} {i c : Nat} {fs : List sFr} (h : sW S) (hc : c < 1000) (hl : fs.length ≤ 8) (hf : ∀ (j : Nat) (x : sFr), fs[j]? = some x → sFok S x) (ha : s_al c = true ↔ 0 < fs.length) : sW (sw_s S (sup (s_s S) i (c, fs))) := by
  obtain ⟨h1, h2, h3, h4, h5, h6, h7, h8⟩ := h
  refine ⟨h1, h2, fun k hk => ?_, h4, h5, h6, fun k hk => ?_, h8⟩
  · by_cases e : k = i
    · subst e
      show (sup (s_s S) k (c, fs) k).1 < 1000 ∧ (sup (s_s S) k (c, fs) k).2.length ≤ 8 ∧ ∀ (j : Nat) (x : sFr), (sup (s_s S) k (c, fs) k).2[j]? = some x → _
      rw [sup_s]
      exact ⟨hc, hl, hf⟩
    · show (sup (s_s S) i (c, fs) k).1 < 1000 ∧ (sup (s_s S) i (c, fs) k).2.length ≤ 8 ∧ ∀ (j : Nat) (x : sFr), (sup (s_s S) i (c, fs) k).2[j]? = some x → _
      rw [sup_n e]
      exact h3 k hk
  · by_cases e : k = i
    · subst e
      show s_al (sup (s_s S) k (c, fs) k).1 = true ↔ 0 < (sup (s_s S) k (c, fs) k).2.length
      rw [sup_s]
      exact ha
    · show s_al (sup (s_s S) i (c, fs) k).1 = true ↔ 0 < (sup (s_s S) i (c, fs) k).2.length
      rw [sup_n e]
      exact h7 k hk
theorem sW_end {S : sSt} {i c : Nat} (h : sW S) (hc : c < 1000) (ha : s_al c = false) : sW (s_end S i c) := sW_st h hc (Nat.zero_le _) (fun j x hx => by cases hx) ⟨fun z => (by rw [ha] at z; cases z), fun z => absurd z (Nat.lt_irrefl _)⟩
theorem sW_fw {S : sSt} {i j : Nat} {x y : sFr} (h : sW S) (hi : i < 3) (hx : (s_s S i).2[j]? = some x) (hy : sFok S y) : sW (s_fw S i j y) := by
  have h3 := h.2.2.1 i hi
  have h7 := h.2.2.2.2.2.2.1 i hi
  refine sW_st h h3.1 (by rw [List.length_set]; exact h3.2.1) (fun k z hz => ?_) (by rw [List.length_set]; exact h7)
  by_cases e : j = k
  · subst e
    rw [List.getElem?_set_self (lt_ofl hx)] at hz
    cases hz; exact hy
  · rw [List.getElem?_set_ne e] at hz
    exact h3.2.2 k z hz
theorem sW_lw {S : sSt} {i j : Nat} {x : sFr} {loc : Nat → Int32} (h : sW S) (hi : i < 3) (hx : (s_s S i).2[j]? = some x) : sW (s_lw S i j x loc) := sW_fw h hi hx (h.2.2.1 i hi |>.2.2 j x hx)
theorem sW_o {S : sSt} {L : List sTh} (h : sW S) (hL : L.length ≤ 30) (hf : ∀ (i : Nat) (t : sTh), L[i]? = some t → t.1 < s_m S ∧ t.2.1 < 3) : sW (sw_o S L) := by
  obtain ⟨h1, h2, h3, h4, h5, h6, h7, h8⟩ := h
  exact ⟨h1, h2, h3, ⟨hL, hf⟩, h5, h6, h7, h8⟩
theorem sW_cto {S : sSt} {o a : Nat} (h : sW S) (ha : a < s_m S) : sW (s_cto S o a) := by
  unfold s_cto
  cases ht : (s_o S)[o]? with
  | none => exact h
  | some t =>
    refine sW_o h (by rw [List.length_set]; exact h.2.2.2.1.1) (fun k z hz => ?_)
    have g := h.2.2.2.1.2
    by_cases e : o = k
    · subst e
      rw [List.getElem?_set_self (lt_ofl ht)] at hz
      cases hz
      exact ⟨ha, (g o t ht).2⟩
    · rw [List.getElem?_set_ne e] at hz
      exact g k z hz
theorem cto_s {S : sSt} {o a : Nat} : s_s (s_cto S o a) = s_s S := by
  unfold s_cto
  cases (s_o S)[o]? <;> rfl
theorem sW_rch {S : sSt} {i j : Nat} {x : sFr} {g : Bool} {aa ff o : Nat} (h : sW S) (hi : i < 3) (hx : (s_s S i).2[j]? = some x) : sW (s_rch S i j x g aa ff o) := by
  have hxa := (h.2.2.1 i hi).2.2 j x hx
  have h0 := sW_cto (o := o) h hxa.1
  unfold s_rch
  cases ht : (s_o (s_cto S o x.1))[o]? with
  | none => exact h
  | some t1 =>
    show sW (if g = true then _ else _)
    by_cases hg : g = true
    · rw [if_pos hg]
      exact sW_lw h0 hi (by rw [cto_s]; exact hx)
    · rw [if_neg hg]
      refine sW_o h0 (by rw [List.length_set]; exact h0.2.2.2.1.1) (fun k z hz => ?_)
      have g2 := h0.2.2.2.1.2
      by_cases e : o = k
      · subst e
        rw [List.getElem?_set_self (lt_ofl ht)] at hz
        cases hz
        exact g2 o t1 ht
      · rw [List.getElem?_set_ne e] at hz
        exact g2 k z hz
theorem sW_mk {S : sSt} {i j : Nat} {x : sFr} {k aa : Nat} (h : sW S) (hi : i < 3) (hx : (s_s S i).2[j]? = some x) (hk : k < 3) : sW (s_mk S i j x k aa) := by
  have hxa := (h.2.2.1 i hi).2.2 j x hx
  unfold s_mk
  by_cases h30 : (s_o S).length = 30
  · rw [if_pos h30]; exact sW_end h (by decide) rfl
  · rw [if_neg h30]
    have g := h.2.2.2.1
    refine sW_lw (sW_o h (by rw [List.length_append]; have := g.1; show (s_o S).length + 1 ≤ 30; omega) (fun n t ht => ?_)) hi hx
    by_cases c : n < (s_o S).length
    · rw [List.getElem?_append_left c] at ht
      exact g.2 n t ht
    · rw [List.getElem?_append_right (by omega)] at ht
      cases hn : n - (s_o S).length with
      | zero => rw [hn] at ht; cases ht; exact ⟨hxa.1, hk⟩
      | succ m => rw [hn] at ht; cases ht
theorem sW_cal {S : sSt} {i fn : Nat} {arg : Int32} {into : Nat} (h : sW S) (hi : i < 3) (hne : 0 < (s_s S i).2.length) (hf : fn < 5) (hin : into < 4) : sW (s_cal S i fn arg into) := by
  have h3 := h.2.2.1 i hi
  have h7 := h.2.2.2.2.2.2.1 i hi
  unfold s_cal
  by_cases h8 : (s_s S i).2.length = 8
  · rw [if_pos h8]; exact sW_end h (by decide) rfl
  · rw [if_neg h8]
    refine sW_st h h3.1 (by rw [List.length_append]; have := h3.2.1; show (s_s S i).2.length + 1 ≤ 8; omega) (fun n t ht => ?_) ⟨fun _ => by rw [List.length_append]; show 0 < _ + 1; omega, fun _ => h7.mpr hne⟩
    by_cases c : n < (s_s S i).2.length
    · rw [List.getElem?_append_left c] at ht
      exact h3.2.2 n t ht
    · rw [List.getElem?_append_right (by omega)] at ht
      cases hn : n - (s_s S i).2.length with
      | zero => rw [hn] at ht; cases ht; exact ⟨h.2.2.2.2.1, hf, hin, Nat.zero_le _⟩
      | succ m => rw [hn] at ht; cases ht
theorem sW_gb {S : sSt} {i : Nat} {r : Int32} (h : sW S) (hi : i < 3) : sW (s_gb S i r) := by
  have h3 := h.2.2.1 i hi
  have h7 := h.2.2.2.2.2.2.1 i hi
  unfold s_gb
  by_cases h1 : (s_s S i).2.length ≤ 1
  · rw [if_pos h1]; exact sW_end h (by decide) rfl
  · rw [if_neg h1]
    have hp : sW (s_pop S i) := by
      refine sW_st h h3.1 (by rw [List.length_eraseIdx]; have := h3.2.1; split <;> omega) (fun n t ht => h3.2.2 n t (er_at ht)) ?_
      rw [List.length_eraseIdx]
      refine ⟨fun _ => by split <;> omega, fun _ => h7.mpr (by omega)⟩
    cases ho : (s_s S i).2[(s_s S i).2.length - 1]? with
    | none => exact h
    | some o =>
      cases hx : (s_s S i).2[(s_s S i).2.length - 2]? with
      | none => exact h
      | some x =>
        refine sW_lw hp hi ?_
        show (sup (s_s S) i _ i).2[(s_s S i).2.length - 2]? = some x
        rw [sup_s]
        show ((s_s S i).2.eraseIdx ((s_s S i).2.length - 1))[(s_s S i).2.length - 2]? = some x
        rw [List.getElem?_eraseIdx, if_pos (by omega)]
        exact hx
theorem sW_ask {S : sSt} {md pat place : Nat} {b o : Bool} (h : sW S) (hmd : md < 1000) (hp : s_n S + pat < 1000000) : sW (s_ask S md b o pat place) := by
  obtain ⟨h1, h2, h3, h4, h5, h6, h7, h8⟩ := h
  have hnew : (s_c S).length ∉ s_q S := fun z => Nat.lt_irrefl _ (h6.2.1 _ z)
  have hmem : ∀ q, q ∈ (s_q S).take place ++ (s_c S).length :: (s_q S).drop place → q = (s_c S).length ∨ q ∈ s_q S := fun q hq => by
    rcases List.mem_append.mp hq with z | z
    · exact Or.inr (List.mem_of_mem_take z)
    · rcases List.mem_cons.mp z with z | z
      · exact Or.inl z
      · exact Or.inr (List.mem_of_mem_drop z)
  refine ⟨h1, h2, h3, h4, h5, ⟨?_, fun q hq => ?_, fun ci ch hc => ?_⟩, h7, h8⟩
  · show ((s_q S).take place ++ (s_c S).length :: (s_q S).drop place).Nodup
    refine (List.perm_middle.nodup_iff).mpr (List.nodup_cons.mpr ⟨?_, ?_⟩)
    · rw [List.take_append_drop]; exact hnew
    · rw [List.take_append_drop]; exact h6.1
  · show q < (s_c S ++ [_]).length
    rw [List.length_append]
    rcases hmem q hq with z | z
    · rw [z]; exact Nat.lt_succ_self _
    · exact Nat.lt_succ_of_lt (h6.2.1 q z)
  · have hc' : (s_c S ++ [((md, b, o, s_n S + pat, 113) : sCh)])[ci]? = some ch := hc
    by_cases c : ci < (s_c S).length
    · rw [List.getElem?_append_left c] at hc'
      exact h6.2.2 ci ch hc'
    · rw [List.getElem?_append_right (by omega)] at hc'
      cases hn : ci - (s_c S).length with
      | zero => rw [hn] at hc'; cases hc'; exact ⟨hmd, hp, by show 113 < 1000; decide⟩
      | succ m => rw [hn] at hc'; cases hc'
theorem sW_uw {S : sSt} {L : List (Int32 × Nat)} {k : Nat} (h : sW S) : sW (sw_u S L k) := h
theorem sW_ww {S : sSt} {b : Bool} (h : sW S) : sW (sw_w S b) := h
theorem sW_out {S : sSt} {v : Nat} {a : Int32} (h : sW S) (hn : s_n S + 50 < 1000000) : sW (s_out S v a) := by
  unfold s_out
  by_cases h1 : s_asks S a = true
  · rw [if_pos h1]
    by_cases h2 : 0 < s_p S
    · rw [if_pos h2]; exact sW_ask (sW_ww (sW_uw h)) (by decide) hn
    · rw [if_neg h2]; exact sW_ww (sW_uw h)
  · rw [if_neg h1]; exact sW_uw h
theorem act_W {S : sSt} {i j q : Nat} {x : sFr} (h : sW S) (hi : i < 3) (hx : (s_s S i).2[j]? = some x) (hq : q < (s_i S).length) (hn : s_n S + 50 < 1000000) : sW (s_act S i j x (s_ins S q)) := by
  obtain ⟨hc12, hA, hB, hC⟩ := h.1 q hq
  have hxa := (h.2.2.1 i hi).2.2 j x hx
  have hne : 0 < (s_s S i).2.length := by have := lt_ofl hx; omega
  have hR : sW (s_acR S i j x (s_ins S q)) := by
    unfold s_acR
    split
    · split
      · split
        · exact sW_rch h hi hx
        · exact sW_end h (by decide) rfl
      · exact sW_end h (by decide) rfl
    · exact sW_end h (by decide) rfl
  have h12 : (s_ins S q).1 = 0 ∨ (s_ins S q).1 = 1 ∨ (s_ins S q).1 = 2 ∨ (s_ins S q).1 = 3 ∨ (s_ins S q).1 = 4 ∨ (s_ins S q).1 = 5 ∨ (s_ins S q).1 = 6 ∨ (s_ins S q).1 = 7 ∨ (s_ins S q).1 = 8 ∨ (s_ins S q).1 = 9 ∨ (s_ins S q).1 = 10 ∨ (s_ins S q).1 = 11 := by omega
  unfold s_act
  rcases h12 with hcode | hcode | hcode | hcode | hcode | hcode | hcode | hcode | hcode | hcode | hcode | hcode <;> rw [hcode] at hA hB hC ⊢
  · exact sW_lw h hi hx
  · exact sW_lw h hi hx
  · obtain ⟨bb, hb, e⟩ := op_4 hB
    refine sW_mk h hi hx ?_
    rw [e, nI_clamp (by omega)]; exact hb
  · exact hR
  · exact hR
  · obtain ⟨bb, hb, e⟩ := op_1 hB
    refine sW_fw h hi hx ⟨hxa.1, hxa.2.1, hxa.2.2.1, ?_⟩
    show (if _ then (s_ins S q).2.2.1.toNatClampNeg else x.2.2.2.2) ≤ 10
    rw [e, nI_clamp (by omega)]
    split
    · omega
    · exact hxa.2.2.2
  · obtain ⟨aa, ha, e⟩ := op_2 hA
    obtain ⟨cy, hc, e2⟩ := op_0 hC
    refine sW_cal h hi hne ?_ ?_
    · rw [e, nI_clamp (by omega)]; exact ha
    · rw [e2, nI_clamp (by omega)]; exact hc
  · obtain ⟨aa, ha, e⟩ := op_3 hA
    obtain ⟨cy, hc, e2⟩ := op_0 hC
    refine sW_cal h hi hne ?_ ?_
    · rw [e, nI_clamp (by omega)]; exact h.2.2.2.2.2.2.2 aa ha
    · rw [e2, nI_clamp (by omega)]; exact hc
  · obtain ⟨bb, hb, e⟩ := op_2 hB
    obtain ⟨h1, h2, h3, h4, h5, h6, h7, h8⟩ := h
    refine ⟨h1, h2, h3, h4, h5, h6, h7, fun k hk => ?_⟩
    show sup (s_t S) _ _ k < 5
    unfold sup
    split
    · rw [e, nI_clamp (by omega)]; exact hb
    · exact h8 k hk
  · exact sW_gb h hi
  · exact sW_out h hn
  · have h3 := h.2.2.1 i hi
    exact sW_st h (by decide) h3.2.1 (fun n t ht => h3.2.2 n t ht) ⟨fun _ => hne, fun _ => rfl⟩
/-- queue and changes, with one more where a watch may ask -/
def s_cq (S : sSt) : Nat := (s_q S).length + (if s_w S = true then 1 else 0)
def s_cc (S : sSt) : Nat := (s_c S).length + (if s_w S = true then 1 else 0)
/-- what an instruction but OUT leaves as it was -/
def s_kq (S F : sSt) : Prop := s_q F = s_q S ∧ s_c F = s_c S ∧ s_w F = s_w S ∧ s_u F = s_u S ∧ s_k F = s_k S ∧ s_n F = s_n S ∧ s_v F = s_v S ∧ s_p F = s_p S ∧ s_i F = s_i S ∧ s_l F = s_l S
theorem kq_acR {S : sSt} {i j : Nat} {x : sFr} {I : sIns} : s_kq S (s_acR S i j x I) := by
  have h0 : ∀ o a, s_kq S (s_cto S o a) := fun o a => by
    unfold s_cto
    cases (s_o S)[o]? <;> exact ⟨rfl, rfl, rfl, rfl, rfl, rfl, rfl, rfl, rfl, rfl⟩
  have he : s_kq S (s_end S i 102) := ⟨rfl, rfl, rfl, rfl, rfl, rfl, rfl, rfl, rfl, rfl⟩
  have h1 : ∀ g aa ff o, s_kq S (s_rch S i j x g aa ff o) := fun g aa ff o => by
    unfold s_rch
    split
    · split
      · exact h0 o x.1
      · exact h0 o x.1
    · exact ⟨rfl, rfl, rfl, rfl, rfl, rfl, rfl, rfl, rfl, rfl⟩
  unfold s_acR
  split
  · split
    · split
      · exact h1 _ _ _ _
      · exact he
    · exact he
  · exact he
theorem kq_gb {S : sSt} {i : Nat} {r : Int32} : s_kq S (s_gb S i r) := by
  unfold s_gb
  split
  · exact ⟨rfl, rfl, rfl, rfl, rfl, rfl, rfl, rfl, rfl, rfl⟩
  · split
    · exact ⟨rfl, rfl, rfl, rfl, rfl, rfl, rfl, rfl, rfl, rfl⟩
    · exact ⟨rfl, rfl, rfl, rfl, rfl, rfl, rfl, rfl, rfl, rfl⟩
theorem kq_mk {S : sSt} {i j : Nat} {x : sFr} {k aa : Nat} : s_kq S (s_mk S i j x k aa) := by
  unfold s_mk
  split <;> exact ⟨rfl, rfl, rfl, rfl, rfl, rfl, rfl, rfl, rfl, rfl⟩
theorem kq_cal {S : sSt} {i fn : Nat} {arg : Int32} {into : Nat} : s_kq S (s_cal S i fn arg into) := by
  unfold s_cal
  split <;> exact ⟨rfl, rfl, rfl, rfl, rfl, rfl, rfl, rfl, rfl, rfl⟩
/-- what an instruction may add -/
def s_ad (S F : sSt) : Prop := s_cq F ≤ s_cq S ∧ s_cc F ≤ s_cc S ∧ s_n F = s_n S ∧ (s_u F).length ≤ (s_u S).length + 1 ∧ s_k S ≤ s_k F ∧ (sWk S → sWk F) ∧ s_v F = s_v S ∧ s_p F = s_p S ∧ s_i F = s_i S ∧ (s_q F).length ≤ (s_q S).length + 1 ∧ (s_c F).length ≤ (s_c S).length + 1
theorem s_kq.ad {S F : sSt} (h : s_kq S F) : s_ad S F := by
  obtain ⟨h1, h2, h3, h4, h5, h6, h7, h8, h9, h10⟩ := h
  unfold s_ad s_cq s_cc sWk
  rw [h1, h2, h3, h4, h5]
  exact ⟨Nat.le_refl _, Nat.le_refl _, h6, Nat.le_succ _, Nat.le_refl _, id, h7, h8, h9, Nat.le_succ _, Nat.le_succ _⟩
theorem gr_k {S : sSt} (h : sWk S) : (s_u S).length + 1 ≤ s_gr S ∧ (s_gr S = 0 ∨ 10 ≤ s_gr S) ∧ s_gr S ≤ 10 + 2 * ((s_u S).length + 1) := by
  obtain ⟨h1, h2, h3⟩ := h
  unfold s_gr jgw
  by_cases e : (s_u S).length = s_k S
  · rw [if_pos e]
    by_cases e0 : s_k S = 0
    · rw [if_pos e0]; omega
    · rw [if_neg e0]; omega
  · rw [if_neg e]; omega
theorem gr_ge {S : sSt} : s_k S ≤ s_gr S := by
  unfold s_gr jgw
  split
  · split <;> omega
  · exact Nat.le_refl _
theorem out_ad {S : sSt} {v : Nat} {a : Int32} : s_ad S (s_out S v a) := by
  have hu : ∀ F : sSt, s_u F = s_u S ++ [(a, v)] → s_k F = s_gr S → (s_u F).length ≤ (s_u S).length + 1 ∧ s_k S ≤ s_k F ∧ (sWk S → sWk F) := fun F h1 h2 => by
    unfold sWk
    rw [h1, h2, List.length_append]
    exact ⟨Nat.le_refl _, gr_ge, fun h => gr_k h⟩
  unfold s_out
  by_cases h1 : s_asks S a = true
  · have hw : s_w S = true := by
      unfold s_asks at h1
      exact (Bool.and_eq_true_iff.mp h1).1
    rw [if_pos h1]
    by_cases h2 : 0 < s_p S
    · rw [if_pos h2]
      obtain ⟨g1, g2, g3⟩ := hu (s_ask (sw_w (sw_u S (s_u S ++ [(a, v)]) (s_gr S)) false) 111 true false 50 0) rfl rfl
      refine ⟨?_, ?_, rfl, g1, g2, g3, rfl, rfl, rfl, ?_, ?_⟩
      · unfold s_cq
        rw [hw]
        show ((s_q S).take 0 ++ (s_c S).length :: (s_q S).drop 0).length + (if false = true then 1 else 0) ≤ _
        rw [List.length_append, List.length_cons, List.length_take, List.length_drop]
        simp only [Bool.false_eq_true, if_false, if_true]
        omega
      · unfold s_cc
        rw [hw]
        show (s_c S ++ [_]).length + (if false = true then 1 else 0) ≤ _
        rw [List.length_append]
        simp only [Bool.false_eq_true, if_false, if_true]
        exact Nat.le_refl _
      · show ((s_q S).take 0 ++ (s_c S).length :: (s_q S).drop 0).length ≤ _
        rw [List.length_append, List.length_cons, List.length_take, List.length_drop]
        omega
      · show (s_c S ++ [_]).length ≤ _
        rw [List.length_append]
        exact Nat.le_refl _
    · rw [if_neg h2]
      obtain ⟨g1, g2, g3⟩ := hu (sw_w (sw_u S (s_u S ++ [(a, v)]) (s_gr S)) false) rfl rfl
      refine ⟨?_, ?_, rfl, g1, g2, g3, rfl, rfl, rfl, Nat.le_succ _, Nat.le_succ _⟩
      · unfold s_cq
        rw [hw]
        show (s_q S).length + (if false = true then 1 else 0) ≤ _
        simp only [Bool.false_eq_true, if_false, if_true]
        omega
      · unfold s_cc
        rw [hw]
        show (s_c S).length + (if false = true then 1 else 0) ≤ _
        simp only [Bool.false_eq_true, if_false, if_true]
        omega
  · rw [if_neg h1]
    obtain ⟨g1, g2, g3⟩ := hu (sw_u S (s_u S ++ [(a, v)]) (s_gr S)) rfl rfl
    exact ⟨Nat.le_refl _, Nat.le_refl _, rfl, g1, g2, g3, rfl, rfl, rfl, Nat.le_succ _, Nat.le_succ _⟩
theorem act_ad {S : sSt} {i j : Nat} {x : sFr} {I : sIns} : s_ad S (s_act S i j x I) := by
  unfold s_act
  split
  · exact s_kq.ad ⟨rfl, rfl, rfl, rfl, rfl, rfl, rfl, rfl, rfl, rfl⟩
  · exact s_kq.ad ⟨rfl, rfl, rfl, rfl, rfl, rfl, rfl, rfl, rfl, rfl⟩
  · exact kq_mk.ad
  · exact kq_acR.ad
  · exact kq_acR.ad
  · exact s_kq.ad ⟨rfl, rfl, rfl, rfl, rfl, rfl, rfl, rfl, rfl, rfl⟩
  · exact kq_cal.ad
  · exact kq_cal.ad
  · exact s_kq.ad ⟨rfl, rfl, rfl, rfl, rfl, rfl, rfl, rfl, rfl, rfl⟩
  · exact kq_gb.ad
  · exact out_ad
  · exact s_kq.ad ⟨rfl, rfl, rfl, rfl, rfl, rfl, rfl, rfl, rfl, rfl⟩
