/-! an instruction's doing, all codes in one -/
theorem jM.up {l : Launch} {y : MethodName} {ws : List Cond} {d mc ms d2 mc2 ms2 : Nat} {D : va_G} {s0 : State} {b0 : Nat} {A : Nat → Prop} {G : jG} {As : List Value} {post : Option Value → jG → Prop} (h : jM l y ws (jR d mc ms) D s0 b0 A G As post) (hd : d ≤ d2) (hc : mc ≤ mc2) (hs : ms ≤ ms2) : jM l y ws (jR d2 mc2 ms2) D s0 b0 A G As post := by
  intro p e ha hcs hk s m args below hf happ hP hK
  obtain ⟨a1, a2, a3, a4, a5, a6, a7, a8⟩ := (Spec.appliesLoose_iff hf).mp happ
  have a7' : s.hasRoom e.platform (jR d mc ms) = true := by
    have a9 : s.hasRoom e.platform (jR d2 mc2 ms2) = true := a7
    simp only [State.hasRoom, Bool.and_eq_true, decide_eq_true_eq] at a9 ⊢
    obtain ⟨⟨⟨⟨y1, b1, b2, b3, b4, b5⟩, b6⟩, b7⟩, b8⟩ := a9
    exact ⟨⟨⟨⟨by omega, by omega, by omega, by omega, by omega, b5⟩, by omega⟩, by omega⟩, b8⟩
  obtain ⟨n, o, h1, h2, h3, h4, L, hF, hL⟩ := h p e ha hcs hk s m args below hf ((Spec.appliesLoose_iff hf).mpr ⟨a1, a2, a3, a4, a5, a6, a7', a8⟩) hP hK
  exact ⟨n, o, h1, h2, h3, h4, L, ⟨hF.1, hF.2.1, hF.2.2.mono hc hs⟩, hL⟩
theorem op_in {x M : Int32} {n : Nat} (hM : M.toInt = n) (h : (0 : Int32) ≤ x ∧ x ≤ M) : ∃ a, a < n + 1 ∧ x = nI a := by
  obtain ⟨a, ha, e⟩ := nI_of2 hM (Int32.not_lt.mpr h.1) h.2
  exact ⟨a, by omega, e⟩
theorem op_0 {x : Int32} (h : sOp 0 x = true) : ∃ a, a < 4 ∧ x = nI a := op_in (M := 3) (n := 3) rfl (of_decide_eq_true h)
theorem op_1 {x : Int32} (h : sOp 1 x = true) : ∃ a, a < 11 ∧ x = nI a := op_in (M := 10) (n := 10) rfl (of_decide_eq_true h)
theorem op_2 {x : Int32} (h : sOp 2 x = true) : ∃ a, a < 5 ∧ x = nI a := op_in (M := 4) (n := 4) rfl (of_decide_eq_true h)
theorem op_3 {x : Int32} (h : sOp 3 x = true) : ∃ a, a < 4 ∧ x = nI a := op_in (M := 3) (n := 3) rfl (of_decide_eq_true h)
theorem op_4 {x : Int32} (h : sOp 4 x = true) : ∃ a, a < 3 ∧ x = nI a := op_in (M := 2) (n := 2) rfl (of_decide_eq_true h)
theorem i32_div {x : Int32} (h : 0 ≤ x) : ∃ n : Nat, n < 2 ^ 31 ∧ x = nI n ∧ x / 10 = nI (n / 10) ∧ x - x / 10 * 10 = nI (n % 10) := by
  obtain ⟨n, hn, e⟩ := nI_of (Int32.not_lt.mpr h)
  have e1 : x / 10 = nI (n / 10) := by
    subst e
    refine Int32.toInt_inj.mp ?_
    rw [Int32.toInt_div_of_ne_right _ _ (by decide), nI_toInt hn, nI_toInt (by omega), show (10 : Int32).toInt = ((10 : Nat) : Int) from rfl, ← Int.ofNat_tdiv]
  refine ⟨n, hn, e, e1, ?_⟩
  rw [e1, e]
  have e2 : nI (n / 10) * 10 = nI (n / 10 * 10) := (Int32.ofNat_mul (n / 10) 10).symm
  rw [e2]
  have e3 : nI n = nI (n % 10) + nI (n / 10 * 10) := by
    rw [nI_add]
    congr 1
    omega
  rw [e3, Int32.add_sub_cancel]
theorem op_5 {x : Int32} (h : sOp 5 x = true) : ∃ kk ff, kk < 3 ∧ ff < 4 ∧ x / 10 = nI kk ∧ x - x / 10 * 10 = nI ff := by
  obtain ⟨h1, h2, h3⟩ := of_decide_eq_true h
  obtain ⟨n, hn, e, e1, e2⟩ := i32_div h1
  refine ⟨n / 10, n % 10, ?_, ?_, e1, e2⟩
  · rw [e1] at h2
    have := (nI_leI (b := 2) (by omega) (by omega)).mp h2.2
    omega
  · rw [e2] at h3
    exact (nI_ltI (b := 4) (by omega) (by omega)).mp h3
/-- a look into an object -/
def s_acR (S : sSt) (i j : Nat) (x : sFr) (I : sIns) : sSt := if 0 ≤ x.2.2.2.1 I.2.2.2.toNatClampNeg then match (s_o S)[(x.2.2.2.1 I.2.2.2.toNatClampNeg).toNatClampNeg]? with
  | some t => if t.2.1 = (I.2.2.1 / 10).toNatClampNeg ∧ (I.2.2.1 - I.2.2.1 / 10 * 10).toNatClampNeg < (s_ver S x.1).2.1 (I.2.2.1 / 10).toNatClampNeg then s_rch S i j x (decide (I.1 = 3)) I.2.1.toNatClampNeg (I.2.2.1 - I.2.2.1 / 10 * 10).toNatClampNeg (x.2.2.2.1 I.2.2.2.toNatClampNeg).toNatClampNeg else s_end S i 102
  | none => s_end S i 102 else s_end S i 102
/-- what an instruction does -/
def s_act (S : sSt) (i j : Nat) (x : sFr) (I : sIns) : sSt := match I.1 with
  | 0 => s_lw S i j x (upd x.2.2.2.1 I.2.1.toNatClampNeg I.2.2.1)
  | 1 => s_lw S i j x (upd x.2.2.2.1 I.2.1.toNatClampNeg (x.2.2.2.1 I.2.1.toNatClampNeg + x.2.2.2.1 I.2.2.1.toNatClampNeg))
  | 2 => s_mk S i j x I.2.2.1.toNatClampNeg I.2.1.toNatClampNeg
  | 3 => s_acR S i j x I
  | 4 => s_acR S i j x I
  | 5 => s_fw S i j (x.1, x.2.1, x.2.2.1, x.2.2.2.1, if 0 < x.2.2.2.1 I.2.1.toNatClampNeg then I.2.2.1.toNatClampNeg else x.2.2.2.2)
  | 6 => s_cal S i I.2.1.toNatClampNeg (x.2.2.2.1 I.2.2.1.toNatClampNeg) I.2.2.2.toNatClampNeg
  | 7 => s_cal S i (s_t S I.2.1.toNatClampNeg) (x.2.2.2.1 I.2.2.1.toNatClampNeg) I.2.2.2.toNatClampNeg
  | 8 => sw_t S (sup (s_t S) I.2.1.toNatClampNeg I.2.2.1.toNatClampNeg)
  | 9 => s_gb S i (x.2.2.2.1 I.2.1.toNatClampNeg)
  | 10 => s_out S x.1 (x.2.2.2.1 I.2.1.toNatClampNeg)
  | _ => s_st S i 119

/-- the growth of the puts' list is paid by its capacity's growth -/
def sWk (S : sSt) : Prop := (s_u S).length ≤ s_k S ∧ (s_k S = 0 ∨ 10 ≤ s_k S) ∧ s_k S ≤ 10 + 2 * (s_u S).length
theorem gw_le {c : Nat} (h : c = 0 ∨ 10 ≤ c) : jgw c (c + 1) ≤ 4 * (jgw c (c + 1) - c) := by
  unfold jgw
  by_cases h0 : c = 0
  · rw [if_pos h0]; omega
  · rw [if_neg h0]; omega
theorem out_k {S : sSt} {v : Nat} {a : Int32} : s_k (s_out S v a) = s_gr S := by
  unfold s_out
  by_cases h : s_asks S a = true
  · rw [if_pos h]
    by_cases h2 : 0 < s_p S
    · rw [if_pos h2]; rfl
    · rw [if_neg h2]
  · rw [if_neg h]

set_option maxHeartbeats 4000000 in
set_option maxRecDepth 100000 in
theorem met_act (l : Launch) (D : va_G) (s0 : State) (b0 : Nat) (A : Nat → Prop) (G : jG) (S : sSt) (ad : jN) (T : jT) (hR : jCo D s0 b0 S ad T G) (hi : sWi S) (hv : sWv S) (hs : sWs S) (ho : sWo S) (hW : ∀ q ∈ s_q S, q < (s_c S).length) (hk : sWk S) (hk13 : s_k S < 13000) (hcl : (s_c S).length < 100) (hql : (s_q S).length < 100) (hpp : s_p S < 100) (i j : Nat) (x : sFr) (hi3 : i < 3) (hx : (s_s S i).2[j]? = some x) (q : Nat) (hq : q < (s_i S).length) :
    jM l yX1_act (ws_ yX1_act cX1_act 5 none) (jR 10 5 (400 + 4 * (s_k (s_act S i j x (s_ins S q)) - s_k S))) D s0 b0 A G [.ref (ad 1 0 0), .ref (ad 5 i 0), .ref (ad 8 i j), .ref (ad 20 q 0)] (fun w G1 => w = none ∧ ∃ (ad1 : jN) (T1 : jT), jCo D s0 b0 (s_act S i j x (s_ins S q)) ad1 T1 G1 ∧ jFm 1 30 T G T1 G1 ∧ ∀ k i j, k < 8 → ad1 k i j = ad k i j) := by
  obtain ⟨hc12, hA, hB, hC⟩ := hi q hq
  have hne : 0 < (s_s S i).2.length := by have := lt_ofl hx; omega
  have h12 : (s_ins S q).1 = 0 ∨ (s_ins S q).1 = 1 ∨ (s_ins S q).1 = 2 ∨ (s_ins S q).1 = 3 ∨ (s_ins S q).1 = 4 ∨ (s_ins S q).1 = 5 ∨ (s_ins S q).1 = 6 ∨ (s_ins S q).1 = 7 ∨ (s_ins S q).1 = 8 ∨ (s_ins S q).1 = 9 ∨ (s_ins S q).1 = 10 ∨ (s_ins S q).1 = 11 := by omega
  rcases h12 with hcode | hcode | hcode | hcode | hcode | hcode | hcode | hcode | hcode | hcode | hcode | hcode
  · -- code 0
    rw [hcode] at hA hB hC
    obtain ⟨aa, ha4, haa⟩ := op_0 hA
    have ea : (s_ins S q).2.1.toNatClampNeg = aa := by rw [haa]; exact nI_clamp (by omega)
    refine ((met_act0 l D s0 b0 A G S ad T hR i j x hi3 hx q hq hcode aa haa ha4).le ?_).up (by decide) (by decide) (by show 0 ≤ _; omega)
    intro w G1 hp
    obtain ⟨rfl, h1, h2⟩ := hp
    refine ⟨rfl, ad, T, ?_, h2, fun _ _ _ _ => rfl⟩
    unfold s_act
    rw [hcode]
    show jCo D s0 b0 (s_lw S i j x (upd x.2.2.2.1 (s_ins S q).2.1.toNatClampNeg (s_ins S q).2.2.1)) _ _ _
    rw [ea]
    exact h1
  · -- code 1
    rw [hcode] at hA hB hC
    obtain ⟨aa, ha4, haa⟩ := op_0 hA
    obtain ⟨bb, hb4, hbb⟩ := op_0 hB
    have ea : (s_ins S q).2.1.toNatClampNeg = aa := by rw [haa]; exact nI_clamp (by omega)
    have eb : (s_ins S q).2.2.1.toNatClampNeg = bb := by rw [hbb]; exact nI_clamp (by omega)
    refine ((met_act1 l D s0 b0 A G S ad T hR i j x hi3 hx q hq hcode aa haa ha4 bb hbb hb4).le ?_).up (by decide) (by decide) (by show 0 ≤ _; omega)
    intro w G1 hp
    obtain ⟨rfl, h1, h2⟩ := hp
    refine ⟨rfl, ad, T, ?_, h2, fun _ _ _ _ => rfl⟩
    unfold s_act
    rw [hcode]
    show jCo D s0 b0 (s_lw S i j x (upd x.2.2.2.1 (s_ins S q).2.1.toNatClampNeg (x.2.2.2.1 (s_ins S q).2.1.toNatClampNeg + x.2.2.2.1 (s_ins S q).2.2.1.toNatClampNeg))) _ _ _
    rw [ea, eb]
    exact h1
  · -- code 2
    rw [hcode] at hA hB hC
    obtain ⟨aa, ha4, haa⟩ := op_0 hA
    obtain ⟨bb, hb4, hbb⟩ := op_4 hB
    have ea : (s_ins S q).2.1.toNatClampNeg = aa := by rw [haa]; exact nI_clamp (by omega)
    have eb : (s_ins S q).2.2.1.toNatClampNeg = bb := by rw [hbb]; exact nI_clamp (by omega)
    refine ((met_act2 l D s0 b0 A G S ad T hR hv hs ho i j x hi3 hx q hq hcode aa bb haa hbb ha4 hb4).le ?_).up (by decide) (by decide) (by show 50 ≤ _; omega)
    intro w G1 hp
    obtain ⟨rfl, ad1, T1, h1, h2, h3⟩ := hp
    refine ⟨rfl, ad1, T1, ?_, h2, fun k i' j' hk => h3 k i' j' (by omega)⟩
    unfold s_act
    rw [hcode]
    show jCo D s0 b0 (s_mk S i j x (s_ins S q).2.2.1.toNatClampNeg (s_ins S q).2.1.toNatClampNeg) _ _ _
    rw [ea, eb]
    exact h1
  · -- code 3
    rw [hcode] at hA hB hC
    obtain ⟨aa, ha4, haa⟩ := op_0 hA
    obtain ⟨kk, ff, hkk, hff, hb1, hb2⟩ := op_5 hB
    obtain ⟨cy, hc4, hcy⟩ := op_0 hC
    have ea : (s_ins S q).2.1.toNatClampNeg = aa := by rw [haa]; exact nI_clamp (by omega)
    have ec : (s_ins S q).2.2.2.toNatClampNeg = cy := by rw [hcy]; exact nI_clamp (by omega)
    have ek : ((s_ins S q).2.2.1 / 10).toNatClampNeg = kk := by rw [hb1]; exact nI_clamp (by omega)
    have ef : ((s_ins S q).2.2.1 - (s_ins S q).2.2.1 / 10 * 10).toNatClampNeg = ff := by rw [hb2]; exact nI_clamp (by omega)
    have eS : s_act S i j x (s_ins S q) = s_acR S i j x (s_ins S q) := by unfold s_act; rw [hcode]; rfl
    have no : (¬ ∃ o t, x.2.2.2.1 cy = nI o ∧ (s_o S)[o]? = some t ∧ t.2.1 = kk ∧ ff < (s_ver S x.1).2.1 kk) → s_acR S i j x (s_ins S q) = s_end S i 102 → _ := fun hno e9 => ((met_act3No l D s0 b0 A G S ad T hR hv hs ho i j x hi3 hx q hq hcode aa cy kk ff haa hcy ha4 hc4 hb1 hb2 hkk hff hno).le (post' := fun w G1 => w = none ∧ ∃ (ad1 : jN) (T1 : jT), jCo D s0 b0 (s_act S i j x (s_ins S q)) ad1 T1 G1 ∧ jFm 1 30 T G T1 G1 ∧ ∀ k i j, k < 8 → ad1 k i j = ad k i j) (fun w G1 hp => by
      obtain ⟨rfl, T1, h1, h2⟩ := hp
      exact ⟨rfl, ad, T1, by rw [eS, e9]; exact h1, h2, fun _ _ _ _ => rfl⟩)).up (d2 := 10) (mc2 := 5) (ms2 := 400 + 4 * (s_k (s_act S i j x (s_ins S q)) - s_k S)) (by decide) (by decide) (Nat.zero_le _)
    by_cases h0 : 0 ≤ x.2.2.2.1 cy
    · obtain ⟨o, ho31, hnum⟩ := nI_of (Int32.not_lt.mpr h0)
      have eo : (x.2.2.2.1 cy).toNatClampNeg = o := by rw [hnum]; exact nI_clamp ho31
      cases ht : (s_o S)[o]? with
      | none => exact no (fun ⟨o2, t, z1, z2, _⟩ => by
          have z3 := lt_ofl z2
          have z4 := ho.1
          have : o2 = o := (nI_eq (by omega) ho31).mp (z1.symm.trans hnum)
          rw [this, ht] at z2; cases z2) (by unfold s_acR; rw [ec, if_pos h0, eo, ht])
      | some t =>
        by_cases hg : t.2.1 = kk ∧ ff < (s_ver S x.1).2.1 kk
        · refine ((met_act3 l D s0 b0 A G S ad T hR hv hs ho i j x hi3 hx q hq hcode aa cy kk ff haa hcy ha4 hc4 hb1 hb2 hkk hff o t hnum ht hg.1 hg.2).le ?_).up (by decide) (by decide) (by show 20 ≤ _; omega)
          intro w G1 hp
          obtain ⟨rfl, ad1, T1, h1, h2, h3⟩ := hp
          refine ⟨rfl, ad1, T1, ?_, h2, fun k i' j' hk => h3 k i' j' (by omega)⟩
          rw [eS, show s_acR S i j x (s_ins S q) = s_rch S i j x (decide ((s_ins S q).1 = 3)) aa ff o from by unfold s_acR; rw [ec, if_pos h0, eo, ht]; show (if t.2.1 = ((s_ins S q).2.2.1 / 10).toNatClampNeg ∧ _ then _ else _) = _; rw [ek, ef, if_pos hg, ea]]
          exact h1
        · exact no (fun ⟨o2, t2, z1, z2, z3, z4⟩ => by
            have z5 := lt_ofl z2
            have z6 := ho.1
            have : o2 = o := (nI_eq (by omega) ho31).mp (z1.symm.trans hnum)
            rw [this, ht] at z2; cases z2
            exact hg ⟨z3, z4⟩) (by unfold s_acR; rw [ec, if_pos h0, eo, ht]; show (if t.2.1 = ((s_ins S q).2.2.1 / 10).toNatClampNeg ∧ _ then _ else _) = _; rw [ek, ef, if_neg hg])
    · exact no (fun ⟨o2, t2, z1, z2, _⟩ => by
        have z5 := lt_ofl z2
        have z6 := ho.1
        exact h0 (by rw [z1]; exact nI_pos' (by omega))) (by unfold s_acR; rw [ec, if_neg h0])
  · -- code 4
    rw [hcode] at hA hB hC
    obtain ⟨aa, ha4, haa⟩ := op_0 hA
    obtain ⟨kk, ff, hkk, hff, hb1, hb2⟩ := op_5 hB
    obtain ⟨cy, hc4, hcy⟩ := op_0 hC
    have ea : (s_ins S q).2.1.toNatClampNeg = aa := by rw [haa]; exact nI_clamp (by omega)
    have ec : (s_ins S q).2.2.2.toNatClampNeg = cy := by rw [hcy]; exact nI_clamp (by omega)
    have ek : ((s_ins S q).2.2.1 / 10).toNatClampNeg = kk := by rw [hb1]; exact nI_clamp (by omega)
    have ef : ((s_ins S q).2.2.1 - (s_ins S q).2.2.1 / 10 * 10).toNatClampNeg = ff := by rw [hb2]; exact nI_clamp (by omega)
    have eS : s_act S i j x (s_ins S q) = s_acR S i j x (s_ins S q) := by unfold s_act; rw [hcode]; rfl
    have no : (¬ ∃ o t, x.2.2.2.1 cy = nI o ∧ (s_o S)[o]? = some t ∧ t.2.1 = kk ∧ ff < (s_ver S x.1).2.1 kk) → s_acR S i j x (s_ins S q) = s_end S i 102 → _ := fun hno e9 => ((met_act4No l D s0 b0 A G S ad T hR hv hs ho i j x hi3 hx q hq hcode aa cy kk ff haa hcy ha4 hc4 hb1 hb2 hkk hff hno).le (post' := fun w G1 => w = none ∧ ∃ (ad1 : jN) (T1 : jT), jCo D s0 b0 (s_act S i j x (s_ins S q)) ad1 T1 G1 ∧ jFm 1 30 T G T1 G1 ∧ ∀ k i j, k < 8 → ad1 k i j = ad k i j) (fun w G1 hp => by
      obtain ⟨rfl, T1, h1, h2⟩ := hp
      exact ⟨rfl, ad, T1, by rw [eS, e9]; exact h1, h2, fun _ _ _ _ => rfl⟩)).up (d2 := 10) (mc2 := 5) (ms2 := 400 + 4 * (s_k (s_act S i j x (s_ins S q)) - s_k S)) (by decide) (by decide) (Nat.zero_le _)
    by_cases h0 : 0 ≤ x.2.2.2.1 cy
    · obtain ⟨o, ho31, hnum⟩ := nI_of (Int32.not_lt.mpr h0)
      have eo : (x.2.2.2.1 cy).toNatClampNeg = o := by rw [hnum]; exact nI_clamp ho31
      cases ht : (s_o S)[o]? with
      | none => exact no (fun ⟨o2, t, z1, z2, _⟩ => by
          have z3 := lt_ofl z2
          have z4 := ho.1
          have : o2 = o := (nI_eq (by omega) ho31).mp (z1.symm.trans hnum)
          rw [this, ht] at z2; cases z2) (by unfold s_acR; rw [ec, if_pos h0, eo, ht])
      | some t =>
        by_cases hg : t.2.1 = kk ∧ ff < (s_ver S x.1).2.1 kk
        · refine ((met_act4 l D s0 b0 A G S ad T hR hv hs ho i j x hi3 hx q hq hcode aa cy kk ff haa hcy ha4 hc4 hb1 hb2 hkk hff o t hnum ht hg.1 hg.2).le ?_).up (by decide) (by decide) (by show 20 ≤ _; omega)
          intro w G1 hp
          obtain ⟨rfl, ad1, T1, h1, h2, h3⟩ := hp
          refine ⟨rfl, ad1, T1, ?_, h2, fun k i' j' hk => h3 k i' j' (by omega)⟩
          rw [eS, show s_acR S i j x (s_ins S q) = s_rch S i j x (decide ((s_ins S q).1 = 3)) aa ff o from by unfold s_acR; rw [ec, if_pos h0, eo, ht]; show (if t.2.1 = ((s_ins S q).2.2.1 / 10).toNatClampNeg ∧ _ then _ else _) = _; rw [ek, ef, if_pos hg, ea]]
          exact h1
        · exact no (fun ⟨o2, t2, z1, z2, z3, z4⟩ => by
            have z5 := lt_ofl z2
            have z6 := ho.1
            have : o2 = o := (nI_eq (by omega) ho31).mp (z1.symm.trans hnum)
            rw [this, ht] at z2; cases z2
            exact hg ⟨z3, z4⟩) (by unfold s_acR; rw [ec, if_pos h0, eo, ht]; show (if t.2.1 = ((s_ins S q).2.2.1 / 10).toNatClampNeg ∧ _ then _ else _) = _; rw [ek, ef, if_neg hg])
    · exact no (fun ⟨o2, t2, z1, z2, _⟩ => by
        have z5 := lt_ofl z2
        have z6 := ho.1
        exact h0 (by rw [z1]; exact nI_pos' (by omega))) (by unfold s_acR; rw [ec, if_neg h0])
  · -- code 5
    rw [hcode] at hA hB hC
    obtain ⟨aa, ha4, haa⟩ := op_0 hA
    obtain ⟨bb, hb4, hbb⟩ := op_1 hB
    have ea : (s_ins S q).2.1.toNatClampNeg = aa := by rw [haa]; exact nI_clamp (by omega)
    have eb : (s_ins S q).2.2.1.toNatClampNeg = bb := by rw [hbb]; exact nI_clamp (by omega)
    refine ((met_act5 l D s0 b0 A G S ad T hR i j x hi3 hx q hq hcode aa haa ha4 bb hbb hb4).le ?_).up (by decide) (by decide) (by show 0 ≤ _; omega)
    intro w G1 hp
    obtain ⟨rfl, h1, h2⟩ := hp
    refine ⟨rfl, ad, T, ?_, h2, fun _ _ _ _ => rfl⟩
    unfold s_act
    rw [hcode]
    show jCo D s0 b0 (s_fw S i j (x.1, x.2.1, x.2.2.1, x.2.2.2.1, if 0 < x.2.2.2.1 (s_ins S q).2.1.toNatClampNeg then (s_ins S q).2.2.1.toNatClampNeg else x.2.2.2.2)) _ _ _
    rw [ea, eb]
    exact h1
  · -- code 6
    rw [hcode] at hA hB hC
    obtain ⟨aa, ha4, haa⟩ := op_2 hA
    obtain ⟨bb, hb4, hbb⟩ := op_0 hB
    obtain ⟨cy, hc4, hcy⟩ := op_0 hC
    have ea : (s_ins S q).2.1.toNatClampNeg = aa := by rw [haa]; exact nI_clamp (by omega)
    have eb : (s_ins S q).2.2.1.toNatClampNeg = bb := by rw [hbb]; exact nI_clamp (by omega)
    have ec : (s_ins S q).2.2.2.toNatClampNeg = cy := by rw [hcy]; exact nI_clamp (by omega)
    refine ((met_act6 l D s0 b0 A G S ad T hR hs i j x hi3 hx q hq hcode aa haa ha4 bb hbb hb4 cy hcy hc4).le ?_).up (by decide) (by decide) (by show 19 ≤ _; omega)
    intro w G1 hp
    obtain ⟨rfl, ad1, T1, h1, h2, h3⟩ := hp
    refine ⟨rfl, ad1, T1, ?_, h2, fun k i' j' hk => h3 k i' j' (by omega)⟩
    unfold s_act
    rw [hcode]
    show jCo D s0 b0 (s_cal S i (s_ins S q).2.1.toNatClampNeg (x.2.2.2.1 (s_ins S q).2.2.1.toNatClampNeg) (s_ins S q).2.2.2.toNatClampNeg) _ _ _
    rw [ea, eb, ec]
    exact h1
  · -- code 7
    rw [hcode] at hA hB hC
    obtain ⟨aa, ha4, haa⟩ := op_3 hA
    obtain ⟨bb, hb4, hbb⟩ := op_0 hB
    obtain ⟨cy, hc4, hcy⟩ := op_0 hC
    have ea : (s_ins S q).2.1.toNatClampNeg = aa := by rw [haa]; exact nI_clamp (by omega)
    have eb : (s_ins S q).2.2.1.toNatClampNeg = bb := by rw [hbb]; exact nI_clamp (by omega)
    have ec : (s_ins S q).2.2.2.toNatClampNeg = cy := by rw [hcy]; exact nI_clamp (by omega)
    refine ((met_act7 l D s0 b0 A G S ad T hR hs i j x hi3 hx q hq hcode aa haa ha4 bb hbb hb4 cy hcy hc4).le ?_).up (by decide) (by decide) (by show 19 ≤ _; omega)
    intro w G1 hp
    obtain ⟨rfl, ad1, T1, h1, h2, h3⟩ := hp
    refine ⟨rfl, ad1, T1, ?_, h2, fun k i' j' hk => h3 k i' j' (by omega)⟩
    unfold s_act
    rw [hcode]
    show jCo D s0 b0 (s_cal S i (s_t S (s_ins S q).2.1.toNatClampNeg) (x.2.2.2.1 (s_ins S q).2.2.1.toNatClampNeg) (s_ins S q).2.2.2.toNatClampNeg) _ _ _
    rw [ea, eb, ec]
    exact h1
  · -- code 8
    rw [hcode] at hA hB hC
    obtain ⟨aa, ha4, haa⟩ := op_3 hA
    obtain ⟨bb, hb4, hbb⟩ := op_2 hB
    have ea : (s_ins S q).2.1.toNatClampNeg = aa := by rw [haa]; exact nI_clamp (by omega)
    have eb : (s_ins S q).2.2.1.toNatClampNeg = bb := by rw [hbb]; exact nI_clamp (by omega)
    refine ((met_act8 l D s0 b0 A G S ad T hR i j x hi3 hx q hq hcode aa haa ha4 bb hbb hb4).le ?_).up (by decide) (by decide) (by show 0 ≤ _; omega)
    intro w G1 hp
    obtain ⟨rfl, h1, h2⟩ := hp
    refine ⟨rfl, ad, T, ?_, h2, fun _ _ _ _ => rfl⟩
    unfold s_act
    rw [hcode]
    show jCo D s0 b0 (sw_t S (sup (s_t S) (s_ins S q).2.1.toNatClampNeg (s_ins S q).2.2.1.toNatClampNeg)) _ _ _
    rw [ea, eb]
    exact h1
  · -- code 9
    rw [hcode] at hA hB hC
    obtain ⟨aa, ha4, haa⟩ := op_0 hA
    have ea : (s_ins S q).2.1.toNatClampNeg = aa := by rw [haa]; exact nI_clamp (by omega)
    refine ((met_act9 l D s0 b0 A G S ad T hR hs i j x hi3 hx q hq hcode aa haa ha4 hne).le ?_).up (by decide) (by decide) (by show 0 ≤ _; omega)
    intro w G1 hp
    obtain ⟨rfl, T1, h1, h2⟩ := hp
    refine ⟨rfl, ad, T1, ?_, h2, fun _ _ _ _ => rfl⟩
    unfold s_act
    rw [hcode]
    show jCo D s0 b0 (s_gb S i (x.2.2.2.1 (s_ins S q).2.1.toNatClampNeg)) _ _ _
    rw [ea]
    exact h1
  · -- code 10
    rw [hcode] at hA hB hC
    obtain ⟨aa, ha4, haa⟩ := op_0 hA
    have ea : (s_ins S q).2.1.toNatClampNeg = aa := by rw [haa]; exact nI_clamp (by omega)
    have eS : s_act S i j x (s_ins S q) = s_out S x.1 (x.2.2.2.1 aa) := by
      unfold s_act
      rw [hcode]
      show s_out S x.1 (x.2.2.2.1 (s_ins S q).2.1.toNatClampNeg) = _
      rw [ea]
    have ek : s_k (s_act S i j x (s_ins S q)) = s_gr S := by rw [eS]; exact out_k
    have hg9 : (s_u S).length = s_k S → jgw (s_k S) (s_k S + 1) ≤ 4 * (s_gr S - s_k S) := fun z => by
      unfold s_gr
      rw [if_pos z]
      exact gw_le hk.2.1
    rw [ek]
    refine ((met_act10 l D s0 b0 A G S ad T hR i j x hi3 hx q hq hcode aa haa ha4 hW hcl hql hpp hk13 (4 * (s_gr S - s_k S)) 5 (400 + 4 * (s_gr S - s_k S)) hg9 (by decide) (by omega) (fun _ => by decide) (fun _ => by omega)).le ?_)
    intro w G1 hp
    obtain ⟨rfl, ad1, T1, h1, h2, h3⟩ := hp
    refine ⟨rfl, ad1, T1, ?_, h2, fun k i' j' hk => h3 k i' j' (by omega) (by omega)⟩
    rw [eS]
    exact h1
  · -- code 11
    rw [hcode] at hA hB hC
    
    refine ((met_act11 l D s0 b0 A G S ad T hR i j x hi3 hx q hq hcode).le ?_).up (by decide) (by decide) (by show 0 ≤ _; omega)
    intro w G1 hp
    obtain ⟨rfl, h1, h2⟩ := hp
    refine ⟨rfl, ad, T, ?_, h2, fun _ _ _ _ => rfl⟩
    unfold s_act
    rw [hcode]
    show jCo D s0 b0 (s_st S i 119) _ _ _
    exact h1
