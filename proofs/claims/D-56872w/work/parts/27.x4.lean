/-! what holds of a state; readers; touches -/
abbrev s_ins (S : sSt) (q : Nat) : sIns := (s_i S).getD q (0, 0, 0, 0)
def s_fn (S : sSt) (v f : Nat) : List sIns := ((s_ver S v).1 f).map (s_ins S)
def s_kd (S : sSt) (v : Nat) (x : sIns) : Bool := decide (sKi x ≠ -1 ∧ (s_ver S (v + 1)).2.1 (sKi x).toNatClampNeg ≠ (s_ver S v).2.1 (sKi x).toNatClampNeg)
/-- whether a function is touched between version v and v + 1 -/
def s_tch (S : sSt) (v f : Nat) : Bool := !(sLks (s_fn S (v + 1) f) (s_fn S v f)) || (s_fn S (v + 1) f).any (s_kd S v)
/-- the pool: known codes, numbers in their bounds -/
def sWi (S : sSt) : Prop := ∀ q, q < (s_i S).length → (s_ins S q).1 < 12 ∧ sOp (sO1.getD (s_ins S q).1 0) (s_ins S q).2.1 = true ∧ sOp (sO2.getD (s_ins S q).1 0) (s_ins S q).2.2.1 = true ∧ sOp (sO3.getD (s_ins S q).1 0) (s_ins S q).2.2.2 = true
/-- how many fields the other side of a carry has -/
def s_co (S : sSt) (v m : Nat) : Nat := if m % 2 = 0 then (s_ver S (v - 1)).2.1 (m / 2) else (s_ver S v).2.1 (m / 2)
def sWv (S : sSt) : Prop := 2 ≤ (s_v S).length ∧ (s_v S).length ≤ 7 ∧ ∀ v, v < (s_v S).length → (∀ f, f < 5 → ((s_ver S v).1 f).length ≤ 10 ∧ ∀ q ∈ (s_ver S v).1 f, q < (s_i S).length) ∧ (∀ k, k < 3 → 1 ≤ (s_ver S v).2.1 k ∧ (s_ver S v).2.1 k ≤ 4) ∧ (∀ f p, f < 5 → p < 11 → (s_ver S v).2.2.2.2 f p = -1 ∨ ∃ j, j ≤ 10 ∧ (s_ver S v).2.2.2.2 f p = nI j) ∧ (∀ m i, 0 < v → m < 6 → i < s_cl S v m → (s_ver S v).2.2.1 m i = -1 ∨ ∃ j, j < s_co S v m ∧ (s_ver S v).2.2.1 m i = nI j)
theorem sKi_in {x : sIns} (h : sOp (sO2.getD x.1 0) x.2.2.1 = true) (hk : sKi x ≠ -1) : ∃ k, k < 3 ∧ sKi x = nI k := by
  have key : (0 : Int32) ≤ sKi x ∧ sKi x ≤ 2 := by
    unfold sKi at hk ⊢
    by_cases h2 : x.1 = 2
    · rw [if_pos h2]
      rw [h2] at h
      exact of_decide_eq_true h
    · rw [if_neg h2] at hk ⊢
      by_cases h3 : x.1 = 3 ∨ x.1 = 4
      · rw [if_pos h3]
        have h5 : sOp 5 x.2.2.1 = true := by rcases h3 with h3 | h3 <;> rw [h3] at h <;> exact h
        exact (of_decide_eq_true h5).2.1
      · rw [if_neg h3] at hk
        exact absurd rfl hk
  obtain ⟨k, hk, e⟩ := nI_of2 (M := 2) (n := 2) rfl (Int32.not_lt.mpr key.1) key.2
  exact ⟨k, by omega, e⟩
/-- a heap that has more, and all that was -/
def jNw (G G1 : jG) : Prop := ∀ b x, G b = some x → G1 b = some x
theorem jNw.refl {G : jG} : jNw G G := fun _ _ h => h
theorem jNw.trans {G G1 G2 : jG} (h1 : jNw G G1) (h2 : jNw G1 G2) : jNw G G2 := fun b x h => h2 b x (h1 b x h)
theorem jNw.new {G : jG} {n : Nat} {c : jE} (h : G n = none) : jNw G (jup G n c) := fun b x hb => jup_f hb h
theorem jNw.jLS {D : va_G} {s0 : State} {b0 : Nat} {G G1 : jG} {a : Nat} {xs : List Nat} {mo : Int32} {cap ea : Nat} (h : jNw G G1) (hL : jLS D s0 b0 G a xs mo cap ea) : jLS D s0 b0 G1 a xs mo cap ea := by
  obtain ⟨h1, h2, h3, h4⟩ := hL
  refine ⟨h _ _ h1, h2, h3, ?_⟩
  rcases h4 with h4 | ⟨h4, f, h5, h6⟩
  · exact Or.inl h4
  · exact Or.inr ⟨h4, f, h _ _ h5, h6⟩
theorem jRep.nw {D : va_G} {s0 : State} {b0 : Nat} {sh : jPic} {ad : jN} {T : jT} {G G1 : jG} (h : jRep D s0 b0 sh ad T G) (hn : jNw G G1) : jRep D s0 b0 sh ad T G1 :=
  h.los (fun b hb => by
    cases q : G b with
    | none => exact absurd q (h.tag hb)
    | some x => exact hn b x q) (fun b hb => by
    cases q : G b with
    | none => rfl
    | some x => rw [hn b x q] at hb; cases hb)
theorem jNw.fm {lo hi : Nat} {T : jT} {G G1 : jG} (hn : jNw G G1) : jFm lo hi T G T G1 := fun b hb _ => ⟨rfl, by
    cases q : G b with
    | none => exact absurd q hb
    | some x => exact hn b x q⟩
theorem jbz_or0 {a : Bool} : jbz a ||| 0 = jbz a := by cases a <;> decide
theorem jbz_or1 {a : Bool} : jbz a ||| 1 = jbz (a || true) := by cases a <;> decide
theorem any_tk {α : Type} {X : List α} {P : α → Bool} {i : Nat} {x : α} (h : X[i]? = some x) : (X.take (i + 1)).any P = ((X.take i).any P || P x) := by
  rw [List.take_succ, h]
  simp
section JCR
variable {D : va_G} {s0 : State} {b0 : Nat} {S : sSt} {ad : jN} {T : jT} {G : jG} {v f i j k : Nat}
theorem co_x (h : jCo D s0 b0 S ad T G) : G (ad 1 0 0) = some (jo 2 [.ref (ad 2 0 0), .ref (ad 2 1 0), .ref (ad 3 0 0), .ref (ad 2 2 0), .ref (ad 2 3 0), .ref (ad 2 4 0), .ref (ad 4 0 0), .ref (ad 7 (s_m S) 0), .int (nI (s_p S)), .int (s_l S), .int (jbz (s_w S)), .long (lN (s_n S))]) := h.c (k := 1) (i := 0) (j := 0) rfl
theorem co_ver (h : jCo D s0 b0 S ad T G) (hv : v < (s_v S).length) : G (ad 7 v 0) = some (jo 4 [.ref (ad 10 v 0), .ref (ad 12 v 0), .ref (ad 13 v 0), .ref (ad 13 v 1), .ref (ad 14 v 0)]) := h.c (k := 7) (if_pos ⟨hv, rfl⟩)
theorem co_fns (h : jCo D s0 b0 S ad T G) (hv : v < (s_v S).length) : ∃ (mo : Int32) (cap ea : Nat), jLS D s0 b0 G (ad 10 v 0) (s_rg 5 (fun f => ad 11 v f)) mo cap ea ∧ 0 ≤ cap ∧ cap ≤ 200 ∧ (cap ≠ 0 → T ea = (110, v, 0)) := h.l (k := 10) (if_pos ⟨hv, rfl⟩)
theorem co_fn (h : jCo D s0 b0 S ad T G) (hv : v < (s_v S).length) (hf : f < 5) : ∃ (mo : Int32) (cap ea : Nat), jLS D s0 b0 G (ad 11 v f) (((s_ver S v).1 f).map (fun q => ad 20 q 0)) mo cap ea ∧ 0 ≤ cap ∧ cap ≤ 200 ∧ (cap ≠ 0 → T ea = (111, v, f)) := h.l (k := 11) (if_pos ⟨hv, hf⟩)
theorem co_nf (h : jCo D s0 b0 S ad T G) (hv : v < (s_v S).length) : G (ad 12 v 0) = some (ji D 3 (fun q => nI ((s_ver S v).2.1 q))) := h.c (k := 12) (if_pos ⟨hv, rfl⟩)
theorem co_map (h : jCo D s0 b0 S ad T G) (hv : v < (s_v S).length) : G (ad 14 v 0) = some (jq D 104 5 (fun f => some (ad 23 v f))) := h.c (k := 14) (if_pos ⟨hv, rfl⟩)
theorem co_row (h : jCo D s0 b0 S ad T G) (hv : v < (s_v S).length) (hf : f < 5) : G (ad 23 v f) = some (ji D 11 ((s_ver S v).2.2.2.2 f)) := h.c (k := 23) (if_pos ⟨hv, hf⟩)
theorem co_ins (h : jCo D s0 b0 S ad T G) {q : Nat} (hq : q < (s_i S).length) : G (ad 20 q 0) = some (jIn s0 b0 (s_ins S q)) := h.c (k := 20) (i := q) (j := 0) (by
  have e : (s_i S)[q]? = some (s_ins S q) := by rw [List.getElem?_eq_getElem hq]; simp [s_ins, hq]
  show (if 0 = 0 then _ else none) = _
  rw [if_pos rfl, e]
  rfl)
theorem co_vs (h : jCo D s0 b0 S ad T G) : ∃ (mo : Int32) (cap ea : Nat), jLS D s0 b0 G (ad 2 0 0) (s_rg (s_m S) (fun v => ad 7 v 0)) mo cap ea ∧ 0 ≤ cap ∧ cap ≤ 200 ∧ (cap ≠ 0 → T ea = (102, 0, 0)) := h.l (k := 2) (i := 0) (j := 0) rfl
theorem co_tne (h : jCo D s0 b0 S ad T G) {k i j k2 i2 j2 : Nat} {s1 s2 : jSh} (h1 : shC D s0 b0 S ad k i j = some s1) (h2 : shC D s0 b0 S ad k2 i2 j2 = some s2) (hne : ¬ (k = k2 ∧ i = i2 ∧ j = j2)) : ad k i j ≠ ad k2 i2 j2 := fun e => by
  have t1 := h.t h1
  have t2 := h.t h2
  rw [e, t2] at t1
  simp only [Prod.mk.injEq] at t1
  exact hne ⟨t1.1.symm, t1.2.1.symm, t1.2.2.symm⟩
end JCR

set_option maxHeartbeats 4000000 in
set_option maxRecDepth 100000 in
theorem met_touches (l : Launch) (D : va_G) (s0 : State) (b0 : Nat) (A : Nat → Prop) (G : jG) (S : sSt) (ad : jN) (T : jT) (hR : jCo D s0 b0 S ad T G) (hi : sWi S) (hv : sWv S) (v f : Nat) (hv1 : v + 1 < (s_v S).length) (hf : f < 5) : jM l yX3_touches (ws_ yX3_touches cX3_touches 8 (some .boolean)) (jR 5 1 4) D s0 b0 A G [.ref (ad 7 (v + 1) 0), .ref (ad 7 v 0), .int (nI f)] (fun w G1 => w = some (.int (jbz (s_tch S v f))) ∧ jNw G G1) := by
  have hv0 : v < (s_v S).length := by omega
  have hV1 := co_ver hR hv1
  have hV0 := co_ver hR hv0
  obtain ⟨moF1, capF1, eaF1, hF1, -, -, -⟩ := co_fns hR hv1
  obtain ⟨moF0, capF0, eaF0, hF0, -, -, -⟩ := co_fns hR hv0
  obtain ⟨mo1, cap1, ea1, hL1, -, -, -⟩ := co_fn hR hv1 hf
  obtain ⟨mo0, cap0, ea0, hL0, -, -, -⟩ := co_fn hR hv0 hf
  have hxl : (((s_ver S (v + 1)).1 f).map (fun q => ad 20 q 0)).length = ((s_ver S (v + 1)).1 f).length := by simp
  have hfl : (s_fn S (v + 1) f).length = ((s_ver S (v + 1)).1 f).length := by simp [s_fn]
  have hab : ad 11 (v + 1) f ≠ ad 11 v f := co_tne hR (k := 11) (k2 := 11) (if_pos ⟨hv1, hf⟩) (if_pos ⟨hv0, hf⟩) (by omega)
  have hel : ∀ w, w < (s_v S).length → ∀ i q, (((s_ver S w).1 f).map (fun q => ad 20 q 0))[i]? = some q → G q = some (jIn s0 b0 ((s_fn S w f).getD i (0, 0, 0, 0))) ∧ ((s_fn S w f).getD i (0, 0, 0, 0)).1 < 12 := by
    intro w hw i q hq
    rw [List.getElem?_map] at hq
    obtain ⟨q1, hq1, rfl⟩ := Option.map_eq_some_iff.mp hq
    have hqp : q1 < (s_i S).length := (hv.2.2 w hw).1 f hf |>.2 q1 (List.mem_of_getElem? hq1)
    have e : (s_fn S w f).getD i (0, 0, 0, 0) = s_ins S q1 := by rw [List.getD_eq_getElem?_getD, s_fn, List.getElem?_map, hq1]; rfl
    rw [e]
    exact ⟨co_ins hR hqp, (hi _ hqp).1⟩
  
  refine jM.of (by decide +kernel) (own := RX3) rfl (Nat.le_of_ble_eq_true rfl) ?_
  intro p e s m args below meth c hX hr hlk hnm
  have rest : Jg p l e (jR 5 1 4) s m args below meth c (MQ below (jQ D A (fun w G1 => w = some (.int (jbz (s_tch S v f))) ∧ jNw G G1)) args s 1 4 A) D A 8 G 1 4 40 [(4, .int (jbz (!(sLks (s_fn S (v + 1) f) (s_fn S v f))))), (3, .ref (ad 11 (v + 1) f)), (0, .ref (ad 7 (v + 1) 0)), (1, .ref (ad 7 v 0)), (2, .int (nI f))] [] := by
    refine jr_aload_n (i := 3) hX rfl rfl dX3_touches_40 ?_
    refine jr_callF (As := []) (bc1 := (0)) (bs1 := (0)) hX (met_iterator l D s0 b0 A _ (ad 11 (v + 1) f) (((s_ver S (v + 1)).1 f).map (fun q => ad 20 q 0)) mo1 cap1 ea1 hL1) (va_cwF 0 hX.ts (lw_F q916 q853 q855 q68 q857) rfl rfl rfl (hX.S.fw ⟨by decide +kernel, by decide +kernel⟩ q852 q851 q856 q854 q183) (by decide +kernel) ⟨Nat.le_of_ble_eq_true rfl, Nat.le_of_ble_eq_true rfl⟩) hL1.1 rfl rfl (Nat.le_of_ble_eq_true rfl) (by first | omega | (dsimp only; omega) | (show _ ≤ _; simp only []; omega)) (by first | omega | (dsimp only; omega) | (show _ ≤ _; simp only []; omega)) rfl dX3_touches_41 (fun v_41 G_41 hp_41 => ?_)
    obtain ⟨it, rfl, hn, hA, e9⟩ := hp_41
    rw [e9]
    refine jr_astore hX (by decide) rfl dX3_touches_46 ?_
    have loop : ∀ (n i : Nat) (lr : Int32), ((s_ver S (v + 1)).1 f).length - i = n → i ≤ ((s_ver S (v + 1)).1 f).length → Jg p l e (jR 5 1 4) s m args below meth c (MQ below (jQ D A (fun w G1 => w = some (.int (jbz (s_tch S v f))) ∧ jNw G G1)) args s 1 4 A) D A 8 (jup G it (jo 1 [.int (nI i), .int lr, .int mo1, .ref (ad 11 (v + 1) f)])) 0 0 48 [(4, .int (jbz (!(sLks (s_fn S (v + 1) f) (s_fn S v f)) || ((s_fn S (v + 1) f).take i).any (s_kd S v)))), (5, .ref it), (3, .ref (ad 11 (v + 1) f)), (0, .ref (ad 7 (v + 1) 0)), (1, .ref (ad 7 v 0)), (2, .int (nI f))] [] := by
      intro n
      induction n using Nat.strongRecOn with
      | ind n ih0 =>
      intro i lr hn9 hik
      have ih : ∀ (i1 : Nat) (lr1 : Int32), i < i1 → i1 ≤ ((s_ver S (v + 1)).1 f).length → Jg p l e (jR 5 1 4) s m args below meth c (MQ below (jQ D A (fun w G1 => w = some (.int (jbz (s_tch S v f))) ∧ jNw G G1)) args s 1 4 A) D A 8 (jup G it (jo 1 [.int (nI i1), .int lr1, .int mo1, .ref (ad 11 (v + 1) f)])) 0 0 48 [(4, .int (jbz (!(sLks (s_fn S (v + 1) f) (s_fn S v f)) || ((s_fn S (v + 1) f).take i1).any (s_kd S v)))), (5, .ref it), (3, .ref (ad 11 (v + 1) f)), (0, .ref (ad 7 (v + 1) 0)), (1, .ref (ad 7 v 0)), (2, .int (nI f))] [] := fun i1 lr1 h1 h2 => ih0 (((s_ver S (v + 1)).1 f).length - i1) (by omega) i1 lr1 rfl h2
      refine jr_aload hX rfl dX3_touches_48 ?_
      refine jr_callF (As := []) (bc1 := (0)) (bs1 := (0)) hX (met_hasNext l D s0 b0 A _ (ad 11 (v + 1) f) (((s_ver S (v + 1)).1 f).map (fun q => ad 20 q 0)) mo1 cap1 ea1 (jNw.jLS (jNw.new hn) hL1) it i lr jup_s (by rw [hxl]; omega)) (va_cwF 0 hX.ts (lw_F q918 q882 q884 q96 q886) rfl rfl rfl (hX.S.fw ⟨by decide +kernel, by decide +kernel⟩ q880 q879 q885 q883 q881) (by decide +kernel) ⟨Nat.le_of_ble_eq_true rfl, Nat.le_of_ble_eq_true rfl⟩) jup_s rfl rfl (Nat.le_of_ble_eq_true rfl) (by first | omega | (dsimp only; omega) | (show _ ≤ _; simp only []; omega)) (by first | omega | (dsimp only; omega) | (show _ ≤ _; simp only []; omega)) rfl dX3_touches_50 (fun v_50 G_50 hp_50 => ?_)
      obtain ⟨rfl, e9⟩ := hp_50
      rw [e9, hxl]
      refine jr_if_eq hX (tgt := 118) (by decide) dX3_touches_55 (fun c_55 => ?_) (fun c_55 => ?_)
      · have hi3 : ((s_ver S (v + 1)).1 f).length ≤ i := Nat.not_lt.mp (of_decide_eq_false (jbz_0 c_55))
        refine jr_iload hX rfl dX3_touches_118 ?_
        exact jr_zret hX hlk hr (jbz_n _) ⟨by rw [List.take_of_length_le (by rw [hfl]; omega)]; rfl, jNw.new hn⟩ dX3_touches_120
      · have hi2 : i < ((s_ver S (v + 1)).1 f).length := of_decide_eq_true (jbz_1 c_55)
        obtain ⟨q, hq⟩ : ∃ q, ((s_ver S (v + 1)).1 f)[i]? = some q := ⟨_, List.getElem?_eq_getElem hi2⟩
        have hqp : q < (s_i S).length := (hv.2.2 (v + 1) hv1).1 f hf |>.2 q (List.mem_of_getElem? hq)
        have hI := co_ins hR hqp
        have hW := hi _ hqp
        have hx : (s_fn S (v + 1) f)[i]? = some (s_ins S q) := by unfold s_fn; rw [List.getElem?_map, hq]; rfl
        refine jr_aload hX rfl dX3_touches_58 ?_
        refine jr_callF (As := []) (bc1 := (0)) (bs1 := (0)) hX (met_next l D s0 b0 A _ (ad 11 (v + 1) f) (((s_ver S (v + 1)).1 f).map (fun q => ad 20 q 0)) mo1 cap1 ea1 (jNw.jLS (jNw.new hn) hL1) it i lr jup_s (ad 20 q 0) (by rw [List.getElem?_map, hq]; rfl)) (va_cwF 0 hX.ts (lw_F q920 q891 q893 q96 q895) rfl rfl rfl (hX.S.fw ⟨by decide +kernel, by decide +kernel⟩ q890 q889 q894 q892 q881) (by decide +kernel) ⟨Nat.le_of_ble_eq_true rfl, Nat.le_of_ble_eq_true rfl⟩) jup_s rfl rfl (Nat.le_of_ble_eq_true rfl) (by first | omega | (dsimp only; omega) | (show _ ≤ _; simp only []; omega)) (by first | omega | (dsimp only; omega) | (show _ ≤ _; simp only []; omega)) rfl dX3_touches_60 (fun v_60 G_60 hp_60 => ?_)
        obtain ⟨rfl, e9⟩ := hp_60
        rw [e9, jup_jup]
        refine jr_castS hX (jup_f hI hn) rfl q921 dX3_touches_65 ?_
        refine jr_astore hX (by decide) rfl dX3_touches_68 ?_
        refine jr_aload hX rfl dX3_touches_70 ?_
        refine jr_getN (ci := 9) (k := 0) hX (jup_f hI hn) rfl in_X10 (by decide) q613 rfl dX3_touches_72 ?_
        refine jr_aload hX rfl dX3_touches_75 ?_
        refine jr_kind hX (jup_f hI hn) hW.1 (by decide) dX3_touches_77 ?_
        refine jr_istore hX (by decide) rfl dX3_touches_80 ?_
        refine jr_iload hX rfl dX3_touches_82 ?_
        refine jr_iload hX rfl dX3_touches_84 ?_
        refine jr_iconst (v := -1) hX rfl dX3_touches_86 ?_
        refine jr_icmp_eq hX (tgt := 111) (by decide) dX3_touches_87 (fun c_87 => ?_) (fun c_87 => ?_)
        · refine jr_iconst (v := 0) hX rfl dX3_touches_111 ?_
          refine jr_ior hX dX3_touches_112 ?_
          rw [jbz_or0, show (!(sLks (s_fn S (v + 1) f) (s_fn S v f)) || ((s_fn S (v + 1) f).take i).any (s_kd S v)) = (!(sLks (s_fn S (v + 1) f) (s_fn S v f)) || ((s_fn S (v + 1) f).take (i + 1)).any (s_kd S v)) by rw [any_tk hx, show s_kd S v (s_ins S q) = false from decide_eq_false (fun z => z.1 c_87), Bool.or_false]]
          refine jr_istore hX (by decide) rfl dX3_touches_113 ?_
          refine jr_goto hX (tgt := 48) (by decide) dX3_touches_115 ?_
          refine jr_lvm [(4, .int (jbz (!(sLks (s_fn S (v + 1) f) (s_fn S v f)) || ((s_fn S (v + 1) f).take (i + 1)).any (s_kd S v)))), (5, .ref it), (3, .ref (ad 11 (v + 1) f)), (0, .ref (ad 7 (v + 1) 0)), (1, .ref (ad 7 v 0)), (2, .int (nI f))] rfl ?_
          exact ih (i + 1) _ (by omega) (by omega)
        · obtain ⟨k9, hk3, hke⟩ := sKi_in hW.2.2.1 c_87
          refine jr_aload_n (i := 0) hX rfl rfl dX3_touches_90 ?_
          refine jr_get (ci := 4) (k := 1) hX (jup_f hV1 hn) rfl in_X3 (by decide) q274 rfl dX3_touches_91 ?_
          refine jr_iload hX rfl dX3_touches_94 ?_
          refine jr_iald hX (jup_f (co_nf hR hv1) hn) (by rw [hke]; exact nI3 hk3) dX3_touches_96 ?_
          refine jr_aload_n (i := 1) hX rfl rfl dX3_touches_97 ?_
          refine jr_get (ci := 4) (k := 1) hX (jup_f hV0 hn) rfl in_X3 (by decide) q274 rfl dX3_touches_98 ?_
          refine jr_iload hX rfl dX3_touches_101 ?_
          refine jr_iald hX (jup_f (co_nf hR hv0) hn) (by rw [hke]; exact nI3 hk3) dX3_touches_103 ?_
          refine jr_icmp_eq hX (tgt := 111) (by decide) dX3_touches_104 (fun c_104 => ?_) (fun c_104 => ?_)
          · refine jr_iconst (v := 0) hX rfl dX3_touches_111 ?_
            refine jr_ior hX dX3_touches_112 ?_
            rw [jbz_or0, show (!(sLks (s_fn S (v + 1) f) (s_fn S v f)) || ((s_fn S (v + 1) f).take i).any (s_kd S v)) = (!(sLks (s_fn S (v + 1) f) (s_fn S v f)) || ((s_fn S (v + 1) f).take (i + 1)).any (s_kd S v)) by rw [any_tk hx, show s_kd S v (s_ins S q) = false from decide_eq_false (fun z => z.2 (by
              have h1 := ((hv.2.2 (v + 1) hv1).2.1 k9 hk3).2
              have h2 := ((hv.2.2 v hv0).2.1 k9 hk3).2
              rw [hke, nI_clamp (by omega)] at c_104 ⊢
              exact (nI_eq (by omega) (by omega)).mp c_104)), Bool.or_false]]
            refine jr_istore hX (by decide) rfl dX3_touches_113 ?_
            refine jr_goto hX (tgt := 48) (by decide) dX3_touches_115 ?_
            refine jr_lvm [(4, .int (jbz (!(sLks (s_fn S (v + 1) f) (s_fn S v f)) || ((s_fn S (v + 1) f).take (i + 1)).any (s_kd S v)))), (5, .ref it), (3, .ref (ad 11 (v + 1) f)), (0, .ref (ad 7 (v + 1) 0)), (1, .ref (ad 7 v 0)), (2, .int (nI f))] rfl ?_
            exact ih (i + 1) _ (by omega) (by omega)
          · refine jr_iconst (v := 1) hX rfl dX3_touches_107 ?_
            refine jr_goto hX (tgt := 112) (by decide) dX3_touches_108 ?_
            refine jr_ior hX dX3_touches_112 ?_
            rw [jbz_or1, show ((!(sLks (s_fn S (v + 1) f) (s_fn S v f)) || ((s_fn S (v + 1) f).take i).any (s_kd S v)) || true) = (!(sLks (s_fn S (v + 1) f) (s_fn S v f)) || ((s_fn S (v + 1) f).take (i + 1)).any (s_kd S v)) by rw [any_tk hx, show s_kd S v (s_ins S q) = true from decide_eq_true ⟨c_87, fun z => c_104 (by rw [z])⟩, Bool.or_true, Bool.or_true]; simp]
            refine jr_istore hX (by decide) rfl dX3_touches_113 ?_
            refine jr_goto hX (tgt := 48) (by decide) dX3_touches_115 ?_
            refine jr_lvm [(4, .int (jbz (!(sLks (s_fn S (v + 1) f) (s_fn S v f)) || ((s_fn S (v + 1) f).take (i + 1)).any (s_kd S v)))), (5, .ref it), (3, .ref (ad 11 (v + 1) f)), (0, .ref (ad 7 (v + 1) 0)), (1, .ref (ad 7 v 0)), (2, .int (nI f))] rfl ?_
            exact ih (i + 1) _ (by omega) (by omega)
    refine jr_lvm [(4, .int (jbz (!(sLks (s_fn S (v + 1) f) (s_fn S v f))))), (5, .ref it), (3, .ref (ad 11 (v + 1) f)), (0, .ref (ad 7 (v + 1) 0)), (1, .ref (ad 7 v 0)), (2, .int (nI f))] rfl ?_
    have h0 := loop _ 0 (-1) rfl (Nat.zero_le _)
    rw [List.take_zero, show ([] : List sIns).any (s_kd S v) = false from rfl, Bool.or_false] at h0
    exact h0
  refine jr_aload_n (i := 0) hX rfl rfl dX3_touches_0 ?_
  refine jr_get (ci := 4) (k := 0) hX (by first | assumption | exact jup_s) rfl in_X3 (by decide) q272 rfl dX3_touches_1 ?_
  refine jr_iload_n (i := 2) hX rfl rfl dX3_touches_4 ?_
  refine jr_callF (As := [.int (nI f)]) (bc1 := (1)) (bs1 := (4)) hX (met_get l D s0 b0 A _ (ad 10 (v + 1) 0) (s_rg 5 (fun f => ad 11 (v + 1) f)) moF1 capF1 eaF1 hF1 f (ad 11 (v + 1) f) (rg_at hf)) (va_cwF 1 hX.ts (lw_F q322 q302 q304 q68 q306) rfl rfl rfl (hX.S.fw ⟨by decide +kernel, by decide +kernel⟩ q301 q300 q305 q303 q183) (by decide +kernel) ⟨Nat.le_of_ble_eq_true rfl, Nat.le_of_ble_eq_true rfl⟩) hF1.1 rfl rfl (Nat.le_of_ble_eq_true rfl) (by first | omega | (dsimp only; omega) | (show _ ≤ _; simp only []; omega)) (by first | omega | (dsimp only; omega) | (show _ ≤ _; simp only []; omega)) rfl dX3_touches_5 (fun v_5 G_5 hp_5 => ?_)
  obtain ⟨rfl, e9⟩ := hp_5
  rw [e9]
  refine jr_castY hX hL1.1 rfl q323 q183 dX3_touches_10 ?_
  refine jr_astore_n (i := 3) hX rfl (by decide) rfl dX3_touches_13 ?_
  refine jr_aload_n (i := 3) hX rfl rfl dX3_touches_14 ?_
  refine jr_aload_n (i := 1) hX rfl rfl dX3_touches_15 ?_
  refine jr_get (ci := 4) (k := 0) hX (by first | assumption | exact jup_s) rfl in_X3 (by decide) q272 rfl dX3_touches_16 ?_
  refine jr_iload_n (i := 2) hX rfl rfl dX3_touches_19 ?_
  refine jr_callF (As := [.int (nI f)]) (bc1 := (1)) (bs1 := (4)) hX (met_get l D s0 b0 A _ (ad 10 (v) 0) (s_rg 5 (fun f => ad 11 (v) f)) moF0 capF0 eaF0 hF0 f (ad 11 (v) f) (rg_at hf)) (va_cwF 1 hX.ts (lw_F q322 q302 q304 q68 q306) rfl rfl rfl (hX.S.fw ⟨by decide +kernel, by decide +kernel⟩ q301 q300 q305 q303 q183) (by decide +kernel) ⟨Nat.le_of_ble_eq_true rfl, Nat.le_of_ble_eq_true rfl⟩) hF0.1 rfl rfl (Nat.le_of_ble_eq_true rfl) (by first | omega | (dsimp only; omega) | (show _ ≤ _; simp only []; omega)) (by first | omega | (dsimp only; omega) | (show _ ≤ _; simp only []; omega)) rfl dX3_touches_20 (fun v_20 G_20 hp_20 => ?_)
  obtain ⟨rfl, e9⟩ := hp_20
  rw [e9]
  refine jr_callF (As := [.ref (ad 11 v f)]) (bc1 := (1)) (bs1 := (4)) hX (met_listEq l D s0 b0 A _ (ad 11 (v + 1) f) _ mo1 cap1 ea1 hL1 (ad 11 v f) _ mo0 cap0 ea0 hL0 (s_fn S (v + 1) f) (s_fn S v f) (by simp [s_fn]) (by simp [s_fn]) (hel _ hv1) (hel _ hv0) hab) (va_cwF 1 hX.ts (lw_F q758 q761 q763 q68 q765) rfl rfl rfl (hX.S.fw ⟨by decide +kernel, by decide +kernel⟩ q760 q759 q764 q762 q183) (by decide +kernel) ⟨Nat.le_of_ble_eq_true rfl, Nat.le_of_ble_eq_true rfl⟩) hL1.1 rfl rfl (Nat.le_of_ble_eq_true rfl) (by first | omega | (dsimp only; omega) | (show _ ≤ _; simp only []; omega)) (by first | omega | (dsimp only; omega) | (show _ ≤ _; simp only []; omega)) rfl dX3_touches_25 (fun v_25 G_25 hp_25 => ?_)
  obtain ⟨rfl, e9⟩ := hp_25
  rw [e9]
  refine jr_if_ne hX (tgt := 37) (by decide) dX3_touches_30 (fun c_30 => ?_) (fun c_30 => ?_)
  · refine jr_iconst (v := 0) hX rfl dX3_touches_37 ?_
    refine jr_istore hX (by decide) rfl dX3_touches_38 ?_
    rw [show (0 : Int32) = jbz (!(sLks (s_fn S (v + 1) f) (s_fn S v f))) by rw [jbz_1 c_30]; rfl]
    refine jr_lvm [(4, .int (jbz (!(sLks (s_fn S (v + 1) f) (s_fn S v f))))), (3, .ref (ad 11 (v + 1) f)), (0, .ref (ad 7 (v + 1) 0)), (1, .ref (ad 7 v 0)), (2, .int (nI f))] rfl ?_
    exact rest
  · refine jr_iconst (v := 1) hX rfl dX3_touches_33 ?_
    refine jr_goto hX (tgt := 38) (by decide) dX3_touches_34 ?_
    refine jr_istore hX (by decide) rfl dX3_touches_38 ?_
    rw [show (1 : Int32) = jbz (!(sLks (s_fn S (v + 1) f) (s_fn S v f))) by rw [jbz_0 c_30]; rfl]
    refine jr_lvm [(4, .int (jbz (!(sLks (s_fn S (v + 1) f) (s_fn S v f))))), (3, .ref (ad 11 (v + 1) f)), (0, .ref (ad 7 (v + 1) 0)), (1, .ref (ad 7 v 0)), (2, .int (nI f))] rfl ?_
    exact rest
