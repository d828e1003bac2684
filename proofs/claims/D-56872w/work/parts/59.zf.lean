/-! WHAT HOLDS OF A STATE (sW), kept by a change's effect; look and giveUp as functions of states -/
/-- the queue's numbers; the changes -/
def sWc (S : sSt) : Prop := (s_q S).Nodup ∧ (∀ q ∈ s_q S, q < (s_c S).length) ∧ ∀ (ci : Nat) (ch : sCh), (s_c S)[ci]? = some ch → ch.1 < 1000 ∧ ch.2.2.2.1 < 1000000 ∧ ch.2.2.2.2 < 1000
/-- a strand is alive where it has frames -/
def sWl (S : sSt) : Prop := ∀ i, i < 3 → (s_al (s_s S i).1 = true ↔ 0 < (s_s S i).2.length)
def sWt (S : sSt) : Prop := ∀ k, k < 4 → s_t S k < 5
def sW (S : sSt) : Prop := sWi S ∧ sWv S ∧ sWs S ∧ sWo S ∧ s_p S < s_m S ∧ sWc S ∧ sWl S ∧ sWt S
theorem sW_cw {S : sSt} {ci : Nat} {ch : sCh} {st : Nat} (h : sWc S) (hch : (s_c S)[ci]? = some ch) (hst : st < 1000) : sWc (s_cw S ci ch st) := by
  refine ⟨h.1, fun q hq => by show q < ((s_c S).set ci _).length; rw [List.length_set]; exact h.2.1 q hq, fun i c hc => ?_⟩
  have hc' : ((s_c S).set ci (ch.1, ch.2.1, ch.2.2.1, ch.2.2.2.1, st))[i]? = some c := hc
  by_cases e : ci = i
  · subst e
    rw [List.getElem?_set_self (lt_ofl hch)] at hc'
    cases hc'
    have g := h.2.2 ci ch hch
    exact ⟨g.1, g.2.1, hst⟩
  · rw [List.getElem?_set_ne e] at hc'
    exact h.2.2 i c hc'
theorem sW_q {S : sSt} {r : List Nat} (h : sW S) (hr : r.Sublist (s_q S)) : sW (sw_q S r) := by
  obtain ⟨h1, h2, h3, h4, h5, h6, h7, h8⟩ := h
  exact ⟨h1, h2, h3, h4, h5, ⟨h6.1.sublist hr, fun q hq => h6.2.1 q (hr.subset hq), h6.2.2⟩, h7, h8⟩
theorem sW_cwW {S : sSt} {ci : Nat} {ch : sCh} {st : Nat} (h : sW S) (hch : (s_c S)[ci]? = some ch) (hst : st < 1000) : sW (s_cw S ci ch st) := by
  obtain ⟨h1, h2, h3, h4, h5, h6, h7, h8⟩ := h
  exact ⟨h1, h2, h3, h4, h5, sW_cw h6 hch hst, h7, h8⟩
theorem sW_tk1 {S : sSt} {ch : sCh} (h : sW S) (hl : s_lead S ch.2.1 = true) (hfr : s_free S ch.2.1 ch.1) : sW (s_tk1 S ch) := by
  obtain ⟨h1, h2, h3, h4, h5, h6, h7, h8⟩ := h
  refine ⟨h1, h2, mvI_ws h2 h5 hl h3 hfr, h4, (s_lt hl h5).2, h6, fun i hi => ?_, h8⟩
  show s_al (s_s (s_mvI S ch.2.1 ch.1 3 0) i).1 = true ↔ 0 < (s_s (s_mvI S ch.2.1 ch.1 3 0) i).2.length
  rw [mvI_q.1, mvI_len]
  exact h7 i hi
theorem sW_tk2 {S : sSt} {ch : sCh} (h : sW S) (hl : s_lead S ch.2.1 = true) (hfr : s_free S ch.2.1 ch.1) : sW (s_tk2 S ch) := by
  have h0 := sW_tk1 h hl hfr
  unfold s_tk2
  by_cases hb : ch.2.2.1 = true
  · rw [if_pos hb]
    obtain ⟨h1, h2, h3, h4, h5, h6, h7, h8⟩ := h0
    exact ⟨h1, h2, h3, ctI_wo h4 h5, h5, h6, h7, h8⟩
  · rw [if_neg hb]; exact h0
theorem sW_tke {S : sSt} {ci : Nat} {ch : sCh} (h : sW S) (hch : (s_c S)[ci]? = some ch) (hl : s_lead S ch.2.1 = true) (hfr : s_free S ch.2.1 ch.1) : sW (s_tke S ci ch) := by
  refine sW_cwW (sW_tk2 h hl hfr) ?_ (by decide)
  unfold s_tk2
  by_cases hb : ch.2.2.1 = true
  · rw [if_pos hb]; exact hch
  · rw [if_neg hb]; exact hch
theorem sW_endC {S : sSt} {ci : Nat} {ch : sCh} (h : sW S) (hch : (s_c S)[ci]? = some ch) (hfr : s_lead S ch.2.1 = true → s_free S ch.2.1 ch.1) : sW (s_endC S ci ch) := by
  unfold s_endC
  by_cases hl : s_lead S ch.2.1 = true
  · rw [if_pos hl]; exact sW_tke h hch hl (hfr hl)
  · rw [if_neg hl]; exact sW_cwW h hch (by decide)
/-- what a change's effect leaves as it was -/
def s_kp (S F : sSt) : Prop := s_v F = s_v S ∧ (∀ i, (s_s F i).1 = (s_s S i).1 ∧ (s_s F i).2.length = (s_s S i).2.length) ∧ (s_o F).length = (s_o S).length ∧ s_t F = s_t S ∧ (s_c F).length = (s_c S).length ∧ s_w F = s_w S ∧ s_l F = s_l S ∧ s_u F = s_u S ∧ s_k F = s_k S ∧ s_n F = s_n S ∧ s_i F = s_i S
theorem s_kp.rf {S : sSt} : s_kp S S := ⟨rfl, fun _ => ⟨rfl, rfl⟩, rfl, rfl, rfl, rfl, rfl, rfl, rfl, rfl, rfl⟩
theorem s_kp.tr {S F H : sSt} (h : s_kp S F) (g : s_kp F H) : s_kp S H := by
  obtain ⟨h1, h2, h3, h4, h5, h6, h7, h8, h9, h10, h11⟩ := h
  obtain ⟨g1, g2, g3, g4, g5, g6, g7, g8, g9, g10, g11⟩ := g
  exact ⟨g1.trans h1, fun i => ⟨(g2 i).1.trans (h2 i).1, (g2 i).2.trans (h2 i).2⟩, g3.trans h3, g4.trans h4, g5.trans h5, g6.trans h6, g7.trans h7, g8.trans h8, g9.trans h9, g10.trans h10, g11.trans h11⟩
theorem s_kp.cw {S : sSt} {ci : Nat} {ch : sCh} {st : Nat} : s_kp S (s_cw S ci ch st) := ⟨rfl, fun _ => ⟨rfl, rfl⟩, rfl, rfl, List.length_set, rfl, rfl, rfl, rfl, rfl, rfl⟩
theorem s_kp.tk1 {S : sSt} {ch : sCh} : s_kp S (s_tk1 S ch) := ⟨rfl, fun i => ⟨(mvI_q (S := S) (b := ch.2.1) (md := ch.1) (i := 3) (j := 0) (q := i)).1, mvI_len⟩, rfl, rfl, rfl, rfl, rfl, rfl, rfl, rfl, rfl⟩
theorem s_kp.tk2 {S : sSt} {ch : sCh} : s_kp S (s_tk2 S ch) := by
  unfold s_tk2
  by_cases hb : ch.2.2.1 = true
  · rw [if_pos hb]
    exact s_kp.tk1.tr ⟨rfl, fun _ => ⟨rfl, rfl⟩, ctI_len, rfl, rfl, rfl, rfl, rfl, rfl, rfl, rfl⟩
  · rw [if_neg hb]; exact s_kp.tk1
theorem s_kp.endC {S : sSt} {ci : Nat} {ch : sCh} : s_kp S (s_endC S ci ch) := by
  unfold s_endC
  by_cases hl : s_lead S ch.2.1 = true
  · rw [if_pos hl]; exact s_kp.tk2.tr s_kp.cw
  · rw [if_neg hl]; exact s_kp.cw
theorem endC_q {S : sSt} {ci : Nat} {ch : sCh} : s_q (s_endC S ci ch) = s_q S := by
  unfold s_endC
  by_cases hl : s_lead S ch.2.1 = true
  · rw [if_pos hl]
    show s_q (s_tk2 S ch) = s_q S
    unfold s_tk2
    by_cases hb : ch.2.2.1 = true
    · rw [if_pos hb]; rfl
    · rw [if_neg hb]; rfl
  · rw [if_neg hl]
theorem s_kp.q {S : sSt} {r : List Nat} : s_kp S (sw_q S r) := ⟨rfl, fun _ => ⟨rfl, rfl⟩, rfl, rfl, rfl, rfl, rfl, rfl, rfl, rfl, rfl⟩
/-- where no frame is counted against a change, none stands in its way -/
theorem agn_free {S : sSt} {ch : sCh} (hl : s_lead S ch.2.1 = true) (h : s_agn S ch = 0) : s_free S ch.2.1 ch.1 := by
  intro q j x hq hx h1 h2 h3 h4
  unfold s_agn at h
  rw [if_neg (fun z => z.elim (fun z => h2 z) (fun z => by rw [hl] at z; cases z))] at h
  have key : ∀ i, i ≤ 3 → q < i → s_ctP S (s_std S ch) i ≠ 0 := by
    intro i
    induction i with
    | zero => intro _ z; omega
    | succ k ih =>
      intro hk hqk
      show s_ctP S (s_std S ch) k + (s_s S k).2.countP (s_std S ch) ≠ 0
      by_cases e : q = k
      · subst e
        have hp : 0 < (s_s S q).2.countP (s_std S ch) := List.countP_pos_iff.mpr ⟨x, List.mem_of_getElem? hx, by
          unfold s_std s_met
          rw [decide_eq_true h1, h3, decide_eq_true h4]
          simp⟩
        omega
      · have := ih (by omega) (by omega)
        omega
  exact key 3 (Nat.le_refl _) hq h
def s_lkn : Nat → sSt → sSt
  | 0, S => S
  | n + 1, S => match s_q S with
    | [] => S
    | ci :: r => match (s_c S)[ci]? with
      | none => S
      | some ch => if s_lead S ch.2.1 = true ∧ s_agn S ch ≠ 0 then S else s_lkn n (s_endC (sw_q S r) ci ch)
/-- the queue is looked at -/
def s_look (S : sSt) : sSt := s_lkn (s_q S).length S
theorem look_nil {S : sSt} (h : s_q S = []) : s_look S = S := by
  unfold s_look
  rw [h]
  rfl
theorem look_stop {S : sSt} {ci : Nat} {r : List Nat} {ch : sCh} (h : s_q S = ci :: r) (hch : (s_c S)[ci]? = some ch) (hl : s_lead S ch.2.1 = true) (ha : s_agn S ch ≠ 0) : s_look S = S := by
  have e : s_lkn (r.length + 1) S = S := by
    show (match s_q S with
      | [] => S
      | ci :: r1 => match (s_c S)[ci]? with
        | none => S
        | some ch => if s_lead S ch.2.1 = true ∧ s_agn S ch ≠ 0 then S else s_lkn r.length (s_endC (sw_q S r1) ci ch)) = S
    rw [h]
    show (match (s_c S)[ci]? with
        | none => S
        | some ch => if s_lead S ch.2.1 = true ∧ s_agn S ch ≠ 0 then S else s_lkn r.length (s_endC (sw_q S r) ci ch)) = S
    rw [hch]
    exact if_pos ⟨hl, ha⟩
  unfold s_look
  rw [h]
  exact e
theorem look_go {S : sSt} {ci : Nat} {r : List Nat} {ch : sCh} (h : s_q S = ci :: r) (hch : (s_c S)[ci]? = some ch) (hla : ¬ (s_lead S ch.2.1 = true ∧ s_agn S ch ≠ 0)) : s_look S = s_look (s_endC (sw_q S r) ci ch) := by
  have e : s_lkn (r.length + 1) S = s_lkn r.length (s_endC (sw_q S r) ci ch) := by
    show (match s_q S with
      | [] => S
      | ci :: r1 => match (s_c S)[ci]? with
        | none => S
        | some ch => if s_lead S ch.2.1 = true ∧ s_agn S ch ≠ 0 then S else s_lkn r.length (s_endC (sw_q S r1) ci ch)) = _
    rw [h]
    show (match (s_c S)[ci]? with
        | none => S
        | some ch => if s_lead S ch.2.1 = true ∧ s_agn S ch ≠ 0 then S else s_lkn r.length (s_endC (sw_q S r) ci ch)) = _
    rw [hch]
    exact if_neg hla
  unfold s_look
  rw [endC_q, h]
  exact e
/-- one may reason by what look does: nothing to do, or a change goes -/
theorem look_ind {Pr : sSt → sSt → Prop} (h0 : ∀ S, s_look S = S → Pr S S) (h1 : ∀ S ci r ch, s_q S = ci :: r → (s_c S)[ci]? = some ch → ¬ (s_lead S ch.2.1 = true ∧ s_agn S ch ≠ 0) → s_look S = s_look (s_endC (sw_q S r) ci ch) → Pr (s_endC (sw_q S r) ci ch) (s_look S) → Pr S (s_look S)) : ∀ S, Pr S (s_look S) := by
  have key : ∀ n S, (s_q S).length = n → Pr S (s_look S) := by
    intro n
    induction n with
    | zero =>
      intro S hn
      have e := look_nil (List.eq_nil_of_length_eq_zero hn)
      have := h0 S e
      rw [e]; exact this
    | succ n ih =>
      intro S hn
      cases hq : s_q S with
      | nil => rw [hq] at hn; cases hn
      | cons ci r =>
        cases hc : (s_c S)[ci]? with
        | none =>
          have e : s_look S = S := by
            have e2 : s_lkn (r.length + 1) S = S := by
              show (match s_q S with
                | [] => S
                | ci :: r1 => match (s_c S)[ci]? with
                  | none => S
                  | some ch => if s_lead S ch.2.1 = true ∧ s_agn S ch ≠ 0 then S else s_lkn r.length (s_endC (sw_q S r1) ci ch)) = S
              rw [hq]
              show (match (s_c S)[ci]? with
                  | none => S
                  | some ch => if s_lead S ch.2.1 = true ∧ s_agn S ch ≠ 0 then S else s_lkn r.length (s_endC (sw_q S r) ci ch)) = S
              rw [hc]
            unfold s_look
            rw [hq]
            exact e2
          have := h0 S e
          rw [e]; exact this
        | some ch =>
          by_cases hla : s_lead S ch.2.1 = true ∧ s_agn S ch ≠ 0
          · have e := look_stop hq hc hla.1 hla.2
            have := h0 S e
            rw [e]; exact this
          · have e := look_go hq hc hla
            refine h1 S ci r ch hq hc hla e ?_
            rw [e]
            exact ih _ (by rw [endC_q]; show r.length = n; rw [hq] at hn; simpa using hn)
  exact fun S => key _ S rfl
theorem look_kp (S : sSt) : s_kp S (s_look S) := look_ind (Pr := fun S F => s_kp S F) (fun S _ => s_kp.rf) (fun S ci r ch _ _ _ _ h => (s_kp.q.tr s_kp.endC).tr h) S
theorem look_len (S : sSt) : (s_q (s_look S)).length ≤ (s_q S).length := look_ind (Pr := fun S F => (s_q F).length ≤ (s_q S).length) (fun S _ => Nat.le_refl _) (fun S ci r ch hq _ _ _ h => by
  rw [endC_q] at h
  have h2 : (s_q (s_look S)).length ≤ r.length := h
  rw [hq]
  show _ ≤ r.length + 1
  omega) S
theorem look_idem (S : sSt) : s_look (s_look S) = s_look S := look_ind (Pr := fun S F => s_look F = F) (fun S e => e) (fun S ci r ch _ _ _ _ h => h) S
theorem look_sub (S : sSt) : (s_q (s_look S)).Sublist (s_q S) := look_ind (Pr := fun S F => (s_q F).Sublist (s_q S)) (fun S _ => List.Sublist.refl _) (fun S ci r ch hq _ _ _ h => by
  rw [endC_q] at h
  rw [hq]
  exact List.Sublist.cons _ h) S
theorem look_W {S : sSt} (h : sW S) : sW (s_look S) := look_ind (Pr := fun S F => sW S → sW F) (fun S _ h => h) (fun S ci r ch hq hc hla _ ih h => ih (sW_endC (sW_q h (by rw [hq]; exact List.sublist_cons_self _ _)) hc (fun hl => by
  have hl' : s_lead S ch.2.1 = true := hl
  have ha : s_agn S ch = 0 := Decidable.byContradiction fun z => hla ⟨hl', z⟩
  exact agn_free hl' ha))) S h
/-- changes of which the numbers are in L are dropped -/
def s_dr (C : List sCh) (L : List Nat) : List sCh := C.mapIdx fun i c => if i ∈ L then (c.1, c.2.1, c.2.2.1, c.2.2.2.1, 100) else c
theorem dr_at {C : List sCh} {L : List Nat} {i : Nat} : (s_dr C L)[i]? = (C[i]?).map fun c => if i ∈ L then (c.1, c.2.1, c.2.2.1, c.2.2.2.1, 100) else c := by
  unfold s_dr
  rw [List.getElem?_mapIdx]
theorem dr_nil {C : List sCh} : s_dr C [] = C := by
  refine List.ext_getElem? fun i => ?_
  rw [dr_at]
  cases C[i]? <;> simp
theorem dr_len {C : List sCh} {L : List Nat} : (s_dr C L).length = C.length := by unfold s_dr; rw [List.length_mapIdx]
theorem dr_set {C : List sCh} {L M : List Nat} {ci : Nat} {ch : sCh} (h : (s_dr C L)[ci]? = some ch) (hM : ∀ i, i ∈ M ↔ i = ci ∨ i ∈ L) : (s_dr C L).set ci (ch.1, ch.2.1, ch.2.2.1, ch.2.2.2.1, 100) = s_dr C M := by
  refine List.ext_getElem? fun i => ?_
  by_cases e : ci = i
  · subst e
    rw [List.getElem?_set_self (lt_ofl h), dr_at]
    rw [dr_at] at h
    cases hc : C[ci]? with
    | none => rw [hc] at h; cases h
    | some c =>
      rw [hc] at h
      have h1 : (if ci ∈ L then (c.1, c.2.1, c.2.2.1, c.2.2.2.1, 100) else c) = ch := Option.some.inj h
      show some _ = some (if ci ∈ M then _ else _)
      rw [if_pos ((hM ci).mpr (Or.inl rfl)), ← h1]
      by_cases z : ci ∈ L
      · rw [if_pos z]
      · rw [if_neg z]
  · rw [List.getElem?_set_ne e, dr_at, dr_at]
    cases C[i]? with
    | none => rfl
    | some c =>
      show some (if i ∈ L then _ else _) = some (if i ∈ M then _ else _)
      by_cases z : i ∈ L
      · rw [if_pos z, if_pos ((hM i).mpr (Or.inr z))]
      · rw [if_neg z, if_neg (fun w => ((hM i).mp w).elim (fun q => e q.symm) z)]
/-- a change of the queue is over -/
def s_due (S : sSt) (ci : Nat) : Bool := match (s_c S)[ci]? with
  | some ch => decide (ch.2.2.2.1 ≤ s_n S)
  | none => false
theorem due_e {S : sSt} {ci : Nat} {ch : sCh} (h : (s_c S)[ci]? = some ch) : s_due S ci = decide (ch.2.2.2.1 ≤ s_n S) := by unfold s_due; rw [h]
/-- those behind place k that are over have been dropped -/
def s_guI (S : sSt) (k : Nat) : sSt := sw_q (sw_c S (s_dr (s_c S) (((s_q S).drop k).filter (s_due S)))) ((s_q S).take k ++ ((s_q S).drop k).filter (fun ci => !s_due S ci))
def s_gvu (S : sSt) : sSt := s_guI S 0
theorem guI_n {S : sSt} : s_guI S (s_q S).length = S := by
  unfold s_guI
  rw [List.drop_length, List.take_length, List.filter_nil, List.filter_nil, dr_nil, List.append_nil]
theorem guI_no {S : sSt} {k ci : Nat} (h : (s_q S)[k]? = some ci) (hd : s_due S ci = false) : s_guI S (k + 1) = s_guI S k := by
  have hk := lt_ofl h
  have e : (s_q S).drop k = ci :: (s_q S).drop (k + 1) := by rw [List.drop_eq_getElem_cons hk]; congr 1; exact Option.some.inj ((List.getElem?_eq_getElem hk).symm.trans h)
  unfold s_guI
  rw [e, List.filter_cons_of_neg (by rw [hd]; simp), List.filter_cons_of_pos (by rw [hd]; rfl), List.take_succ, h]
  simp
theorem guI_yes {S : sSt} {k ci : Nat} {ch : sCh} (h : (s_q S)[k]? = some ci) (hd : s_due S ci = true) (hch : (s_c (s_guI S (k + 1)))[ci]? = some ch) : sw_q (s_cw (s_guI S (k + 1)) ci ch 100) ((s_q (s_guI S (k + 1))).eraseIdx k) = s_guI S k := by
  have hk := lt_ofl h
  have e : (s_q S).drop k = ci :: (s_q S).drop (k + 1) := by rw [List.drop_eq_getElem_cons hk]; congr 1; exact Option.some.inj ((List.getElem?_eq_getElem hk).symm.trans h)
  have e1 := dr_set (M := ((s_q S).drop k).filter (s_due S)) hch (fun i => by rw [e, List.filter_cons_of_pos hd]; simp)
  have e2 : (s_q (s_guI S (k + 1))).eraseIdx k = (s_q S).take k ++ ((s_q S).drop k).filter (fun ci => !s_due S ci) := by
    show ((s_q S).take (k + 1) ++ ((s_q S).drop (k + 1)).filter (fun ci => !s_due S ci)).eraseIdx k = _
    rw [e, List.filter_cons_of_neg (by rw [hd]; simp), List.take_succ, h, List.eraseIdx_append_of_lt_length (by rw [List.length_append, List.length_take, Nat.min_eq_left (by omega)]; exact Nat.lt_succ_self k), List.eraseIdx_append_of_length_le (by rw [List.length_take, Nat.min_eq_left (by omega)]; exact Nat.le_refl k), List.length_take, Nat.min_eq_left (by omega), Nat.sub_self]
    show (s_q S).take k ++ (Option.toList (some ci)).eraseIdx 0 ++ _ = _
    simp
  rw [e2]
  show sw_q (sw_c (s_guI S (k + 1)) ((s_dr (s_c S) (((s_q S).drop (k + 1)).filter (s_due S))).set ci (ch.1, ch.2.1, ch.2.2.1, ch.2.2.2.1, 100))) _ = _
  rw [e1]
  rfl
theorem gvu_no {S : sSt} (h : (s_q S).any (s_due S) = false) : s_gvu S = S := by
  have h2 : ∀ x ∈ s_q S, s_due S x = false := fun x hx => by
    cases hd : s_due S x with
    | false => rfl
    | true => rw [List.any_eq_true.mpr ⟨x, hx, hd⟩] at h; cases h
  unfold s_gvu s_guI
  rw [List.drop_zero, List.take_zero, List.filter_eq_nil_iff.mpr (fun x hx => by rw [h2 x hx]; simp), List.filter_eq_self.mpr (fun x hx => by rw [h2 x hx]; rfl), dr_nil, List.nil_append]
theorem guI_kp {S : sSt} {k : Nat} : s_kp S (s_guI S k) := ⟨rfl, fun _ => ⟨rfl, rfl⟩, rfl, rfl, dr_len, rfl, rfl, rfl, rfl, rfl, rfl⟩
theorem guI_W {S : sSt} {k : Nat} (h : sW S) : sW (s_guI S k) := by
  obtain ⟨h1, h2, h3, h4, h5, h6, h7, h8⟩ := h
  have hs : ((s_q S).take k ++ ((s_q S).drop k).filter (fun ci => !s_due S ci)).Sublist (s_q S) := by
    have := List.Sublist.append (List.Sublist.refl ((s_q S).take k)) (List.filter_sublist (p := fun ci => !s_due S ci) (l := (s_q S).drop k))
    rwa [List.take_append_drop] at this
  refine ⟨h1, h2, h3, h4, h5, ⟨h6.1.sublist hs, fun q hq => by show q < (s_dr (s_c S) _).length; rw [dr_len]; exact h6.2.1 q (hs.subset hq), fun ci ch hc => ?_⟩, h7, h8⟩
  have hc' : (s_dr (s_c S) (((s_q S).drop k).filter (s_due S)))[ci]? = some ch := hc
  rw [dr_at] at hc'
  cases hx : (s_c S)[ci]? with
  | none => rw [hx] at hc'; cases hc'
  | some c =>
    rw [hx] at hc'
    have e := Option.some.inj hc'
    have g := h6.2.2 ci c hx
    subst e
    by_cases z : ci ∈ ((s_q S).drop k).filter (s_due S)
    · simp only [z, if_true]; exact ⟨g.1, g.2.1, by decide⟩
    · simp only [z, if_false]; exact g
theorem guI_len {S : sSt} {k : Nat} : (s_q (s_guI S k)).length ≤ (s_q S).length := by
  show ((s_q S).take k ++ ((s_q S).drop k).filter (fun ci => !s_due S ci)).length ≤ _
  rw [List.length_append]
  have h1 := List.length_filter_le (fun ci => !s_due S ci) ((s_q S).drop k)
  have h2 : (s_q S).length = ((s_q S).take k).length + ((s_q S).drop k).length := by rw [← List.length_append, List.take_append_drop]
  omega
/-- what is over is dropped, and the queue looked at if any was -/
def s_giveUp (S : sSt) : sSt := if (s_q S).any (s_due S) = true then s_look (s_gvu S) else S
theorem giveUp_W {S : sSt} (h : sW S) : sW (s_giveUp S) := by
  unfold s_giveUp
  by_cases z : (s_q S).any (s_due S) = true
  · rw [if_pos z]; exact look_W (guI_W h)
  · rw [if_neg z]; exact h
theorem giveUp_kp (S : sSt) : s_kp S (s_giveUp S) := by
  unfold s_giveUp
  by_cases z : (s_q S).any (s_due S) = true
  · rw [if_pos z]; exact guI_kp.tr (look_kp _)
  · rw [if_neg z]; exact s_kp.rf
theorem giveUp_len (S : sSt) : (s_q (s_giveUp S)).length ≤ (s_q S).length := by
  unfold s_giveUp
  by_cases z : (s_q S).any (s_due S) = true
  · rw [if_pos z]; exact Nat.le_trans (look_len _) guI_len
  · rw [if_neg z]; exact Nat.le_refl _
/-- the model's way: look, drop, look -/
theorem giveUp_two (S : sSt) : s_look (s_gvu (s_look S)) = s_giveUp (s_look S) := by
  unfold s_giveUp
  by_cases z : (s_q (s_look S)).any (s_due (s_look S)) = true
  · rw [if_pos z]
  · rw [if_neg z, gvu_no (by simpa using z), look_idem]
