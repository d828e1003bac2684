/-! the model's givesUp -/
theorem er_filter {Q : List Nat} {ci : Nat} : ∀ {k : Nat}, Q.Nodup → Q[k]? = some ci → Q.eraseIdx k = Q.filter (fun c => !(c == ci)) := by
  induction Q with
  | nil => intro k _ h; simp at h
  | cons a Q ih =>
    intro k hn h
    obtain ⟨h1, h2⟩ := List.nodup_cons.mp hn
    cases k with
    | zero =>
      have e : a = ci := by simpa using h
      subst e
      rw [List.filter_cons_of_neg (by simp)]
      show Q = _
      exact (List.filter_eq_self.mpr (fun x hx => by
        have : x ≠ a := fun z => h1 (z ▸ hx)
        simp [this])).symm
    | succ k =>
      have h' : Q[k]? = some ci := by simpa using h
      have e : a ≠ ci := fun z => h1 (z ▸ List.mem_of_getElem? h')
      rw [List.filter_cons_of_pos (by simp [e])]
      show a :: Q.eraseIdx k = _
      rw [ih h2 h']
/-- changes dropped, in a row -/
def s_gdD (S : sSt) (L : List Nat) : sSt := sw_q (sw_c S (s_dr (s_c S) L)) ((s_q S).filter (fun c => !L.contains c))
theorem gd_nil {S : sSt} : s_gdD S [] = S := by
  unfold s_gdD
  rw [dr_nil, List.filter_eq_self.mpr (fun x _ => by simp)]
theorem gd_step {S : sSt} {L : List Nat} {k ci : Nat} {ch : sCh} (hn : (s_q S).Nodup) (hk : (s_q (s_gdD S L))[k]? = some ci) (hch : (s_c (s_gdD S L))[ci]? = some ch) : sw_q (s_cw (s_gdD S L) ci ch 100) ((s_q (s_gdD S L)).eraseIdx k) = s_gdD S (L ++ [ci]) := by
  have e1 := dr_set (M := L ++ [ci]) hch (fun i => by simp [or_comm])
  have hn2 : (s_q (s_gdD S L)).Nodup := hn.sublist List.filter_sublist
  have e2 : (s_q (s_gdD S L)).eraseIdx k = (s_q S).filter (fun c => !(L ++ [ci]).contains c) := by
    rw [er_filter hn2 hk]
    show ((s_q S).filter (fun c => !L.contains c)).filter _ = _
    rw [List.filter_filter]
    refine List.filter_congr fun x _ => ?_
    rw [Bool.eq_iff_iff]
    simp [not_or, and_comm]
  rw [e2]
  show sw_q (sw_c (s_gdD S L) ((s_dr (s_c S) L).set ci (ch.1, ch.2.1, ch.2.2.1, ch.2.2.2.1, 100))) _ = _
  rw [e1]
  rfl
theorem gd_Wc {S : sSt} {L : List Nat} (h6 : sWc S) : sWc (s_gdD S L) := by
  have hs : ((s_q S).filter (fun c => !L.contains c)).Sublist (s_q S) := List.filter_sublist
  refine ⟨h6.1.sublist hs, fun q hq => by show q < (s_dr (s_c S) _).length; rw [dr_len]; exact h6.2.1 q (hs.subset hq), fun ci ch hc => ?_⟩
  have hc' : (s_dr (s_c S) L)[ci]? = some ch := hc
  rw [dr_at] at hc'
  cases hx : (s_c S)[ci]? with
  | none => rw [hx] at hc'; cases hc'
  | some c =>
    rw [hx] at hc'
    have e := Option.some.inj hc'
    have g := h6.2.2 ci c hx
    subst e
    by_cases z : ci ∈ L
    · simp only [z, if_true]; exact ⟨g.1, g.2.1, by decide⟩
    · simp only [z, if_false]; exact g
theorem gd_all {S : sSt} : s_gdD S ((s_q S).filter (s_due S)) = s_gvu S := by
  have e : (s_q S).filter (fun c => !((s_q S).filter (s_due S)).contains c) = (s_q S).filter (fun ci => !s_due S ci) := by
    refine List.filter_congr fun x hx => ?_
    rw [Bool.eq_iff_iff]
    simp [hx]
  unfold s_gdD s_gvu s_guI
  rw [List.drop_zero, List.take_zero, List.nil_append, e]
theorem dq_s {S : sSt} {k ci : Nat} (h : (s_q S)[k]? = some ci) : ((s_q S).take (k + 1)).filter (s_due S) = ((s_q S).take k).filter (s_due S) ++ (if s_due S ci = true then [ci] else []) := by
  rw [List.take_succ, h, List.filter_append]
  cases hd : s_due S ci <;> simp [hd]
theorem dq_le {S : sSt} {k : Nat} : (((s_q S).take k).filter (s_due S)).length ≤ ((s_q S).filter (s_due S)).length := List.Sublist.length_le (List.Sublist.filter _ (List.take_sublist _ _))
theorem jLS.k0 {D : va_G} {s0 : State} {b0 : Nat} {T T1 : jT} {G G1 : jG} {lo hi a cap ea : Nat} {xs : List Nat} {mo : Int32} (hL : jLS D s0 b0 G a xs mo cap ea) (hf : jFm lo hi T G T1 G1) (h0 : (T a).1 = 0) (he : cap ≠ 0 → (T ea).1 = 0) (hlo : 0 < lo) : jLS D s0 b0 G1 a xs mo cap ea ∧ (T1 a).1 = 0 ∧ (cap ≠ 0 → (T1 ea).1 = 0) := by
  obtain ⟨h1, h2, h3, h4⟩ := hL
  have g1 := hf.k0 h0 hlo h1
  refine ⟨⟨g1.2, h2, h3, ?_⟩, g1.1, fun c => ?_⟩
  · rcases h4 with h4 | ⟨h4, f, h5, h6⟩
    · exact Or.inl h4
    · exact Or.inr ⟨h4, f, (hf.k0 (he (by omega)) hlo h5).2, h6⟩
  · rcases h4 with ⟨h4, -⟩ | ⟨h4, f, h5, h6⟩
    · exact absurd h4 c
    · exact (hf.k0 (he c) hlo h5).1

theorem ob_xs {D : va_G} {s0 : State} {b0 th : Nat} {S : sSt} {ad : jN} {T : jT} {G G1 : jG} {k : Nat} (h : jMo D s0 b0 th S ad T G) (hW : ∀ q ∈ s_q S, q < (s_c S).length) (hn : jNw G G1) : ∀ y ∈ (((s_q S).take k).filter (s_due S)).map (fun v => ad 48 v 0), jOb s0 b0 D G1 y := fun y hy => by
  obtain ⟨v, hv, rfl⟩ := List.mem_map.mp hy
  exact ob_chM (jRep.nw h hn) (hW v (List.take_subset _ _ (List.filter_sublist.subset hv)))

set_option maxHeartbeats 4000000 in
set_option maxRecDepth 100000 in
theorem mm_givesUp (l : Launch) (D : va_G) (s0 : State) (b0 : Nat) (A : Nat → Prop) (G : jG) (S : sSt) (th : Nat) (ad : jN) (T : jT) (hR : jMo D s0 b0 th S ad T G) (hW : sWc S) (hn6 : s_n S < 1000000) (hql : (s_q S).length < 100) : jM l yX5_givesUp (ws_ yX5_givesUp cX5_givesUp 4 none) (jR 7 ((3 + ((s_q S).filter (s_due S)).length)) ((11 + 48 * ((s_q S).filter (s_due S)).length))) D s0 b0 A G [.ref (ad 31 0 0)] (fun w G1 => w = none ∧ ∃ T1 : jT, jMo D s0 b0 th (s_gvu S) ad T1 G1 ∧ jFm 31 60 T G T1 G1) := by
  have hxx := mo_x hR
  obtain ⟨moQ, capQ, eaQ, hQL, -, -, -⟩ := mo_que hR
  have hwq := hW.2.1
  have hxl : ((s_q S).map (fun v => ad 48 v 0)).length = (s_q S).length := List.length_map _
  refine jM.of (by decide +kernel) (own := RX5) rfl (Nat.le_of_ble_eq_true rfl) ?_
  intro p e s m args below meth c hX hr hlk hnm
  refine jr_new (ci := 0) (fs := [.int 0, .null, .int 0]) (bc1 := ((3 + ((s_q S).filter (s_due S)).length)) - 1) (bs1 := ((11 + 48 * ((s_q S).filter (s_due S)).length)) - 3) hX in_J2 tyJ2 tyJ2_ok q1664 q121 q68 rfl (by decide) (by omega) (by omega) dX5_givesUp_0 (fun n_0 hn_0 hA_0 => ?_)
  refine jr_dup hX rfl dX5_givesUp_3 ?_
  refine jr_callI (ret := none) (As := []) (bc1 := (((3 + ((s_q S).filter (s_due S)).length)) - 1)) (bs1 := (((11 + 48 * ((s_q S).filter (s_due S)).length)) - 3)) hX (met_init l D s0 b0 A _ n_0 _ _ jup_s) (cwI 0 hX.ts (lw_meth q124) rfl rfl rfl (hX.ts _ q68) (hX.ts _ q1665) (hX.ts _ q123) rfl (by decide +kernel) ⟨Nat.le_of_ble_eq_true rfl, Nat.le_of_ble_eq_true rfl⟩) rfl (Nat.le_of_ble_eq_true rfl) (by first | omega | (dsimp only; omega) | (show _ ≤ _; simp only []; omega)) (by first | omega | (dsimp only; omega) | (show _ ≤ _; simp only []; omega)) rfl dX5_givesUp_4 (fun v_4 G_4 hp_4 => ?_)
  obtain ⟨rfl, e9⟩ := hp_4
  rw [e9, jup_jup]
  have hn0 : G n_0 = none := hn_0
  have hw1 : jNw G (jup G n_0 (jo 0 [.int 0, .ref (jEE s0 b0), .int 0])) := jNw.new hn_0
  refine jr_astore_n (i := 1) hX rfl (by decide) rfl dX5_givesUp_7 ?_
  refine jr_aload_n (i := 0) hX rfl rfl dX5_givesUp_8 ?_
  refine jr_get (ci := 11) (k := 8) hX (hw1 _ _ hxx) rfl in_X5 (by decide) q1738 rfl dX5_givesUp_9 ?_
  refine jr_callV (As := []) (bc1 := ((((3 + ((s_q S).filter (s_due S)).length)) - 1) - 1)) (bs1 := ((((11 + 48 * ((s_q S).filter (s_due S)).length)) - 3) - 4)) hX (met_iterator l D s0 b0 A _ (ad 32 4 0) ((s_q S).map (fun v => ad 48 v 0)) moQ capQ eaQ (hw1.jLS hQL)) (cwV 0 hX.ts (lw_V q1937 q855 q2208 q68 q857) rfl rfl rfl (by decide +kernel) ⟨Nat.le_of_ble_eq_true rfl, Nat.le_of_ble_eq_true rfl⟩) (hw1.jLS hQL).1 rfl rfl (Nat.le_of_ble_eq_true rfl) (by first | omega | (dsimp only; omega) | (show _ ≤ _; simp only []; omega)) (by first | omega | (dsimp only; omega) | (show _ ≤ _; simp only []; omega)) rfl dX5_givesUp_12 (fun v_12 G_12 hp_12 => ?_)
  obtain ⟨it, rfl, hn, hA, e9⟩ := hp_12
  rw [e9]
  refine jr_astore_n (i := 2) hX rfl (by decide) rfl dX5_givesUp_15 ?_
  have hnit : G it = none := by
    cases w9 : G it with
    | none => rfl
    | some y => rw [hw1 _ _ w9] at hn; cases hn
  refine jr_ee hX (fun hEg => ?_)
  have hEG : G (jEE s0 b0) = none := by
    cases w9 : G (jEE s0 b0) with
    | none => rfl
    | some y => rw [(hw1.fr hnit) _ _ w9] at hEg; cases hEg
  have rest : ∀ (Gc : jG) (mo1 : Int32) (cap1 ea1 : Nat), jNw G Gc → jLS D s0 b0 Gc n_0 (((s_q S).filter (s_due S)).map (fun v => ad 48 v 0)) mo1 cap1 ea1 → G ea1 = none → Jg p l e (jR 7 (3 + ((s_q S).filter (s_due S)).length) (11 + 48 * ((s_q S).filter (s_due S)).length)) s m args below meth c (MQ below (jQ D A (fun w G1 => w = none ∧ ∃ T1 : jT, jMo D s0 b0 th (s_gvu S) ad T1 G1 ∧ jFm 31 60 T G T1 G1)) args s (3 + ((s_q S).filter (s_due S)).length) (11 + 48 * ((s_q S).filter (s_due S)).length) A) D A 4 Gc 1 4 56 [(1, .ref n_0), (0, .ref (ad 31 0 0))] [] := by
    intro Gc mo1 cap1 ea1 hnw hL hea1
    refine jr_aload_n (i := 1) hX rfl rfl dX5_givesUp_56 ?_
    refine jr_callV (As := []) (bc1 := (0)) (bs1 := (0)) hX (met_iterator l D s0 b0 A _ n_0 (((s_q S).filter (s_due S)).map (fun v => ad 48 v 0)) mo1 cap1 ea1 hL) (cwV 0 hX.ts (lw_V q1937 q855 q2208 q68 q857) rfl rfl rfl (by decide +kernel) ⟨Nat.le_of_ble_eq_true rfl, Nat.le_of_ble_eq_true rfl⟩) hL.1 rfl rfl (Nat.le_of_ble_eq_true rfl) (by first | omega | (dsimp only; omega) | (show _ ≤ _; simp only []; omega)) (by first | omega | (dsimp only; omega) | (show _ ≤ _; simp only []; omega)) rfl dX5_givesUp_57 (fun v_57 G_57 hp_57 => ?_)
    obtain ⟨it2, rfl, hn2, hA2, e9⟩ := hp_57
    rw [e9]
    refine jr_astore_n (i := 2) hX rfl (by decide) rfl dX5_givesUp_60 ?_
    have hnit2 : G it2 = none := by
      cases w9 : G it2 with
      | none => rfl
      | some y => rw [hnw _ _ w9] at hn2; cases hn2
    have hRc := jRep.nw hR hnw
    have hxl2 : (((s_q S).filter (s_due S)).map (fun v => ad 48 v 0)).length = ((s_q S).filter (s_due S)).length := List.length_map _
    have loop2 : ∀ (n9 : Nat) (k : Nat) (Tc : jT) (Gc : jG) (lr : Int32), ((s_q S).filter (s_due S)).length - k = n9 → k ≤ ((s_q S).filter (s_due S)).length → jMo D s0 b0 th (s_gdD S (((s_q S).filter (s_due S)).take k)) ad Tc Gc → jFm 31 60 T G Tc Gc → Gc it2 = some (jo 1 [.int (nI k), .int lr, .int mo1, .ref n_0]) → (Tc it2).1 = 0 → jLS D s0 b0 Gc n_0 (((s_q S).filter (s_due S)).map (fun v => ad 48 v 0)) mo1 cap1 ea1 → (Tc n_0).1 = 0 → (cap1 ≠ 0 → (Tc ea1).1 = 0) → Jg p l e (jR 7 (3 + ((s_q S).filter (s_due S)).length) (11 + 48 * ((s_q S).filter (s_due S)).length)) s m args below meth c (MQ below (jQ D A (fun w G1 => w = none ∧ ∃ T1 : jT, jMo D s0 b0 th (s_gvu S) ad T1 G1 ∧ jFm 31 60 T G T1 G1)) args s (3 + ((s_q S).filter (s_due S)).length) (11 + 48 * ((s_q S).filter (s_due S)).length) A) D A 4 Gc 0 0 61 [(2, .ref it2), (1, .ref n_0), (0, .ref (ad 31 0 0))] [] := by
      intro n9
      induction n9 using Nat.strongRecOn with
      | ind n9 ih0 =>
      intro k Tc Gc lr hn9 hkl hRc hFc hit hTit hL hTo hTe
      have ih : ∀ m9, m9 < n9 → ∀ (k : Nat) (Tc : jT) (Gc : jG) (lr : Int32), ((s_q S).filter (s_due S)).length - k = m9 → k ≤ ((s_q S).filter (s_due S)).length → jMo D s0 b0 th (s_gdD S (((s_q S).filter (s_due S)).take k)) ad Tc Gc → jFm 31 60 T G Tc Gc → Gc it2 = some (jo 1 [.int (nI k), .int lr, .int mo1, .ref n_0]) → (Tc it2).1 = 0 → jLS D s0 b0 Gc n_0 (((s_q S).filter (s_due S)).map (fun v => ad 48 v 0)) mo1 cap1 ea1 → (Tc n_0).1 = 0 → (cap1 ≠ 0 → (Tc ea1).1 = 0) → Jg p l e (jR 7 (3 + ((s_q S).filter (s_due S)).length) (11 + 48 * ((s_q S).filter (s_due S)).length)) s m args below meth c (MQ below (jQ D A (fun w G1 => w = none ∧ ∃ T1 : jT, jMo D s0 b0 th (s_gvu S) ad T1 G1 ∧ jFm 31 60 T G T1 G1)) args s (3 + ((s_q S).filter (s_due S)).length) (11 + 48 * ((s_q S).filter (s_due S)).length) A) D A 4 Gc 0 0 61 [(2, .ref it2), (1, .ref n_0), (0, .ref (ad 31 0 0))] [] := fun m9 hm => ih0 m9 hm
      refine jr_aload_n (i := 2) hX rfl rfl dX5_givesUp_61 ?_
      refine jr_callF (As := []) (bc1 := (0)) (bs1 := (0)) hX (met_hasNext l D s0 b0 A _ n_0 (((s_q S).filter (s_due S)).map (fun v => ad 48 v 0)) mo1 cap1 ea1 hL it2 k lr hit (by rw [hxl2]; omega)) (va_cwF 0 hX.ts (lw_F q1939 q882 q884 q96 q886) rfl rfl rfl (hX.S.fw ⟨by decide +kernel, by decide +kernel⟩ q880 q879 q885 q883 q881) (by decide +kernel) ⟨Nat.le_of_ble_eq_true rfl, Nat.le_of_ble_eq_true rfl⟩) hit rfl rfl (Nat.le_of_ble_eq_true rfl) (by first | omega | (dsimp only; omega) | (show _ ≤ _; simp only []; omega)) (by first | omega | (dsimp only; omega) | (show _ ≤ _; simp only []; omega)) rfl dX5_givesUp_62 (fun v_62 G_62 hp_62 => ?_)
      obtain ⟨rfl, e9⟩ := hp_62
      rw [e9, hxl2]
      refine jr_if_eq hX (tgt := 88) (by decide) dX5_givesUp_67 (fun c_67 => ?_) (fun c_67 => ?_)
      · have hk2 : ¬ k < ((s_q S).filter (s_due S)).length := of_decide_eq_false (jbz_0 c_67)
        rw [List.take_of_length_le (by omega), gd_all] at hRc
        exact jr_vret hX hlk hr ⟨rfl, Tc, hRc, hFc⟩ dX5_givesUp_88
      · have hk2 : k < ((s_q S).filter (s_due S)).length := of_decide_eq_true (jbz_1 c_67)
        obtain ⟨ci, hci⟩ : ∃ ci, ((s_q S).filter (s_due S))[k]? = some ci := ⟨_, List.getElem?_eq_getElem hk2⟩
        have hciq : ci ∈ s_q S := List.filter_sublist.subset (List.mem_of_getElem? hci)
        have hnin : ci ∉ ((s_q S).filter (s_due S)).take k := fun z => by
          obtain ⟨j, hj⟩ := List.getElem?_of_mem z
          have hjl := lt_ofl hj
          rw [List.length_take] at hjl
          rw [List.getElem?_take_of_lt (by omega)] at hj
          have hnd9 : ((s_q S).filter (s_due S)).Nodup := hW.1.sublist List.filter_sublist
          exact (List.pairwise_iff_getElem.mp hnd9) j k (by omega) hk2 (by omega) ((Option.some.inj ((List.getElem?_eq_getElem (by omega)).symm.trans hj)).trans (Option.some.inj ((List.getElem?_eq_getElem hk2).symm.trans hci)).symm)
        obtain ⟨kk, hkk⟩ : ∃ kk, (s_q (s_gdD S (((s_q S).filter (s_due S)).take k)))[kk]? = some ci := List.getElem?_of_mem (List.mem_filter.mpr ⟨hciq, by simp only [List.contains_iff_mem, Bool.not_eq_true', decide_eq_false_iff_not] ; simpa using hnin⟩)
        obtain ⟨ch, hch⟩ : ∃ ch, (s_c (s_gdD S (((s_q S).filter (s_due S)).take k)))[ci]? = some ch := ⟨_, List.getElem?_eq_getElem (by show ci < (s_dr (s_c S) _).length; rw [dr_len]; exact hwq ci hciq)⟩
        refine jr_aload_n (i := 2) hX rfl rfl dX5_givesUp_70 ?_
        refine jr_callF (As := []) (bc1 := (0)) (bs1 := (0)) hX (met_next l D s0 b0 A _ n_0 (((s_q S).filter (s_due S)).map (fun v => ad 48 v 0)) mo1 cap1 ea1 hL it2 k lr hit (ad 48 ci 0) (by rw [List.getElem?_map, hci]; rfl)) (va_cwF 0 hX.ts (lw_F q1941 q891 q893 q96 q895) rfl rfl rfl (hX.S.fw ⟨by decide +kernel, by decide +kernel⟩ q890 q889 q894 q892 q881) (by decide +kernel) ⟨Nat.le_of_ble_eq_true rfl, Nat.le_of_ble_eq_true rfl⟩) hit rfl rfl (Nat.le_of_ble_eq_true rfl) (by first | omega | (dsimp only; omega) | (show _ ≤ _; simp only []; omega)) (by first | omega | (dsimp only; omega) | (show _ ≤ _; simp only []; omega)) rfl dX5_givesUp_71 (fun v_71 G_71 hp_71 => ?_)
        obtain ⟨rfl, e9⟩ := hp_71
        rw [e9]
        have hR2 := jRep.lo hRc hTit (jo 1 [.int (nI (k + 1)), .int (nI k), .int mo1, .ref n_0])
        have hC := mo_ch hR2 hch
        have hL2 := hL.los hit (c := jo 1 [.int (nI (k + 1)), .int (nI k), .int mo1, .ref n_0]) (by simp)
        refine jr_castS hX hC rfl q1920 dX5_givesUp_76 ?_
        refine jr_astore_n (i := 3) hX rfl (by decide) rfl dX5_givesUp_79 ?_
        refine jr_aload_n (i := 0) hX rfl rfl dX5_givesUp_80 ?_
        refine jr_aload_n (i := 3) hX rfl rfl dX5_givesUp_81 ?_
        refine jr_callV (As := [.ref (ad 48 ci 0)]) (bc1 := (0)) (bs1 := (0)) hX (mm_drops l D s0 b0 A _ (s_gdD S (((s_q S).filter (s_due S)).take k)) th ad Tc hR2 ci ch hch (gd_Wc hW) kk hkk) (cwV 1 hX.ts (lw_V q1925 q1927 qs44 q78 q1928) rfl rfl rfl (by decide +kernel) ⟨Nat.le_of_ble_eq_true rfl, Nat.le_of_ble_eq_true rfl⟩) (mo_x hR2) rfl rfl (Nat.le_of_ble_eq_true rfl) (by first | omega | (dsimp only; omega) | (show _ ≤ _; simp only []; omega)) (by first | omega | (dsimp only; omega) | (show _ ≤ _; simp only []; omega)) rfl dX5_givesUp_82 (fun v_82 G_82 hp_82 => ?_)
        obtain ⟨rfl, T2, h1, h2⟩ := hp_82
        rw [gd_step hW.1 hkk hch, show ((s_q S).filter (s_due S)).take k ++ [ci] = ((s_q S).filter (s_due S)).take (k + 1) from by rw [List.take_succ, hci]; rfl] at h1
        have hit2 := h2.k0 (b := it2) hTit (by decide) jup_s
        obtain ⟨hL3, hT3, hE3⟩ := hL2.k0 h2 hTo hTe (by decide)
        have hF2 := (hFc.fr hnit2 (c := jo 1 [.int (nI (k + 1)), .int (nI k), .int mo1, .ref n_0])).trans h2
        refine jr_goto hX (tgt := 61) (by decide) dX5_givesUp_85 ?_
        refine jr_lvm [(2, .ref it2), (1, .ref n_0), (0, .ref (ad 31 0 0))] rfl ?_
        exact ih _ (by omega) (k + 1) T2 _ _ rfl (by omega) h1 hF2 hit2.2 hit2.1 hL3 hT3 hE3
    refine jr_lvm [(2, .ref it2), (1, .ref n_0), (0, .ref (ad 31 0 0))] rfl ?_
    refine loop2 _ 0 T _ (-1) rfl (Nat.zero_le _) ?_ ((jNw.fm hnw).fr hnit2) jup_s (hR.un hnit2) ((jNw.new hn2).jLS hL) (hR.un hn0) (fun _ => hR.un hea1)
    rw [List.take_zero, gd_nil]
    exact hRc.lo (hR.un hnit2) _
  have loop1 : ∀ (n9 : Nat) (k : Nat) (Gc : jG) (lr mo1 : Int32) (cap1 ea1 : Nat), (s_q S).length - k = n9 → k ≤ (s_q S).length → jNw G Gc → Gc it = some (jo 1 [.int (nI k), .int lr, .int moQ, .ref (ad 32 4 0)]) → jLS D s0 b0 Gc n_0 ((((s_q S).take (k)).filter (s_due S)).map (fun v => ad 48 v 0)) mo1 cap1 ea1 → G ea1 = none → 4 * cap1 ≤ 48 * (((s_q S).take (k)).filter (s_due S)).length → Jg p l e (jR 7 (3 + ((s_q S).filter (s_due S)).length) (11 + 48 * ((s_q S).filter (s_due S)).length)) s m args below meth c (MQ below (jQ D A (fun w G1 => w = none ∧ ∃ T1 : jT, jMo D s0 b0 th (s_gvu S) ad T1 G1 ∧ jFm 31 60 T G T1 G1)) args s (3 + ((s_q S).filter (s_due S)).length) (11 + 48 * ((s_q S).filter (s_due S)).length) A) D A 4 Gc (1 + (((s_q S).filter (s_due S)).length - (((s_q S).take (k)).filter (s_due S)).length)) (4 + (48 * ((s_q S).filter (s_due S)).length - 4 * cap1)) 16 [(2, .ref it), (1, .ref n_0), (0, .ref (ad 31 0 0))] [] := by
    intro n9
    induction n9 using Nat.strongRecOn with
    | ind n9 ih0 =>
    intro k Gc lr mo1 cap1 ea1 hn9 hkl hnw hit hL hea1 hcb
    have ih : ∀ m9, m9 < n9 → ∀ (k : Nat) (Gc : jG) (lr mo1 : Int32) (cap1 ea1 : Nat), (s_q S).length - k = m9 → k ≤ (s_q S).length → jNw G Gc → Gc it = some (jo 1 [.int (nI k), .int lr, .int moQ, .ref (ad 32 4 0)]) → jLS D s0 b0 Gc n_0 ((((s_q S).take (k)).filter (s_due S)).map (fun v => ad 48 v 0)) mo1 cap1 ea1 → G ea1 = none → 4 * cap1 ≤ 48 * (((s_q S).take (k)).filter (s_due S)).length → Jg p l e (jR 7 (3 + ((s_q S).filter (s_due S)).length) (11 + 48 * ((s_q S).filter (s_due S)).length)) s m args below meth c (MQ below (jQ D A (fun w G1 => w = none ∧ ∃ T1 : jT, jMo D s0 b0 th (s_gvu S) ad T1 G1 ∧ jFm 31 60 T G T1 G1)) args s (3 + ((s_q S).filter (s_due S)).length) (11 + 48 * ((s_q S).filter (s_due S)).length) A) D A 4 Gc (1 + (((s_q S).filter (s_due S)).length - (((s_q S).take (k)).filter (s_due S)).length)) (4 + (48 * ((s_q S).filter (s_due S)).length - 4 * cap1)) 16 [(2, .ref it), (1, .ref n_0), (0, .ref (ad 31 0 0))] [] := fun m9 hm => ih0 m9 hm
    have hQ := hnw.jLS hQL
    refine jr_aload_n (i := 2) hX rfl rfl dX5_givesUp_16 ?_
    refine jr_callF (As := []) (bc1 := (1 + (((s_q S).filter (s_due S)).length - (((s_q S).take (k)).filter (s_due S)).length))) (bs1 := (4 + (48 * ((s_q S).filter (s_due S)).length - 4 * cap1))) hX (met_hasNext l D s0 b0 A _ (ad 32 4 0) ((s_q S).map (fun v => ad 48 v 0)) moQ capQ eaQ hQ it k lr hit (by rw [hxl]; omega)) (va_cwF 0 hX.ts (lw_F q1939 q882 q884 q96 q886) rfl rfl rfl (hX.S.fw ⟨by decide +kernel, by decide +kernel⟩ q880 q879 q885 q883 q881) (by decide +kernel) ⟨Nat.le_of_ble_eq_true rfl, Nat.le_of_ble_eq_true rfl⟩) hit rfl rfl (Nat.le_of_ble_eq_true rfl) (by first | omega | (dsimp only; omega) | (show _ ≤ _; simp only []; omega)) (by first | omega | (dsimp only; omega) | (show _ ≤ _; simp only []; omega)) rfl dX5_givesUp_17 (fun v_17 G_17 hp_17 => ?_)
    obtain ⟨rfl, e9⟩ := hp_17
    rw [e9, hxl]
    refine jr_if_eq hX (tgt := 56) (by decide) dX5_givesUp_22 (fun c_22 => ?_) (fun c_22 => ?_)
    · have hk2 : ¬ k < (s_q S).length := of_decide_eq_false (jbz_0 c_22)
      rw [List.take_of_length_le (by omega)] at hL
      refine jr_lvm [(1, .ref n_0), (0, .ref (ad 31 0 0))] rfl ?_
      exact jr_wk (by omega) (by omega) (rest Gc mo1 cap1 ea1 hnw hL hea1)
    · have hk2 : k < (s_q S).length := of_decide_eq_true (jbz_1 c_22)
      obtain ⟨ci, hci⟩ : ∃ ci, (s_q S)[k]? = some ci := ⟨_, List.getElem?_eq_getElem hk2⟩
      obtain ⟨ch, hch⟩ : ∃ ch, (s_c S)[ci]? = some ch := ⟨_, List.getElem?_eq_getElem (hwq ci (List.mem_of_getElem? hci))⟩
      have hwc := hW.2.2 ci ch hch
      have hdq := dq_s hci
      refine jr_aload_n (i := 2) hX rfl rfl dX5_givesUp_25 ?_
      refine jr_callF (As := []) (bc1 := (1 + (((s_q S).filter (s_due S)).length - (((s_q S).take (k)).filter (s_due S)).length))) (bs1 := (4 + (48 * ((s_q S).filter (s_due S)).length - 4 * cap1))) hX (met_next l D s0 b0 A _ (ad 32 4 0) ((s_q S).map (fun v => ad 48 v 0)) moQ capQ eaQ hQ it k lr hit (ad 48 ci 0) (by rw [List.getElem?_map, hci]; rfl)) (va_cwF 0 hX.ts (lw_F q1941 q891 q893 q96 q895) rfl rfl rfl (hX.S.fw ⟨by decide +kernel, by decide +kernel⟩ q890 q889 q894 q892 q881) (by decide +kernel) ⟨Nat.le_of_ble_eq_true rfl, Nat.le_of_ble_eq_true rfl⟩) hit rfl rfl (Nat.le_of_ble_eq_true rfl) (by first | omega | (dsimp only; omega) | (show _ ≤ _; simp only []; omega)) (by first | omega | (dsimp only; omega) | (show _ ≤ _; simp only []; omega)) rfl dX5_givesUp_26 (fun v_26 G_26 hp_26 => ?_)
      obtain ⟨rfl, e9⟩ := hp_26
      rw [e9]
      have hw2 : jNw G (jup Gc it (jo 1 [.int (nI (k + 1)), .int (nI k), .int moQ, .ref (ad 32 4 0)])) := jNw.fr hnw hnit
      have hC := hw2 _ _ (mo_ch hR hch)
      have hL2 := hL.los hit (c := jo 1 [.int (nI (k + 1)), .int (nI k), .int moQ, .ref (ad 32 4 0)]) (by simp)
      refine jr_castS hX hC rfl q1920 dX5_givesUp_31 ?_
      refine jr_astore_n (i := 3) hX rfl (by decide) rfl dX5_givesUp_34 ?_
      refine jr_aload_n (i := 0) hX rfl rfl dX5_givesUp_35 ?_
      refine jr_get (ci := 11) (k := 13) hX (hw2 _ _ hxx) rfl in_X5 (by decide) q1743 rfl dX5_givesUp_36 ?_
      refine jr_aload_n (i := 3) hX rfl rfl dX5_givesUp_39 ?_
      refine jr_getN (ci := 17) (k := 4) hX hC rfl in_X18 (by decide) q2059 rfl dX5_givesUp_40 ?_
      refine jr_lcmp hX dX5_givesUp_43 ?_
      refine jr_if_lt hX (tgt := 53) (by decide) dX5_givesUp_44 (fun c_44 => ?_) (fun c_44 => ?_)
      · have hnd : s_due S ci = false := by rw [due_e hch]; exact decide_eq_false fun z => absurd ((lN_lt (by omega) (by omega)).mp ((lg_cmp_lt _ _).mp c_44)) (by omega)
        rw [hnd, if_neg (by simp), List.append_nil] at hdq
        refine jr_goto hX (tgt := 16) (by decide) dX5_givesUp_53 ?_
        refine jr_lvm [(2, .ref it), (1, .ref n_0), (0, .ref (ad 31 0 0))] rfl ?_
        have h8 := ih _ (by omega) (k + 1) _ (nI k) mo1 cap1 ea1 rfl (by omega) hw2 jup_s (by rw [hdq]; exact hL2) hea1 (by rw [hdq]; exact hcb)
        rw [hdq] at h8
        exact h8
      · have hdue : s_due S ci = true := by rw [due_e hch]; exact decide_eq_true (Nat.not_lt.mp fun z => c_44 ((lg_cmp_lt _ _).mpr ((lN_lt (by omega) (by omega)).mpr z)))
        rw [hdue, if_pos rfl] at hdq
        have hdl := congrArg List.length hdq
        rw [List.length_append] at hdl
        have hdl1 : [ci].length = 1 := rfl
        have hdle := dq_le (S := S) (k := k + 1)
        have hxl1 : ((((s_q S).take (k)).filter (s_due S)).map (fun v => ad 48 v 0)).length = (((s_q S).take (k)).filter (s_due S)).length := List.length_map _
        obtain ⟨ms9, cap9, h9a, h9b, h9c, h9d⟩ : ∃ ms9 cap9 : Nat, (((((s_q S).take (k)).filter (s_due S)).map (fun v => ad 48 v 0)).length = cap1 → 1 ≤ 1 ∧ jgw cap1 (cap1 + 1) ≤ ms9) ∧ cap9 = (if ((((s_q S).take (k)).filter (s_due S)).map (fun v => ad 48 v 0)).length = cap1 then jgw cap1 (cap1 + 1) else cap1) ∧ ms9 + 4 * cap1 ≤ 4 * cap9 ∧ 4 * cap9 ≤ 48 * (((s_q S).take (k + 1)).filter (s_due S)).length := by
          by_cases e : ((((s_q S).take (k)).filter (s_due S)).map (fun v => ad 48 v 0)).length = cap1
          · refine ⟨jgw cap1 (cap1 + 1), jgw cap1 (cap1 + 1), fun _ => ⟨Nat.le_refl _, Nat.le_refl _⟩, (if_pos e).symm, ?_, ?_⟩
            · have g1 := gw_le (c := cap1) (by rcases hL.2.2.2 with ⟨z, -⟩ | ⟨z, -⟩; exact Or.inl z; exact Or.inr z)
              have g2 : cap1 ≤ jgw cap1 (cap1 + 1) := by
                unfold jgw
                split <;> omega
              omega
            · have g3 : jgw cap1 (cap1 + 1) ≤ 10 + 2 * cap1 := by
                unfold jgw
                split <;> omega
              omega
          · exact ⟨0, cap1, fun z => absurd z e, (if_neg e).symm, by omega, by omega⟩
        have hcapb : cap1 < 13000 := by
          have hqn := hql
          have hdk : (((s_q S).take (k)).filter (s_due S)).length ≤ (s_q S).length := Nat.le_trans (dq_le (S := S) (k := k)) (List.length_filter_le _ _)
          omega
        refine jr_ee hX (fun hEc9 => ?_)
        have hEc : Gc (jEE s0 b0) = none := by
          by_cases e : jEE s0 b0 = it
          · rw [e, jup_s] at hEc9; cases hEc9
          · rwa [jup_n e] at hEc9
        refine jr_aload_n (i := 1) hX rfl rfl dX5_givesUp_47 ?_
        refine jr_aload_n (i := 3) hX rfl rfl dX5_givesUp_48 ?_
        refine jr_callV (As := [.ref (ad 48 ci 0)]) (bc1 := (1 + (((s_q S).filter (s_due S)).length - (((s_q S).take (k + 1)).filter (s_due S)).length))) (bs1 := (4 + (48 * ((s_q S).filter (s_due S)).length - 4 * cap9))) hX (met_add l D s0 b0 A _ n_0 ((((s_q S).take (k)).filter (s_due S)).map (fun v => ad 48 v 0)) mo1 cap1 ea1 hL2 (ob_xs hR hwq hw2) (ad 48 ci 0) (ob_chM (jRep.nw hR hw2) (hwq ci (List.mem_of_getElem? hci))) 1 ms9 (by omega) h9a) (cwV 1 hX.ts (lw_V q1711 q186 q2202 q68 q188) rfl rfl rfl (by decide +kernel) ⟨Nat.le_of_ble_eq_true rfl, Nat.le_of_ble_eq_true rfl⟩) hL2.1 rfl rfl (Nat.le_of_ble_eq_true rfl) (by first | omega | (dsimp only; omega) | (show _ ≤ _; simp only []; omega)) (by first | omega | (dsimp only; omega) | (show _ ≤ _; simp only []; omega)) rfl dX5_givesUp_49 (fun v_49 G_49 hp_49 => ?_)
        obtain ⟨rfl, hU⟩ := hp_49
        rw [← h9b] at hU
        obtain ⟨ea2, hLu, hoth, hor⟩ := hU
        have hL3 := hLu
        rw [show ([ad 48 ci 0] : List Nat) = [ci].map (fun v => ad 48 v 0) from rfl, ← List.map_append, ← hdq] at hL3
        have hea2 : G ea2 = none := by
          rcases hor with z | ⟨z, -⟩
          · rw [z]; exact hea1
          · cases w9 : G ea2 with
            | none => rfl
            | some y => rw [hw2 _ _ w9] at z; cases z
        have hno : it ≠ n_0 := fun z => by rw [z, hL.1] at hit; simp [jo] at hit
        have hne1 : it ≠ ea1 := fun z => by
          rcases hL.2.2.2 with ⟨-, w9⟩ | ⟨-, f9, w9, -⟩
          · rw [z, w9, hEc] at hit; cases hit
          · rw [z, w9] at hit; simp [jo, jq] at hit
        have hne2 : it ≠ ea2 := fun z => by
          rcases hor with w9 | ⟨w9, -⟩
          · exact hne1 (z.trans w9)
          · rw [← z, jup_s] at w9; cases w9
        have hit3 := (hoth it hno hne1 hne2).trans jup_s
        have hw3 : jNw G G_49 := fun b x hb => by
          rw [hoth b (fun z => by rw [z, hn0] at hb; cases hb) (fun z => by rw [z, hea1] at hb; cases hb) (fun z => by rw [z, hea2] at hb; cases hb)]
          exact hw2 _ _ hb
        refine jr_pop hX rfl dX5_givesUp_52 ?_
        refine jr_goto hX (tgt := 16) (by decide) dX5_givesUp_53 ?_
        refine jr_lvm [(2, .ref it), (1, .ref n_0), (0, .ref (ad 31 0 0))] rfl ?_
        exact ih _ (by omega) (k + 1) _ (nI k) (mo1 + 1) cap9 ea2 rfl (by omega) hw3 hit3 hL3 hea2 h9d
  refine jr_lvm [(2, .ref it), (1, .ref n_0), (0, .ref (ad 31 0 0))] rfl ?_
  refine jr_wk (by first | omega | (simp; done) | (simp; omega)) (by first | omega | (simp; done) | (simp; omega)) (loop1 _ 0 _ (-1) 0 0 (jEE s0 b0) rfl (Nat.zero_le _) (hw1.fr hnit) jup_s ((jNw.new hn).jLS ⟨jup_s, Nat.le_refl _, by omega, Or.inl ⟨rfl, rfl⟩⟩) hEG (Nat.zero_le _))
