/-! laws for loops over lists of the picture; the states on the way -/
theorem jLS.fm {D : va_G} {s0 : State} {b0 : Nat} {T T1 : jT} {G G1 : jG} {lo hi k i j a cap ea : Nat} {xs : List Nat} {mo : Int32} (hL : jLS D s0 b0 G a xs mo cap ea) (hf : jFm lo hi T G T1 G1) (ha : T a = (k, i, j)) (hea : cap ≠ 0 → T ea = (k + 100, i, j)) (hk : k < 100) (hkl : ¬ (lo ≤ k ∧ k < hi)) : jLS D s0 b0 G1 a xs mo cap ea ∧ (cap ≠ 0 → T1 ea = (k + 100, i, j)) := by
  obtain ⟨h1, h2, h3, h4⟩ := hL
  have g1 := hf a (by rw [h1]; simp) (by rw [ha]; simp only; rw [Nat.mod_eq_of_lt hk]; exact hkl)
  have he : cap ≠ 0 → T1 ea = T ea ∧ G1 ea = G ea := fun c => by
    rcases h4 with ⟨h4, -⟩ | ⟨h4, f, h5, h6⟩
    · exact absurd h4 c
    · refine hf ea (by rw [h5]; simp) ?_
      rw [hea c]
      show ¬ (lo ≤ (k + 100) % 100 ∧ (k + 100) % 100 < hi)
      rw [Nat.add_mod_right, Nat.mod_eq_of_lt hk]
      exact hkl
  refine ⟨⟨g1.2.trans h1, h2, h3, ?_⟩, fun c => (he c).1.trans (hea c)⟩
  rcases h4 with h4 | ⟨h4, f, h5, h6⟩
  · exact Or.inl h4
  · exact Or.inr ⟨h4, f, (he (by omega)).2.trans h5, h6⟩
theorem jFm.k0 {T T1 : jT} {G G1 : jG} {lo hi b : Nat} {c : jE} (hf : jFm lo hi T G T1 G1) (h0 : (T b).1 = 0) (hlo : 0 < lo) (hb : G b = some c) : (T1 b).1 = 0 ∧ G1 b = some c := by
  have h := hf b (by rw [hb]; simp) (by rw [h0]; simp; omega)
  exact ⟨by rw [h.1]; exact h0, h.2.trans hb⟩
theorem jFm.fr {T T1 : jT} {G G1 : jG} {lo hi n : Nat} {c : jE} (hf : jFm lo hi T G T1 G1) (hn : G n = none) : jFm lo hi T G T1 (jup G1 n c) := fun b hb hk => by
  obtain ⟨h1, h2⟩ := hf b hb hk
  exact ⟨h1, by rw [jup_n (fun z => hb (by rw [z]; exact hn))]; exact h2⟩
theorem jFm.bk {T T1 : jT} {G G1 : jG} {lo hi n : Nat} (hf : jFm lo hi T G T1 G1) (h0 : (T n).1 = 0) (hlo : 0 < lo) (hn : G1 n = none) : G n = none := by
  cases z : G n with
  | none => rfl
  | some x =>
    have h := (hf n (by rw [z]; simp) (by rw [h0]; simp; omega)).2
    rw [hn, z] at h
    cases h
theorem fwd_v {S S2 : sSt} (h : s_v S = s_v S2) {k : Nat} : ∀ (n v : Nat) (f : Nat → Int32), s_fwd S k n v f = s_fwd S2 k n v f := by
  intro n
  induction n with
  | zero => intro v f; rfl
  | succ n ih =>
    intro v f
    show s_fwd S k n (v + 1) (s_cf S k v f) = s_fwd S2 k n (v + 1) (s_cf S2 k v f)
    rw [show s_cf S k v f = s_cf S2 k v f by unfold s_cf; unfold s_ver; rw [h]]
    exact ih _ _
theorem bwd_v {S S2 : sSt} (h : s_v S = s_v S2) {k : Nat} : ∀ (n v : Nat) (f : Nat → Int32), s_bwd S k n v f = s_bwd S2 k n v f := by
  intro n
  induction n with
  | zero => intro v f; rfl
  | succ n ih =>
    intro v f
    show s_bwd S k n (v - 1) (s_cb S k v f) = s_bwd S2 k n (v - 1) (s_cb S2 k v f)
    rw [show s_cb S k v f = s_cb S2 k v f by unfold s_cb; unfold s_ver; rw [h]]
    exact ih _ _
theorem car_v {S S2 : sSt} (h : s_v S = s_v S2) {k v a : Nat} {f : Nat → Int32} : s_car S k v a f = s_car S2 k v a f := by
  unfold s_car
  rw [fwd_v h, bwd_v h]
theorem tch_v {S S2 : sSt} (h : s_v S = s_v S2) (h2 : s_i S = s_i S2) {v f : Nat} : s_tch S v f = s_tch S2 v f := by
  have e : s_ver S = s_ver S2 := by unfold s_ver; rw [h]
  have e1 : s_fn S = s_fn S2 := by
    funext w g
    unfold s_fn
    rw [e, show s_ins S = s_ins S2 by unfold s_ins; rw [h2]]
  have e2 : s_kd S v = s_kd S2 v := by
    funext x
    unfold s_kd
    rw [e]
  unfold s_tch
  rw [e1, e2]
theorem pl_v {S S2 : sSt} (h : s_v S = s_v S2) (h2 : s_p S = s_p S2) {b : Bool} {f p : Nat} : s_pl S b f p = s_pl S2 b f p := by
  have e : s_ver S = s_ver S2 := by unfold s_ver; rw [h]
  have e1 : s_lo S b = s_lo S2 b := by unfold s_lo; rw [h2]
  unfold s_pl
  rw [e, e1]
/-- a thing, carried to a version -/
def s_cT (S : sSt) (a : Nat) (t : sTh) : sTh := (a, t.2.1, s_car S t.2.1 t.1 a t.2.2)
/-- the first n things carried -/
def s_ctI (S : sSt) (a n : Nat) : sSt := sw_o S (((s_o S).take n).map (s_cT S a) ++ (s_o S).drop n)
theorem ctI_0 {S : sSt} {a : Nat} : s_ctI S a 0 = S := by
  unfold s_ctI
  simp
theorem ctI_len {S : sSt} {a n : Nat} : (s_o (s_ctI S a n)).length = (s_o S).length := by
  show (((s_o S).take n).map (s_cT S a) ++ (s_o S).drop n).length = _
  rw [List.length_append, List.length_map, List.length_take, List.length_drop]
  omega
theorem ctI_at {S : sSt} {a n k : Nat} (h : n ≤ k) : (s_o (s_ctI S a n))[k]? = (s_o S)[k]? := by
  show (((s_o S).take n).map (s_cT S a) ++ (s_o S).drop n)[k]? = _
  by_cases hn : n ≤ (s_o S).length
  · rw [List.getElem?_append_right (by rw [List.length_map, List.length_take]; omega), List.length_map, List.length_take, Nat.min_eq_left hn, List.getElem?_drop]
    congr 1
    omega
  · rw [List.getElem?_eq_none (by rw [List.length_append, List.length_map, List.length_take, List.length_drop]; omega), List.getElem?_eq_none (by omega)]
theorem ctI_s {S : sSt} {a n : Nat} {t : sTh} (h : (s_o S)[n]? = some t) : s_cto (s_ctI S a n) n a = s_ctI S a (n + 1) := by
  have hn := lt_ofl h
  rw [s_cto_e ((ctI_at (Nat.le_refl n)).trans h), car_v (show s_v (s_ctI S a n) = s_v S from rfl)]
  show sw_o S ((((s_o S).take n).map (s_cT S a) ++ (s_o S).drop n).set n (s_cT S a t)) = _
  have hl : (((s_o S).take n).map (s_cT S a)).length = n := by rw [List.length_map, List.length_take, Nat.min_eq_left (by omega)]
  unfold s_ctI
  rw [List.set_append_right _ _ (by omega), hl, Nat.sub_self, List.drop_eq_getElem_cons hn, List.set_cons_zero, List.take_succ, h, List.map_append]
  simp
/-- what a list with its first n mapped has at k -/
theorem tk_at {α : Type} {L : List α} {F : α → α} {n k : Nat} {y : α} (h : ((L.take n).map F ++ L.drop n)[k]? = some y) : ∃ x, L[k]? = some x ∧ (y = F x ∨ y = x) := by
  have hk := lt_ofl h
  rw [List.length_append, List.length_map, List.length_take, List.length_drop] at hk
  have hkl : k < L.length := by omega
  refine ⟨L[k], List.getElem?_eq_getElem hkl, ?_⟩
  by_cases c : k < n
  · left
    rw [List.getElem?_append_left (by rw [List.length_map, List.length_take]; omega), List.getElem?_map, List.getElem?_take_of_lt c, List.getElem?_eq_getElem hkl] at h
    exact (Option.some.inj h).symm
  · right
    rw [List.getElem?_append_right (by rw [List.length_map, List.length_take]; omega), List.length_map, List.length_take, List.getElem?_drop] at h
    rw [show n + (k - min n L.length) = k by omega, List.getElem?_eq_getElem hkl] at h
    exact (Option.some.inj h).symm
theorem ctI_wo {S : sSt} {a n : Nat} (ho : sWo S) (ha : a < s_m S) : sWo (s_ctI S a n) := by
  refine ⟨by rw [ctI_len]; exact ho.1, fun i t ht => ?_⟩
  obtain ⟨x, hx, hy⟩ := tk_at ht
  have h := ho.2 i x hx
  rcases hy with hy | hy <;> subst hy
  · exact ⟨ha, h.2⟩
  · exact h
/-- of strand q, what is on the way: its first n frames moved, for some n -/
theorem mvI_q {S : sSt} {b : Bool} {md i j q : Nat} : (s_s (s_mvI S b md i j) q).1 = (s_s S q).1 ∧ ∃ n, (s_s (s_mvI S b md i j) q).2 = ((s_s S q).2.take n).map (s_mvF S b md) ++ (s_s S q).2.drop n := by
  have e : s_s (s_mvI S b md i j) q = (if q < i then ((s_s S q).1, (s_s S q).2.map (s_mvF S b md)) else if q = i then ((s_s S q).1, ((s_s S q).2.take j).map (s_mvF S b md) ++ (s_s S q).2.drop j) else s_s S q) := rfl
  rw [e]
  by_cases h : q < i
  · rw [if_pos h]
    refine ⟨rfl, (s_s S q).2.length, ?_⟩
    rw [List.take_length, List.drop_length, List.append_nil]
  · rw [if_neg h]
    by_cases h2 : q = i
    · rw [if_pos h2]
      exact ⟨rfl, j, rfl⟩
    · rw [if_neg h2]
      exact ⟨rfl, 0, by simp⟩
/-- no frame stands in the way of a change -/
def s_free (S : sSt) (b : Bool) (md : Nat) : Prop := ∀ (q j : Nat) (x : sFr), q < 3 → (s_s S q).2[j]? = some x → x.1 = s_p S → md ≠ 111 → s_tch S (s_lo S b) x.2.1 = true → s_pl S b x.2.1 x.2.2.2.2 ≠ -1
theorem mvI_ws {S : sSt} {b : Bool} {md i j : Nat} (hv : sWv S) (hp : s_p S < s_m S) (hl : s_lead S b = true) (hs : sWs S) (hfr : s_free S b md) : sWs (s_mvI S b md i j) := by
  intro q hq
  obtain ⟨h1, n, h2⟩ := mvI_q (S := S) (b := b) (md := md) (i := i) (j := j) (q := q)
  obtain ⟨g1, g2, g3⟩ := hs q hq
  refine ⟨by rw [h1]; exact g1, ?_, fun k y hy => ?_⟩
  · rw [h2, List.length_append, List.length_map, List.length_take, List.length_drop]
    omega
  · rw [h2] at hy
    obtain ⟨x, hx, hor⟩ := tk_at hy
    have hw := g3 k x hx
    rcases hor with e | e <;> subst e
    · exact mvF_ok hv hp hl hw (hfr q k x hq hx)
    · exact hw
theorem mvI_len {S : sSt} {b : Bool} {md i j q : Nat} : (s_s (s_mvI S b md i j) q).2.length = (s_s S q).2.length := by
  obtain ⟨-, n, h2⟩ := mvI_q (S := S) (b := b) (md := md) (i := i) (j := j) (q := q)
  rw [h2, List.length_append, List.length_map, List.length_take, List.length_drop]
  omega
theorem mvF_I {S : sSt} {b b2 : Bool} {md i j md2 : Nat} {x : sFr} : s_mvF (s_mvI S b md i j) b2 md2 x = s_mvF S b2 md2 x := rfl
/-- a change has taken effect -/
def s_tk1 (S : sSt) (ch : sCh) : sSt := sw_p (s_mvI S ch.2.1 ch.1 3 0) (s_to S ch.2.1)
def s_tk2 (S : sSt) (ch : sCh) : sSt := if ch.2.2.1 = true then s_ctI (s_tk1 S ch) (s_to S ch.2.1) (s_o S).length else s_tk1 S ch
def s_tke (S : sSt) (ci : Nat) (ch : sCh) : sSt := s_cw (s_tk2 S ch) ci ch 101
