/-! all frames moved: the states on the way (strands before i, and of strand i the frames before j) -/
def s_mvI (S : sSt) (b : Bool) (md i j : Nat) : sSt := sw_s S (fun q => if q < i then ((s_s S q).1, (s_s S q).2.map (s_mvF S b md)) else if q = i then ((s_s S q).1, ((s_s S q).2.take j).map (s_mvF S b md) ++ (s_s S q).2.drop j) else s_s S q)
theorem mvI_at {S : sSt} {b : Bool} {md i j : Nat} {x : sFr} (hx : (s_s S i).2[j]? = some x) : (s_s (s_mvI S b md i j) i).2[j]? = some x := by
  have hj := lt_ofl hx
  show ((fun q => if q < i then ((s_s S q).1, (s_s S q).2.map (s_mvF S b md)) else if q = i then ((s_s S q).1, ((s_s S q).2.take j).map (s_mvF S b md) ++ (s_s S q).2.drop j) else s_s S q) i).2[j]? = some x
  simp only [Nat.lt_irrefl, if_false, if_true]
  rw [List.getElem?_append_right (by rw [List.length_map, List.length_take]; omega), List.length_map, List.length_take, Nat.min_eq_left (by omega), Nat.sub_self, List.getElem?_drop]
  exact hx
theorem mvI_0 {S : sSt} {b : Bool} {md : Nat} : s_mvI S b md 0 0 = S := by
  have e : (fun q => if q < 0 then ((s_s S q).1, (s_s S q).2.map (s_mvF S b md)) else if q = 0 then ((s_s S q).1, ((s_s S q).2.take 0).map (s_mvF S b md) ++ (s_s S q).2.drop 0) else s_s S q) = s_s S := by
    funext q
    by_cases h : q = 0
    · subst h; simp
    · simp [h]
  unfold s_mvI sw_s
  rw [e]
theorem mvI_n {S : sSt} {b : Bool} {md i : Nat} : s_mvI S b md i (s_s S i).2.length = s_mvI S b md (i + 1) 0 := by
  have e : (fun q => if q < i then ((s_s S q).1, (s_s S q).2.map (s_mvF S b md)) else if q = i then ((s_s S q).1, ((s_s S q).2.take (s_s S i).2.length).map (s_mvF S b md) ++ (s_s S q).2.drop (s_s S i).2.length) else s_s S q) = (fun q => if q < i + 1 then ((s_s S q).1, (s_s S q).2.map (s_mvF S b md)) else if q = i + 1 then ((s_s S q).1, ((s_s S q).2.take 0).map (s_mvF S b md) ++ (s_s S q).2.drop 0) else s_s S q) := by
    funext q
    by_cases h : q < i
    · rw [if_pos h, if_pos (by omega)]
    · by_cases h2 : q = i
      · subst h2
        rw [if_neg h, if_pos rfl, if_pos (by omega), List.take_length, List.drop_length, List.append_nil]
      · rw [if_neg h, if_neg h2, if_neg (by omega)]
        by_cases h3 : q = i + 1
        · rw [if_pos h3]
          simp
        · rw [if_neg h3]
  unfold s_mvI sw_s
  rw [e]
theorem mvI_s {S : sSt} {b : Bool} {md i j : Nat} {x : sFr} (hx : (s_s S i).2[j]? = some x) : s_fw (s_mvI S b md i j) i j (s_mvF S b md x) = s_mvI S b md i (j + 1) := by
  have hj := lt_ofl hx
  have e : sup (s_s (s_mvI S b md i j)) i ((s_s (s_mvI S b md i j) i).1, (s_s (s_mvI S b md i j) i).2.set j (s_mvF S b md x)) = (fun q => if q < i then ((s_s S q).1, (s_s S q).2.map (s_mvF S b md)) else if q = i then ((s_s S q).1, ((s_s S q).2.take (j + 1)).map (s_mvF S b md) ++ (s_s S q).2.drop (j + 1)) else s_s S q) := by
    funext q
    by_cases h : q = i
    · subst h
      rw [sup_s, if_neg (Nat.lt_irrefl _), if_pos rfl]
      have e1 : s_s (s_mvI S b md q j) q = ((s_s S q).1, ((s_s S q).2.take j).map (s_mvF S b md) ++ (s_s S q).2.drop j) := by
        show (if q < q then _ else if q = q then _ else _) = _
        rw [if_neg (Nat.lt_irrefl _), if_pos rfl]
      rw [e1]
      refine Prod.ext rfl ?_
      show (((s_s S q).2.take j).map (s_mvF S b md) ++ (s_s S q).2.drop j).set j (s_mvF S b md x) = _
      have hl : (((s_s S q).2.take j).map (s_mvF S b md)).length = j := by rw [List.length_map, List.length_take, Nat.min_eq_left (by omega)]
      rw [List.set_append_right _ _ (by omega), hl, Nat.sub_self, List.drop_eq_getElem_cons hj, List.set_cons_zero, List.take_succ, hx, List.map_append]
      simp
    · rw [sup_n h]
      show (if q < i then _ else if q = i then _ else _) = (if q < i then _ else if q = i then _ else _)
      rw [if_neg h, if_neg h]
  unfold s_fw
  show sw_s (s_mvI S b md i j) _ = s_mvI S b md i (j + 1)
  rw [e]
  rfl
theorem mvF_ok {S : sSt} {b : Bool} {md : Nat} {x : sFr} (hv : sWv S) (hp : s_p S < s_m S) (hl : s_lead S b = true) (hx : x.1 < s_m S ∧ x.2.1 < 5 ∧ x.2.2.1 < 4 ∧ x.2.2.2.2 ≤ 10) (hpl : x.1 = s_p S → md ≠ 111 → s_tch S (s_lo S b) x.2.1 = true → s_pl S b x.2.1 x.2.2.2.2 ≠ -1) : (s_mvF S b md x).1 < s_m S ∧ (s_mvF S b md x).2.1 < 5 ∧ (s_mvF S b md x).2.2.1 < 4 ∧ (s_mvF S b md x).2.2.2.2 ≤ 10 := by
  obtain ⟨h1, h2⟩ := s_lt hl hp
  unfold s_mvF
  by_cases h : x.1 = s_p S ∧ md ≠ 111
  · rw [if_pos h]
    refine ⟨h2, hx.2.1, hx.2.2.1, ?_⟩
    show (if _ then _ else _) ≤ 10
    by_cases ht : s_tch S (s_lo S b) x.2.1 = true
    · rw [if_pos ht]
      have hmm : s_m S = (s_v S).length - 1 := rfl
      obtain ⟨j, hj, e⟩ := (s_pl_in hv (by omega) hx.2.1 hx.2.2.2).resolve_left (hpl h.1 h.2 ht)
      rw [e, nI_clamp (by omega)]
      exact hj
    · rw [if_neg ht]; exact hx.2.2.2
  · rw [if_neg h]; exact hx
