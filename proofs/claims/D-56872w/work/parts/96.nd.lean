/-! the draft -/
def s_dv (S : sSt) (d : sVer) : sSt := sw_v S ((s_v S).set (s_m S) d)
def s_dr0 (S : sSt) : sVer := s_ver S (s_m S)
def s_vf (d : sVer) (f : Nat) (L : List Nat) : sVer := (sup d.1 f L, d.2)
/-- an instruction is added to the draft -/
def s_add (S : sSt) (f : Nat) (I : sIns) : sSt := s_dv (sw_i S (s_i S ++ [I])) (s_vf (s_dr0 S) f ((s_dr0 S).1 f ++ [(s_i S).length]))
/-- a function of the draft is emptied -/
def s_emp (S : sSt) (f : Nat) : sSt := s_dv S (s_vf (s_dr0 S) f [])
theorem dv_len {S : sSt} {d : sVer} : (s_v (s_dv S d)).length = (s_v S).length := List.length_set
theorem dv_at {S : sSt} {d : sVer} (h : 0 < (s_v S).length) : s_ver (s_dv S d) (s_m S) = d := by
  show ((s_v S).set (s_m S) d).getD (s_m S) v0 = d
  rw [List.getD_eq_getElem?_getD, List.getElem?_set_self (by show (s_v S).length - 1 < _; omega)]
  rfl
theorem dv_n {S : sSt} {d : sVer} {v : Nat} (h : v ≠ s_m S) : s_ver (s_dv S d) v = s_ver S v := by
  show ((s_v S).set (s_m S) d).getD v v0 = _
  rw [List.getD_eq_getElem?_getD, List.getElem?_set_ne (Ne.symm h), ← List.getD_eq_getElem?_getD]
theorem shM_vv {D : va_G} {s0 : State} {b0 th : Nat} {V V' : List sVer} {R R' : Nat × (Nat → Nat × List sFr) × List sTh × (Nat → Nat) × List sCh × List Nat × Bool × Int32 × List (Int32 × Nat) × Nat × Nat × List sIns} {ad : jN} {k i j : Nat} (h1 : V'.length = V.length) (h2 : ∀ v, (V'.getD v v0).2 = (V.getD v v0).2) (hR : R'.1 = R.1 ∧ R'.2.1 = R.2.1 ∧ R'.2.2.1 = R.2.2.1 ∧ R'.2.2.2.1 = R.2.2.2.1 ∧ R'.2.2.2.2.1 = R.2.2.2.2.1 ∧ R'.2.2.2.2.2.1 = R.2.2.2.2.2.1 ∧ R'.2.2.2.2.2.2.1 = R.2.2.2.2.2.2.1 ∧ R'.2.2.2.2.2.2.2.1 = R.2.2.2.2.2.2.2.1 ∧ R'.2.2.2.2.2.2.2.2.1 = R.2.2.2.2.2.2.2.2.1 ∧ R'.2.2.2.2.2.2.2.2.2.1 = R.2.2.2.2.2.2.2.2.2.1 ∧ R'.2.2.2.2.2.2.2.2.2.2.1 = R.2.2.2.2.2.2.2.2.2.2.1) (h41 : k ≠ 41) (h50 : k ≠ 50) : shM D s0 b0 th (V', R') ad k i j = shM D s0 b0 th (V, R) ad k i j := by
  obtain ⟨r1, r2, r3, r4, r5, r6, r7, r8, r9, r10, r11, r12⟩ := R
  obtain ⟨q1, q2, q3, q4, q5, q6, q7, q8, q9, q10, q11, q12⟩ := R'
  obtain ⟨e1, e2, e3, e4, e5, e6, e7, e8, e9, e10, e11⟩ := hR
  simp only at e1 e2 e3 e4 e5 e6 e7 e8 e9 e10 e11
  subst e1; subst e2; subst e3; subst e4; subst e5; subst e6; subst e7; subst e8; subst e9; subst e10; subst e11
  rcases k with _ | _ | _ | _ | _ | _ | _ | _ | _ | _ | _ | _ | _ | _ | _ | _ | _ | _ | _ | _ | _ | _ | _ | _ | _ | _ | _ | _ | _ | _ | _ | _ | _ | _ | _ | _ | _ | _ | _ | _ | _ | _ | _ | _ | _ | _ | _ | _ | _ | _ | _ | k
  all_goals first | exact absurd rfl h41 | exact absurd rfl h50 | simp only [shM, s_m, s_v, s_ver, s_p, s_s, s_o, s_t, s_c, s_q, s_w, s_l, s_u, s_k, s_n, h1, h2]
theorem mo_t41 {D : va_G} {s0 : State} {b0 th : Nat} {S : sSt} {ad : jN} {T : jT} {G : jG} {v f : Nat} (h : jMo D s0 b0 th S ad T G) (hv : v < (s_v S).length) (hf : f < 5) : T (ad 41 v f) = (41, v, f) := h.t (k := 41) (i := v) (j := f) (if_pos ⟨hv, hf⟩)
/-- a function of the draft is written -/
theorem mo_fnl {D : va_G} {s0 : State} {b0 th : Nat} {A : Nat → Prop} {S : sSt} {ad : jN} {T : jT} {G G1 : jG} {ea cap cap1 f : Nat} {mo mo1 : Int32} {L : List Nat} {pool : List sIns} (h : jMo D s0 b0 th S ad T G) (hV : 0 < (s_v S).length) (hf : f < 5) (hE : G1 (jEE s0 b0) = none) (hL : jLS D s0 b0 G (ad 41 (s_m S) f) (((s_dr0 S).1 f).map (fun q => ad 50 q 0)) mo cap ea) (hea : cap ≠ 0 → T ea = (141, s_m S, f)) (hU : jLU D s0 b0 A G G1 (ad 41 (s_m S) f) ea (L.map (fun q => ad 50 q 0)) mo1 cap1) (hc : cap1 ≤ 200)
    (hp : ∀ (q : Nat) (x : sIns), pool[q]? = some x → (s_i S)[q]? = some x ∨ (T (ad 50 q 0) = (50, q, 0) ∧ G (ad 50 q 0) = some (jo 14 [.int (jCL.getD x.1 0), .int x.2.1, .int x.2.2.1, .int x.2.2.2]))) :
    ∃ T1 : jT, jMo D s0 b0 th (s_dv (sw_i S pool) (s_vf (s_dr0 S) f L)) ad T1 G1 ∧ ∀ b, G b ≠ none → T b ≠ (41, s_m S, f) → T b ≠ (141, s_m S, f) → b ≠ jEE s0 b0 → T1 b = T b ∧ G1 b = G b := by
  have hm : s_m S < (s_v S).length := by show (s_v S).length - 1 < _; omega
  have hVi : 0 < (s_v (sw_i S pool)).length := hV
  refine jRep.lst h hE (k := 41) (i := s_m S) (j := f) (sl := .inr (((s_dr0 S).1 f).map (fun q => ad 50 q 0), 0, 200)) (if_pos ⟨hm, hf⟩) hL hea hU (fun s hs => ⟨0, 200, ?_, Nat.zero_le _, hc⟩) (fun k' i' j' s hne hs => ?_)
  · have hs' : (if s_m S < (s_v (s_dv (sw_i S pool) (s_vf (s_dr0 S) f L))).length ∧ f < 5 then some (Sum.inr (((s_ver (s_dv (sw_i S pool) (s_vf (s_dr0 S) f L)) (s_m S)).1 f).map (fun q => ad 50 q 0), 0, 200) : jSh) else none) = some s := hs
    rw [dv_len, if_pos ⟨hm, hf⟩, show s_ver (s_dv (sw_i S pool) (s_vf (s_dr0 S) f L)) (s_m S) = s_vf (s_dr0 S) f L from dv_at hVi, show (s_vf (s_dr0 S) f L).1 f = L from sup_s] at hs'
    exact (Option.some.inj hs').symm
  by_cases h41 : k' = 41
  · subst h41
    refine Or.inl ?_
    rw [← hs]
    show (if i' < (s_v S).length ∧ j' < 5 then some (Sum.inr (((s_ver S i').1 j').map (fun q => ad 50 q 0), 0, 200) : jSh) else none) = (if i' < (s_v (s_dv (sw_i S pool) (s_vf (s_dr0 S) f L))).length ∧ j' < 5 then some (Sum.inr (((s_ver (s_dv (sw_i S pool) (s_vf (s_dr0 S) f L)) i').1 j').map (fun q => ad 50 q 0), 0, 200) : jSh) else none)
    rw [dv_len]
    by_cases ei : i' = s_m S
    · have ej : j' ≠ f := fun z => hne ⟨rfl, ei, z⟩
      rw [ei, show s_ver (s_dv (sw_i S pool) (s_vf (s_dr0 S) f L)) (s_m S) = s_vf (s_dr0 S) f L from dv_at hVi, show (s_vf (s_dr0 S) f L).1 j' = (s_dr0 S).1 j' from sup_n ej]
      rfl
    · rw [show s_ver (s_dv (sw_i S pool) (s_vf (s_dr0 S) f L)) i' = s_ver S i' from dv_n (S := sw_i S pool) ei]
  by_cases h50 : k' = 50
  · subst h50
    have hs' : (if j' = 0 then Option.map (fun u : sIns => (Sum.inl (jo 14 [.int (jCL.getD u.1 0), .int u.2.1, .int u.2.2.1, .int u.2.2.2]) : jSh)) (pool[i']?) else none) = some s := hs
    by_cases hj : j' = 0
    · subst hj
      rw [if_pos rfl] at hs'
      obtain ⟨x, hx, rfl⟩ := Option.map_eq_some_iff.mp hs'
      rcases hp i' x hx with z | ⟨z1, z2⟩
      · refine Or.inl ?_
        show (if 0 = 0 then Option.map _ ((s_i S)[i']?) else none) = _
        rw [if_pos rfl, z]; rfl
      · exact Or.inr ⟨by omega, by omega, z1, z2⟩
    · rw [if_neg hj] at hs'; cases hs'
  refine Or.inl ?_
  rw [← hs]
  refine (shM_vv (V := s_v S) (V' := (s_v S).set (s_m S) (s_vf (s_dr0 S) f L)) (R := S.2) (R' := (sw_i S pool).2) List.length_set (fun v => ?_) ⟨rfl, rfl, rfl, rfl, rfl, rfl, rfl, rfl, rfl, rfl, rfl⟩ h41 h50).symm
  by_cases ev : v = s_m S
  · have h9 := dv_at (S := S) (d := s_vf (s_dr0 S) f L) hV
    rw [ev]
    have h8 := congrArg (fun d : sVer => d.2) h9
    exact h8
  · have h8 := congrArg (fun d : sVer => d.2) (dv_n (S := S) (d := s_vf (s_dr0 S) f L) ev)
    exact h8
