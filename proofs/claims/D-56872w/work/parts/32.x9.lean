/-! carries -/
def s_of (fr nu f : Nat → Int32) : Nat → Int32 := fun i => nu i + (if fr i = -1 then 0 else f (fr i).toNatClampNeg)
def s_cf (S : sSt) (k v : Nat) (f : Nat → Int32) : Nat → Int32 := s_of ((s_ver S (v + 1)).2.2.1 (2 * k)) ((s_ver S (v + 1)).2.2.2.1 (2 * k)) f
def s_cb (S : sSt) (k v : Nat) (f : Nat → Int32) : Nat → Int32 := s_of ((s_ver S v).2.2.1 (2 * k + 1)) ((s_ver S v).2.2.2.1 (2 * k + 1)) f
def s_fwd (S : sSt) (k : Nat) : Nat → Nat → (Nat → Int32) → Nat → Int32
  | 0, _, f => f
  | n + 1, v, f => s_fwd S k n (v + 1) (s_cf S k v f)
def s_bwd (S : sSt) (k : Nat) : Nat → Nat → (Nat → Int32) → Nat → Int32
  | 0, _, f => f
  | n + 1, v, f => s_bwd S k n (v - 1) (s_cb S k v f)
/-- the fields of a thing of kind k, carried from version v to version a -/
def s_car (S : sSt) (k v a : Nat) (f : Nat → Int32) : Nat → Int32 := if v ≤ a then s_fwd S k (a - v) v f else s_bwd S k (v - a) v f
section JCQ
variable {D : va_G} {s0 : State} {b0 : Nat} {S : sSt} {ad : jN} {T : jT} {G : jG} {v f i j k : Nat}
theorem co_fb (h : jCo D s0 b0 S ad T G) (hv : v < (s_v S).length) (h0 : 0 < v) (hj : j < 2) : G (ad 13 v j) = some (jq D 103 3 (fun q => some (ad 15 v (2 * q + j)))) := by
  have h1 := h.c (k := 13) (i := v) (j := j) (if_pos ⟨hv, hj⟩)
  have e : (fun q => if v = 0 then none else some (ad 15 v (2 * q + j))) = fun q => some (ad 15 v (2 * q + j)) := funext fun q => if_neg (by omega)
  rw [e] at h1
  exact h1
theorem co_car (h : jCo D s0 b0 S ad T G) (hv : v < (s_v S).length) (h0 : 0 < v) (hj : j < 6) : G (ad 15 v j) = some (jo 5 [.ref (ad 21 v j), .ref (ad 22 v j)]) := h.c (k := 15) (if_pos ⟨h0, hv, hj⟩)
theorem co_from (h : jCo D s0 b0 S ad T G) (hv : v < (s_v S).length) (h0 : 0 < v) (hj : j < 6) : G (ad 21 v j) = some (ji D (s_cl S v j) ((s_ver S v).2.2.1 j)) := h.c (k := 21) (if_pos ⟨h0, hv, hj⟩)
theorem co_num (h : jCo D s0 b0 S ad T G) (hv : v < (s_v S).length) (h0 : 0 < v) (hj : j < 6) : G (ad 22 v j) = some (ji D (s_cl S v j) ((s_ver S v).2.2.2.1 j)) := h.c (k := 22) (if_pos ⟨h0, hv, hj⟩)
theorem s_cl_f {v k : Nat} : s_cl S v (2 * k) = (s_ver S v).2.1 k ∧ s_co S v (2 * k) = (s_ver S (v - 1)).2.1 k := by
  unfold s_cl s_co
  rw [if_pos (by omega), if_pos (by omega), show 2 * k / 2 = k by omega]
  exact ⟨rfl, rfl⟩
theorem s_cl_b {v k : Nat} : s_cl S v (2 * k + 1) = (s_ver S (v - 1)).2.1 k ∧ s_co S v (2 * k + 1) = (s_ver S v).2.1 k := by
  unfold s_cl s_co
  rw [if_neg (by omega), if_neg (by omega), show (2 * k + 1) / 2 = k by omega]
  exact ⟨rfl, rfl⟩
end JCQ

set_option maxHeartbeats 4000000 in
set_option maxRecDepth 100000 in
theorem met_of (l : Launch) (D : va_G) (s0 : State) (b0 : Nat) (A : Nat → Prop) (G : jG) (cy fa na fl n mm : Nat) (fr nu f : Nat → Int32) (hc : G cy = some (jo 5 [.ref fa, .ref na])) (hfa : G fa = some (ji D n fr)) (hna : G na = some (ji D n nu)) (hfl : G fl = some (ji D mm f)) (hn : n ≤ 4) (hm : mm ≤ 4) (hin : ∀ i, i < n → fr i = -1 ∨ ∃ j, j < mm ∧ fr i = nI j) : jM l yX4_of (ws_ yX4_of cX4_of 4 (some (.array .int))) (jR 1 1 4) D s0 b0 A G [.ref cy, .ref fl] (fun w G1 => ∃ q, w = some (.ref q) ∧ G q = none ∧ A q ∧ G1 = jup G q (ji D n (s_of fr nu f))) := by
  refine jM.of (by decide +kernel) (own := RX4) rfl (Nat.le_of_ble_eq_true rfl) ?_
  intro p e s m args below meth c hX hr hlk hnm
  refine jr_aload_n (i := 0) hX rfl rfl dX4_of_0 ?_
  refine jr_get (ci := 5) (k := 1) hX (by first | assumption | exact jup_s) rfl in_X4 (by decide) q356 rfl dX4_of_1 ?_
  refine jr_clonei (bc1 := 0) (bs1 := 4 - n) hX hna q1118 q1119 q536 q537 q1120 q1121 (Nat.le_of_ble_eq_true rfl) (Nat.le_of_ble_eq_true rfl) (Nat.le_refl _) (by omega) dX4_of_4 (fun q hq hqA => ?_)
  refine jr_castA hX jup_s q1122 (va_nm_int (hX.K.2 0 _ rfl).2) dX4_of_7 ?_
  refine jr_astore_n (i := 2) hX rfl (by decide) rfl dX4_of_10 ?_
  refine jr_iconst (v := 0) hX rfl dX4_of_11 ?_
  refine jr_istore_n (i := 3) hX rfl (by decide) rfl dX4_of_12 ?_
  have loop : ∀ (n9 i : Nat) (g : Nat → Int32), n - i = n9 → i ≤ n → (∀ k, k < i → g k = s_of fr nu f k) → (∀ k, i ≤ k → g k = nu k) → Jg p l e (jR 1 1 4) s m args below meth c (MQ below (jQ D A (fun w G1 => ∃ q, w = some (.ref q) ∧ G q = none ∧ A q ∧ G1 = jup G q (ji D n (s_of fr nu f)))) args s 1 4 A) D A 4 (jup G q (ji D n g)) 0 (4 - n) 13 [(3, .int (nI i)), (2, .ref q), (0, .ref cy), (1, .ref fl)] [] := by
    intro n9
    induction n9 using Nat.strongRecOn with
    | ind n9 ih0 =>
    intro i g hn9 hik hg1 hg2
    have ih : ∀ (i1 : Nat) (g1 : Nat → Int32), i < i1 → i1 ≤ n → (∀ k, k < i1 → g1 k = s_of fr nu f k) → (∀ k, i1 ≤ k → g1 k = nu k) → Jg p l e (jR 1 1 4) s m args below meth c (MQ below (jQ D A (fun w G1 => ∃ q, w = some (.ref q) ∧ G q = none ∧ A q ∧ G1 = jup G q (ji D n (s_of fr nu f)))) args s 1 4 A) D A 4 (jup G q (ji D n g1)) 0 (4 - n) 13 [(3, .int (nI i1)), (2, .ref q), (0, .ref cy), (1, .ref fl)] [] := fun i1 g1 h1 h2 => ih0 (n - i1) (by omega) i1 g1 rfl h2
    refine jr_iload_n (i := 3) hX rfl rfl dX4_of_13 ?_
    refine jr_aload_n (i := 2) hX rfl rfl dX4_of_14 ?_
    refine jr_alen (t := 0) hX jup_s rfl rfl dX4_of_15 ?_
    refine jr_icmp_ge hX (tgt := 53) (by decide) dX4_of_16 (fun c_16 => ?_) (fun c_16 => ?_)
    · have hge : n ≤ i := Nat.not_lt.mp fun z => absurd c_16 (nI_ge z (by omega))
      refine jr_aload_n (i := 2) hX rfl rfl dX4_of_53 ?_
      refine jr_norm (s_of fr nu f) jup_s (fun k hk => hg1 k (by omega)) ?_
      rw [jup_jup]
      exact jr_aret hX hlk hr (Or.inr ⟨_, rfl⟩) (Or.inr ⟨_, rfl⟩) ⟨q, rfl, hq, hqA, rfl⟩ dX4_of_54
    · have hin2 : i < n := Nat.not_le.mp fun z => c_16 (nI_le z (by omega))
      refine jr_aload_n (i := 2) hX rfl rfl dX4_of_19 ?_
      refine jr_iload_n (i := 3) hX rfl rfl dX4_of_20 ?_
      refine jr_dup2 hX rfl rfl dX4_of_21 ?_
      refine jr_iald hX jup_s (vp_in_nI (by omega) (by omega)) dX4_of_22 ?_
      rw [nI_clamp (by omega), hg2 i (Nat.le_refl _)]
      refine jr_aload_n (i := 0) hX rfl rfl dX4_of_23 ?_
      refine jr_get (ci := 5) (k := 0) hX (jup_f hc hq) rfl in_X4 (by decide) q354 rfl dX4_of_24 ?_
      refine jr_iload_n (i := 3) hX rfl rfl dX4_of_27 ?_
      refine jr_iald hX (jup_f hfa hq) (vp_in_nI (by omega) (by omega)) dX4_of_28 ?_
      rw [nI_clamp (by omega)]
      refine jr_iconst (v := -1) hX rfl dX4_of_29 ?_
      refine jr_icmp_ne hX (tgt := 37) (by decide) dX4_of_30 (fun c_30 => ?_) (fun c_30 => ?_)
      · obtain ⟨jj, hjm, hje⟩ := (hin i hin2).resolve_left c_30
        refine jr_aload_n (i := 1) hX rfl rfl dX4_of_37 ?_
        refine jr_aload_n (i := 0) hX rfl rfl dX4_of_38 ?_
        refine jr_get (ci := 5) (k := 0) hX (jup_f hc hq) rfl in_X4 (by decide) q354 rfl dX4_of_39 ?_
        refine jr_iload_n (i := 3) hX rfl rfl dX4_of_42 ?_
        refine jr_iald hX (jup_f hfa hq) (vp_in_nI (by omega) (by omega)) dX4_of_43 ?_
        rw [nI_clamp (by omega)]
        refine jr_iald hX (jup_f hfl hq) (by rw [hje]; exact vp_in_nI hjm (by omega)) dX4_of_44 ?_
        refine jr_iadd hX dX4_of_45 ?_
        refine jr_iast hX jup_s (vp_in_nI (by omega) (by omega)) dX4_of_46 ?_
        rw [jup_jup, nI_clamp (by omega)]
        refine jr_iinc (w := 1) hX rfl rfl (by decide) rfl dX4_of_47 ?_
        refine jr_goto hX (tgt := 13) (by decide) dX4_of_50 ?_
        rw [show nI i + 1 = nI (i + 1) from nI_1 i]
        refine jr_lvm [(3, .int (nI (i + 1))), (2, .ref q), (0, .ref cy), (1, .ref fl)] rfl ?_
        refine ih (i + 1) _ (by omega) (by omega) (fun k hk => ?_) (fun k hk => ?_)
        · by_cases e : k = i
          · subst e
            show upd g k _ k = _
            simp only [upd, if_true, s_of]
            rw [if_neg c_30]
          · show upd g i _ k = _
            simp only [upd, if_neg e]
            exact hg1 k (by omega)
        · show upd g i _ k = _
          simp only [upd, if_neg (show k ≠ i by omega)]
          exact hg2 k (by omega)
      · refine jr_iconst (v := 0) hX rfl dX4_of_33 ?_
        refine jr_goto hX (tgt := 45) (by decide) dX4_of_34 ?_
        refine jr_iadd hX dX4_of_45 ?_
        refine jr_iast hX jup_s (vp_in_nI (by omega) (by omega)) dX4_of_46 ?_
        rw [jup_jup, nI_clamp (by omega)]
        refine jr_iinc (w := 1) hX rfl rfl (by decide) rfl dX4_of_47 ?_
        refine jr_goto hX (tgt := 13) (by decide) dX4_of_50 ?_
        rw [show nI i + 1 = nI (i + 1) from nI_1 i]
        refine jr_lvm [(3, .int (nI (i + 1))), (2, .ref q), (0, .ref cy), (1, .ref fl)] rfl ?_
        refine ih (i + 1) _ (by omega) (by omega) (fun k hk => ?_) (fun k hk => ?_)
        · by_cases e : k = i
          · subst e
            show upd g k _ k = _
            simp only [upd, if_true, s_of]
            rw [if_pos c_30]
          · show upd g i _ k = _
            simp only [upd, if_neg e]
            exact hg1 k (by omega)
        · show upd g i _ k = _
          simp only [upd, if_neg (show k ≠ i by omega)]
          exact hg2 k (by omega)
  refine jr_lvm [(3, .int (nI 0)), (2, .ref q), (0, .ref cy), (1, .ref fl)] rfl ?_
  exact loop n 0 nu rfl (Nat.zero_le _) (fun k hk => absurd hk (Nat.not_lt_zero k)) (fun _ _ => rfl)
