/-! the model: changes asked for; boxes -/
set_option maxHeartbeats 4000000 in
set_option maxRecDepth 100000 in
theorem mm_ChInit (l : Launch) (D : va_G) (s0 : State) (b0 : Nat) (A : Nat → Prop) (G : jG) (n nu md : Nat) (b o : Bool) (la : Int64) (hmd : md < 1000) (hn : G n = some (jo 17 [.int 0, .int 0, .int 0, .int 0, .long 0, .int 0])) : jM l yX18_init (ws_ yX18_init cX18_init 7 none) (jR 1 0 0) D s0 b0 A G [.ref n, .int (nI nu), .int (nI md), .int (jbz b), .int (jbz o), .long la] (fun w G1 => w = none ∧ G1 = jup G n (jo 17 [.int (nI nu), .int (nI md), .int (jbz b), .int (jbz o), .long la, .int 113])) := by
  refine jM.of (by decide +kernel) (own := RX18) rfl (Nat.le_of_ble_eq_true rfl) ?_
  intro p e s m args below meth c hX hr hlk hnm
  refine jr_aload_n (i := 0) hX rfl rfl dX18_init_0 ?_
  refine jr_oinit hX q2049 q118 q119 (Nat.le_of_ble_eq_true rfl) (Nat.le_of_ble_eq_true rfl) dX18_init_1 ?_
  refine jr_aload_n (i := 0) hX rfl rfl dX18_init_4 ?_
  refine jr_bipush (v := 113) hX (by decide) dX18_init_5 ?_
  refine jr_put (ci := 17) (k := 5) hX hn rfl in_X18 (by decide) tyX18 tyX18_ok nmX18 q2060 rfl (by first | rfl | assumption) (by first | rfl | assumption) (Nat.le_of_ble_eq_true rfl) dX18_init_7 ?_
  refine jr_aload_n (i := 0) hX rfl rfl dX18_init_10 ?_
  refine jr_iload_n (i := 1) hX rfl rfl dX18_init_11 ?_
  refine jr_putF (ci := 17) (k := 0) hX jup_s rfl in_X18 (by decide) tyX18 tyX18_ok nmX18 q2050 rfl hnm rfl (by first | rfl | assumption) (by first | rfl | assumption) (Nat.le_of_ble_eq_true rfl) dX18_init_12 ?_
  rw [jup_jup]
  refine jr_aload_n (i := 0) hX rfl rfl dX18_init_15 ?_
  refine jr_iload_n (i := 2) hX rfl rfl dX18_init_16 ?_
  refine jr_putF (ci := 17) (k := 1) hX jup_s rfl in_X18 (by decide) tyX18 tyX18_ok nmX18 q2052 rfl hnm rfl (nI_nc hmd) (fits_nc hmd) (Nat.le_of_ble_eq_true rfl) dX18_init_17 ?_
  rw [jup_jup]
  refine jr_aload_n (i := 0) hX rfl rfl dX18_init_20 ?_
  refine jr_iload_n (i := 3) hX rfl rfl dX18_init_21 ?_
  refine jr_putF (ci := 17) (k := 2) hX jup_s rfl in_X18 (by decide) tyX18 tyX18_ok nmX18 q2054 rfl hnm rfl (jbz_n _) (fits_bz _) (Nat.le_of_ble_eq_true rfl) dX18_init_22 ?_
  rw [jup_jup]
  refine jr_aload_n (i := 0) hX rfl rfl dX18_init_25 ?_
  refine jr_iload hX rfl dX18_init_26 ?_
  refine jr_putF (ci := 17) (k := 3) hX jup_s rfl in_X18 (by decide) tyX18 tyX18_ok nmX18 q2056 rfl hnm rfl (jbz_n _) (fits_bz _) (Nat.le_of_ble_eq_true rfl) dX18_init_28 ?_
  rw [jup_jup]
  refine jr_aload_n (i := 0) hX rfl rfl dX18_init_31 ?_
  refine jr_lload hX rfl dX18_init_32 ?_
  refine jr_putF (ci := 17) (k := 4) hX jup_s rfl in_X18 (by decide) tyX18 tyX18_ok nmX18 q2058 rfl hnm rfl (by first | rfl | assumption) (by first | rfl | assumption) (Nat.le_of_ble_eq_true rfl) dX18_init_34 ?_
  rw [jup_jup]
  exact jr_vret hX hlk hr ⟨rfl, rfl⟩ dX18_init_37

set_option maxHeartbeats 4000000 in
set_option maxRecDepth 100000 in
theorem mm_asks (l : Launch) (D : va_G) (s0 : State) (b0 : Nat) (A : Nat → Prop) (G : jG) (S : sSt) (th : Nat) (ad : jN) (T : jT) (hR : jMo D s0 b0 th S ad T G) (hW : ∀ q ∈ s_q S, q < (s_c S).length) (hcl : (s_c S).length < 100) (md : Nat) (b o : Bool) (pat : Nat) (hmd : md < 1000) (hpat : pat < 1000) : jM l yX5_asks (ws_ yX5_asks cX5_asks 6 (some (.object "SwapWhileModel$Change"))) (jR 7 2 156) D s0 b0 A G [.ref (ad 31 0 0), .int (nI md), .int (jbz b), .int (jbz o), .int (nI pat)] (fun w G1 => ∃ (ad1 : jN) (T1 : jT), w = some (.ref (ad1 48 (s_c S).length 0)) ∧ jMo D s0 b0 th (sw_c S (s_c S ++ [(md, b, o, s_n S + pat, 113)])) ad1 T1 G1 ∧ jFm 31 60 T G T1 G1 ∧ ∀ k i j, ¬ (k = 48 ∧ i = (s_c S).length ∧ j = 0) → ad1 k i j = ad k i j) := by
  have hxx := mo_x hR
  obtain ⟨moH, capH, eaH, hHL, -, hHc, hHt⟩ := mo_chs hR
  refine jM.of (by decide +kernel) (own := RX5) rfl (Nat.le_of_ble_eq_true rfl) ?_
  intro p e s m args below meth c hX hr hlk hnm
  refine jr_ee hX (fun hE0 => ?_)
  refine jr_new (ci := 17) (fs := [.int 0, .int 0, .int 0, .int 0, .long 0, .int 0]) (bc1 := 1) (bs1 := 150) hX in_X18 tyX18 tyX18_ok q1920 q2045 q110 rfl (by decide) (by omega) (by omega) dX5_asks_0 (fun n_0 hn_0 hA_0 => ?_)
  refine jr_dup hX rfl dX5_asks_3 ?_
  refine jr_aload_n (i := 0) hX rfl rfl dX5_asks_4 ?_
  refine jr_get (ci := 11) (k := 7) hX (jup_f hxx hn_0) rfl in_X5 (by decide) q1737 rfl dX5_asks_5 ?_
  refine jr_callV (As := []) (bc1 := (1)) (bs1 := (150)) hX (met_size l D s0 b0 A _ (ad 32 3 0) (s_rg (s_c S).length (fun v => ad 48 v 0)) moH capH eaH ((jNw.new hn_0).jLS hHL)) (cwV 0 hX.ts (lw_V q1834 q410 q2205 q68 q412) rfl rfl rfl (by decide +kernel) ⟨Nat.le_of_ble_eq_true rfl, Nat.le_of_ble_eq_true rfl⟩) (jup_f hHL.1 hn_0) rfl rfl (Nat.le_of_ble_eq_true rfl) (by first | omega | (dsimp only; omega) | (show _ ≤ _; simp only []; omega)) (by first | omega | (dsimp only; omega) | (show _ ≤ _; simp only []; omega)) rfl dX5_asks_8 (fun v_8 G_8 hp_8 => ?_)
  obtain ⟨rfl, e9⟩ := hp_8
  rw [e9, rg_len]
  refine jr_iload_n (i := 1) hX rfl rfl dX5_asks_11 ?_
  refine jr_iload_n (i := 2) hX rfl rfl dX5_asks_12 ?_
  refine jr_iload_n (i := 3) hX rfl rfl dX5_asks_13 ?_
  refine jr_aload_n (i := 0) hX rfl rfl dX5_asks_14 ?_
  refine jr_get (ci := 11) (k := 13) hX (jup_f hxx hn_0) rfl in_X5 (by decide) q1743 rfl dX5_asks_15 ?_
  refine jr_iload hX rfl dX5_asks_18 ?_
  refine jr_i2l hX rfl dX5_asks_20 ?_
  rw [nI_l (by omega)]
  refine jr_ladd hX dX5_asks_21 ?_
  rw [lN_add]
  refine jr_callI (ret := none) (As := [.int (nI (s_c S).length), .int (nI md), .int (jbz b), .int (jbz o), .long (lN (s_n S + pat))]) (bc1 := (1)) (bs1 := (150)) hX (mm_ChInit l D s0 b0 A _ n_0 (s_c S).length md b o (lN (s_n S + pat)) hmd jup_s) (cwI 5 hX.ts (lw_meth q2048) rfl rfl rfl (hX.ts _ q110) (hX.ts _ q2046) (hX.ts _ q2047) rfl (by decide +kernel) ⟨Nat.le_of_ble_eq_true rfl, Nat.le_of_ble_eq_true rfl⟩) rfl (Nat.le_of_ble_eq_true rfl) (by first | omega | (dsimp only; omega) | (show _ ≤ _; simp only []; omega)) (by first | omega | (dsimp only; omega) | (show _ ≤ _; simp only []; omega)) rfl dX5_asks_22 (fun v_22 G_22 hp_22 => ?_)
  obtain ⟨rfl, e9⟩ := hp_22
  have hgn : G_22 n_0 = some (jo 17 [.int (nI (s_c S).length), .int (nI md), .int (jbz b), .int (jbz o), .long (lN (s_n S + pat)), .int 113]) := by rw [e9, jup_s]
  have hgo : ∀ b, b ≠ n_0 → G_22 b = G b := fun b z1 => by rw [e9, jup_n z1, jup_n z1]
  have hnw : jNw G G_22 := fun b x hb => by
    have z1 : b ≠ n_0 := fun z => by rw [z, hn_0] at hb; cases hb
    rw [hgo b z1]; exact hb
  have hR1 := mo_ad48 (n := n_0) hW (jRep.nw hR hnw) (hR.un hn_0) (by rw [hgn]; simp) (hX.ee hA_0)
  have hHL1 := hnw.jLS hHL
  refine jr_astore hX (by decide) rfl dX5_asks_25 ?_
  refine jr_aload_n (i := 0) hX rfl rfl dX5_asks_27 ?_
  refine jr_get (ci := 11) (k := 7) hX (hnw _ _ hxx) rfl in_X5 (by decide) q1737 rfl dX5_asks_28 ?_
  refine jr_aload hX rfl dX5_asks_31 ?_
  refine jr_callV (As := [.ref n_0]) (bc1 := (0)) (bs1 := (0)) hX (met_add l D s0 b0 A _ (ad 32 3 0) (s_rg (s_c S).length (fun v => ad 48 v 0)) moH capH eaH hHL1 (fun y hy => by obtain ⟨q9, hq9, rfl⟩ := List.mem_map.mp hy; exact ob_chM (jRep.nw hR hnw) (List.mem_range.mp hq9)) n_0 (ob_o hgn (r := (RX18, TX18, 6)) rfl q2244) 1 150 (by omega) (fun hz => ⟨by omega, by rw [rg_len] at hz; have h9 := hHL.2.2.2; unfold jgw; split <;> omega⟩)) (cwV 1 hX.ts (lw_V q1711 q186 q2202 q68 q188) rfl rfl rfl (by decide +kernel) ⟨Nat.le_of_ble_eq_true rfl, Nat.le_of_ble_eq_true rfl⟩) hHL1.1 rfl rfl (Nat.le_of_ble_eq_true rfl) (by first | omega | (dsimp only; omega) | (show _ ≤ _; simp only []; omega)) (by first | omega | (dsimp only; omega) | (show _ ≤ _; simp only []; omega)) rfl dX5_asks_33 (fun v_33 G_33 hp_33 => ?_)
  obtain ⟨rfl, hU⟩ := hp_33
  refine jr_ee hX (fun hE1 => ?_)
  have hlast : (jas ad 48 (s_c S).length 0 n_0) 48 (s_c S).length 0 = n_0 := jas_s
  have hsame : ∀ v, v < (s_c S).length → (jas ad 48 (s_c S).length 0 n_0) 48 v 0 = ad 48 v 0 := fun v hv9 => jas_n (fun z => by omega)
  rw [show s_rg (s_c S).length (fun v => ad 48 v 0) ++ [n_0] = s_rg (s_c S ++ [(md, b, o, s_n S + pat, 113)]).length (fun v => (jas ad 48 (s_c S).length 0 n_0) 48 v 0) by
    rw [List.length_append, List.length_singleton, ← rg_ap (f := fun v => ad 48 v 0) hsame, hlast]] at hU
  have hE01 : G_22 (jEE s0 b0) = none := by
    rw [hgo _ (fun z => hX.ee hA_0 z.symm)]
    exact hE0
  have hcap1 : (if (s_rg (s_c S).length (fun v => ad 48 v 0)).length = capH then jgw capH (capH + 1) else capH) ≤ 200 := by
    rw [rg_len]
    have h9 := hHL.2.2.2
    split
    · unfold jgw; split <;> omega
    · exact hHc
  obtain ⟨T2, hR2, hfm2⟩ := mo_cls (fs := s_c S ++ [(md, b, o, s_n S + pat, 113)]) hR1 hE1 (mo := moH) (cap := capH) (ea := eaH) (by
      rw [show s_rg (s_c S).length (fun v => (jas ad 48 (s_c S).length 0 n_0) 48 v 0) = s_rg (s_c S).length (fun v => ad 48 v 0) from List.map_congr_left fun v hv9 => hsame v (List.mem_range.mp hv9)]
      exact hHL1) (fun hc9 => by
      have ht := hHt hc9
      rw [jTs_n]
      · exact ht
      · intro z; rw [z] at ht; have := hR.un hn_0; rw [ht] at this; cases this) hU hcap1 (fun j9 x9 hx9 => by
      by_cases hj : j9 < (s_c S).length
      · rw [List.getElem?_append_left hj] at hx9; exact Or.inl hx9
      · have hjl := lt_ofl hx9
        rw [List.length_append, List.length_singleton] at hjl
        have ej : j9 = (s_c S).length := by omega
        subst ej
        rw [List.getElem?_append_right (Nat.le_refl _), Nat.sub_self] at hx9
        have ex := Option.some.inj hx9
        subst ex
        rw [hlast]
        exact Or.inr ⟨jTs_s, hgn⟩)
  refine jr_pop hX rfl dX5_asks_36 ?_
  refine jr_aload hX rfl dX5_asks_37 ?_
  refine jr_aret hX hlk hr (Or.inl ⟨_, rfl⟩) (Or.inr ⟨_, rfl⟩) ⟨(jas ad 48 (s_c S).length 0 n_0), T2, by rw [hlast], hR2, ?_, fun k9 i9 j9 hk => jas_n hk⟩ dX5_asks_39
  intro b hb hk
  have z1 : b ≠ n_0 := fun z => hb (by rw [z]; exact hn_0)
  have hb1 : G_22 b ≠ none := by rw [hgo b z1]; exact hb
  have h9 := mo_fm (by omega) hE01 hfm2 b hb1 (by rw [jTs_n z1]; exact hk)
  rw [jTs_n z1, hgo b z1] at h9
  exact h9

section
variable {p : Program} {l : Launch} {e : Env} {R : Room} {s : State} {m : MethodId} {args : Array Value} {below : List Frame} {meth : Method} {c : Code} {Q : State → Prop} {D : va_G} {s0 : State} {b0 : Nat} {A : Nat → Prop} {cc : ByteArray} {nL : Nat} {own : String} {G : jG} {bc bs pc : Nat} {lv : List (Nat × Value)} {st : List Value}
theorem jr_tq (hX : jX D s0 b0 A p s m args c cc nL own) {C : String} {t N : Nat} {f : Nat → Value} {i : Int32} (hT : va_T (.object C) t N f A s s.heap) (hin : vp_in i N) {v : Value} (hv : f i.toNatClampNeg = v) (d : decode cc pc = .ok (.aaload, 1)) (kk : Jg p l e R s m args below meth c Q D A nL G bc bs (pc + 1) lv (v :: st)) : Jg p l e R s m args below meth c Q D A nL G bc bs pc lv (.int i :: .ref t :: st) :=
  fun H locs ls cells slots hG hS hl hc hs => vb_tq hX.1 hX.2.1 hT hS hin hv d (kk H locs ls cells slots hG hS hl hc hs)
end
theorem jS.high {D : va_G} {s0 : State} {b0 : Nat} {A : Nat → Prop} {U : State} (h : jS D s0 b0 A U) : va_Z "java/lang/Integer$IntegerCache" "high" "I" (.int 127) A U U.heap :=
  h.Z q2026 q109 (va_eqt (h.fct (w := Cond.eq (.static "java/lang/Integer$IntegerCache" "high" "I") (.int 127)) (by decide +kernel)))

set_option maxHeartbeats 4000000 in
set_option maxRecDepth 100000 in
theorem met_NumInit (l : Launch) (D : va_G) (s0 : State) (b0 : Nat) (A : Nat → Prop) (G : jG) (a : Nat) : jM l yJ23_init (ws_ yJ23_init cJ23_init 1 none) (jR 1 0 0) D s0 b0 A G [.ref a] (fun w G1 => w = none ∧ G1 = G) := by
  refine jM.of (by decide +kernel) (own := RJ23) rfl (Nat.le_of_ble_eq_true rfl) ?_
  intro p e s m args below meth c hX hr hlk hnm
  refine jr_aload_n (i := 0) hX rfl rfl dJ23_init_0 ?_
  refine jr_oinit hX q2036 q118 q119 (Nat.le_of_ble_eq_true rfl) (Nat.le_of_ble_eq_true rfl) dJ23_init_1 ?_
  exact jr_vret hX hlk hr ⟨rfl, rfl⟩ dJ23_init_4

set_option maxHeartbeats 4000000 in
set_option maxRecDepth 100000 in
theorem met_IntInit (l : Launch) (D : va_G) (s0 : State) (b0 : Nat) (A : Nat → Prop) (G : jG) (a : Nat) (v : Int32) (ha : G a = some (jo 10 [.int 0])) : jM l yJ24_init (ws_ yJ24_init cJ24_init 2 none) (jR 2 0 0) D s0 b0 A G [.ref a, .int v] (fun w G1 => w = none ∧ G1 = jup G a (jo 10 [.int v])) := by
  refine jM.ofF (by decide +kernel) (own := RJ24) rfl (Nat.le_of_ble_eq_true rfl) ?_
  intro p e s m args below meth c hX hr hlk hnm
  refine jr_aload_n (i := 0) hX rfl rfl dJ24_init_0 ?_
  refine jr_callI (ret := none) (As := []) (bc1 := (0)) (bs1 := (0)) hX (met_NumInit l D s0 b0 A _ a) (cwI 0 hX.ts (lw_meth q2035) rfl rfl rfl (hX.ts _ q106) (hX.ts _ q2033) (hX.ts _ q2034) rfl (by decide +kernel) ⟨Nat.le_of_ble_eq_true rfl, Nat.le_of_ble_eq_true rfl⟩) rfl (Nat.le_of_ble_eq_true rfl) (by first | omega | (dsimp only; omega) | (show _ ≤ _; simp only []; omega)) (by first | omega | (dsimp only; omega) | (show _ ≤ _; simp only []; omega)) rfl dJ24_init_1 (fun v_1 G_1 hp_1 => ?_)
  obtain ⟨rfl, e9⟩ := hp_1
  rw [e9]
  refine jr_aload_n (i := 0) hX rfl rfl dJ24_init_4 ?_
  refine jr_iload_n (i := 1) hX rfl rfl dJ24_init_5 ?_
  refine jr_putF (ci := 10) (k := 0) hX ha rfl in_J24 (by decide) tyJ24 tyJ24_ok nmJ24 q2037 rfl hnm rfl (by first | rfl | assumption) (by first | rfl | assumption) (Nat.le_of_ble_eq_true rfl) dJ24_init_6 ?_
  exact jr_vret hX hlk hr ⟨rfl, rfl⟩ dJ24_init_9

theorem box_in {v : Int32} (h : (-128 : Int32) ≤ v ∧ v ≤ 127) : vp_in (v + 128) 256 ∧ (v + 128).toNatClampNeg < 256 := by
  have h1 : (0 : Int32) ≤ v + 128 ∧ v + 128 ≤ 255 := by
    obtain ⟨a, b⟩ := h
    rw [Int32.le_iff_toInt_le] at *
    rw [Int32.le_iff_toInt_le]
    rw [Int32.toInt_add]
    have e1 : (-128 : Int32).toInt = -128 := rfl
    have e2 : (127 : Int32).toInt = 127 := rfl
    have e3 : (128 : Int32).toInt = 128 := rfl
    have e4 : (0 : Int32).toInt = 0 := rfl
    have e5 : (255 : Int32).toInt = 255 := rfl
    rw [e3, e4, e5]
    rw [e1] at a
    rw [e2] at b
    rw [Int.bmod_def]
    omega
  obtain ⟨j, hj, e⟩ := nI_of2 (M := 255) (n := 255) rfl (Int32.not_lt.mpr h1.1) h1.2
  rw [e, nI_clamp (by omega)]
  exact ⟨vp_in_nI (by omega) (by omega), by omega⟩

set_option maxHeartbeats 4000000 in
set_option maxRecDepth 100000 in
theorem met_valueOf (l : Launch) (D : va_G) (s0 : State) (b0 : Nat) (A : Nat → Prop) (G : jG) (v : Int32) : jM l yJ24_valueOf (ws_ yJ24_valueOf cJ24_valueOf 1 (some (.object "java/lang/Integer"))) (jR 3 1 1) D s0 b0 A G [.int v] (fun w G1 => ∃ y, w = some (.ref y) ∧ ((((-128 : Int32) ≤ v ∧ v ≤ 127) ∧ y = jAI s0 b0 (v + 128).toNatClampNeg ∧ (v + 128).toNatClampNeg < 256 ∧ G1 = G) ∨ (¬ ((-128 : Int32) ≤ v ∧ v ≤ 127) ∧ G y = none ∧ A y ∧ G1 = jup G y (jo 10 [.int v])))) := by
  refine jM.ofF (by decide +kernel) (own := RJ24) rfl (Nat.le_of_ble_eq_true rfl) ?_
  intro p e s m args below meth c hX hr hlk hnm
  refine jr_iload_n (i := 0) hX rfl rfl dJ24_valueOf_0 ?_
  refine jr_bipush (v := (-128)) hX (by decide) dJ24_valueOf_1 ?_
  refine jr_icmp_lt hX (tgt := 23) (by decide) dJ24_valueOf_3 (fun c_3 => ?_) (fun c_3 => ?_)
  · refine jr_new (ci := 10) (fs := [.int 0]) (bc1 := 0) (bs1 := 0) hX in_J24 tyJ24 tyJ24_ok q825 q2029 q107 rfl (by decide) (by omega) (by omega) dJ24_valueOf_23 (fun n_23 hn_23 hA_23 => ?_)
    refine jr_dup hX rfl dJ24_valueOf_26 ?_
    refine jr_iload_n (i := 0) hX rfl rfl dJ24_valueOf_27 ?_
    refine jr_callI (ret := none) (As := [.int v]) (bc1 := (0)) (bs1 := (0)) hX (met_IntInit l D s0 b0 A _ n_23 v jup_s) (cwI 1 hX.ts (lw_meth q2032) rfl rfl rfl (hX.ts _ q107) (hX.ts _ q2030) (hX.ts _ q2031) rfl (by decide +kernel) ⟨Nat.le_of_ble_eq_true rfl, Nat.le_of_ble_eq_true rfl⟩) rfl (Nat.le_of_ble_eq_true rfl) (by first | omega | (dsimp only; omega) | (show _ ≤ _; simp only []; omega)) (by first | omega | (dsimp only; omega) | (show _ ≤ _; simp only []; omega)) rfl dJ24_valueOf_28 (fun v_28 G_28 hp_28 => ?_)
    obtain ⟨rfl, e9⟩ := hp_28
    rw [jup_jup] at e9
    exact jr_aret hX hlk hr (Or.inl ⟨_, rfl⟩) (Or.inr ⟨_, rfl⟩) ⟨n_23, rfl, Or.inr ⟨fun z => absurd c_3 (Int32.not_lt.mpr z.1), hn_23, hA_23, e9⟩⟩ dJ24_valueOf_31
  · refine jr_iload_n (i := 0) hX rfl rfl dJ24_valueOf_6 ?_
    refine jr_gets hX hX.S.high q2025 (fun _ h => h) dJ24_valueOf_7 ?_
    refine jr_icmp_gt hX (tgt := 23) (by decide) dJ24_valueOf_10 (fun c_10 => ?_) (fun c_10 => ?_)
    · refine jr_new (ci := 10) (fs := [.int 0]) (bc1 := 0) (bs1 := 0) hX in_J24 tyJ24 tyJ24_ok q825 q2029 q107 rfl (by decide) (by omega) (by omega) dJ24_valueOf_23 (fun n_23 hn_23 hA_23 => ?_)
      refine jr_dup hX rfl dJ24_valueOf_26 ?_
      refine jr_iload_n (i := 0) hX rfl rfl dJ24_valueOf_27 ?_
      refine jr_callI (ret := none) (As := [.int v]) (bc1 := (0)) (bs1 := (0)) hX (met_IntInit l D s0 b0 A _ n_23 v jup_s) (cwI 1 hX.ts (lw_meth q2032) rfl rfl rfl (hX.ts _ q107) (hX.ts _ q2030) (hX.ts _ q2031) rfl (by decide +kernel) ⟨Nat.le_of_ble_eq_true rfl, Nat.le_of_ble_eq_true rfl⟩) rfl (Nat.le_of_ble_eq_true rfl) (by first | omega | (dsimp only; omega) | (show _ ≤ _; simp only []; omega)) (by first | omega | (dsimp only; omega) | (show _ ≤ _; simp only []; omega)) rfl dJ24_valueOf_28 (fun v_28 G_28 hp_28 => ?_)
      obtain ⟨rfl, e9⟩ := hp_28
      rw [jup_jup] at e9
      exact jr_aret hX hlk hr (Or.inl ⟨_, rfl⟩) (Or.inr ⟨_, rfl⟩) ⟨n_23, rfl, Or.inr ⟨fun z => absurd c_10 (Int32.not_lt.mpr z.2), hn_23, hA_23, e9⟩⟩ dJ24_valueOf_31
    · have hin9 : (-128 : Int32) ≤ v ∧ v ≤ 127 := ⟨Int32.not_lt.mp c_3, Int32.not_lt.mp c_10⟩
      have hbx := box_in hin9
      obtain ⟨-, t9, hZ9, hT9⟩ := hX.S.IC
      refine jr_gets hX hZ9 q2027 (fun _ h => h) dJ24_valueOf_13 ?_
      refine jr_iload_n (i := 0) hX rfl rfl dJ24_valueOf_16 ?_
      refine jr_sipush (v := 128) hX (by decide) dJ24_valueOf_17 ?_
      refine jr_iadd hX dJ24_valueOf_20 ?_
      refine jr_tq hX hT9 hbx.1 rfl dJ24_valueOf_21 ?_
      exact jr_aret hX hlk hr (Or.inl ⟨_, rfl⟩) (Or.inr ⟨_, rfl⟩) ⟨_, rfl, Or.inl ⟨hin9, rfl, hbx.2, rfl⟩⟩ dJ24_valueOf_22
