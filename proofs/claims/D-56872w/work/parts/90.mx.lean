/-! the model's putAt, putIn, change -/
section
variable {p : Program} {l : Launch} {e : Env} {R : Room} {s : State} {m : MethodId} {args : Array Value} {below : List Frame} {meth : Method} {c : Code} {Q : State → Prop} {D : va_G} {s0 : State} {b0 : Nat} {A : Nat → Prop} {cc : ByteArray} {nL : Nat} {own : String} {G : jG} {bc bs pc : Nat} {lv : List (Nat × Value)} {st : List Value}
theorem jr_castKO (hX : jX D s0 b0 A p s m args c cc nL own) {C : String} {a index : Nat} (hO : va_O C a A s s.heap) (hq : Cond.classLink own index C ∈ lw_all) (d : decode cc pc = .ok (.checkcast index, 3)) (kk : Jg p l e R s m args below meth c Q D A nL G bc bs (pc + 3) lv (.ref a :: st)) : Jg p l e R s m args below meth c Q D A nL G bc bs pc lv (.ref a :: st) :=
  fun H locs ls cells slots hG hS hl hc hs => va_castE hX.1 hX.2.1 hX.2.2.2.1 (hX.ts _ hq) (by obtain ⟨cell, h1, h2, h3, h4⟩ := va_O.kept hO hS.2.1; exact ⟨cell, h1, h2, h3⟩) d (kk H locs ls cells slots hG hS hl hc hs)
end
theorem vb_in {v : Int32} (h : (-128 : Int32) ≤ v ∧ v ≤ 127) : vb_c (v + 128).toNatClampNeg = v := by
  have h2 := (box_in h).1
  obtain ⟨j, hj, e⟩ := nI_of (x := v + 128) (fun z => h2 (Or.inl z))
  unfold vb_c
  rw [e, nI_clamp hj]
  show nI j - 128 = v
  rw [← e]
  exact Int32.add_sub_cancel v 128
theorem vb_nI (v : Nat) : vb_c (v + 128) = nI v := by
  unfold vb_c
  show nI (v + 128) - 128 = nI v
  rw [← nI_add v 128]
  exact Int32.add_sub_cancel (nI v) 128

set_option maxHeartbeats 4000000 in
set_option maxRecDepth 100000 in
theorem met_intValueK (l : Launch) (D : va_G) (s0 : State) (b0 : Nat) (A : Nat → Prop) (G : jG) (k : Nat) (hk : k < 256) : jM l yJ24_intValue (ws_ yJ24_intValue cJ24_intValue 1 (some .int)) (jR 0 0 0) D s0 b0 A G [.ref (jAI s0 b0 k)] (fun w G1 => w = some (.int (vb_c k)) ∧ G1 = G) := by
  refine jM.ofF (by decide +kernel) (own := RJ24) rfl (Nat.le_of_ble_eq_true rfl) ?_
  intro p e s m args below meth c hX hr hlk hnm
  refine jr_aload_n (i := 0) hX rfl rfl dJ24_intValue_0 ?_
  refine jr_getK hX (hX.S.IC.1.2 k hk) q2037 (fun _ h => h) dJ24_intValue_1 ?_
  exact jr_iret hX hlk hr ⟨rfl, rfl⟩ dJ24_intValue_4

set_option maxHeartbeats 4000000 in
set_option maxRecDepth 100000 in
theorem mm_putAtC (l : Launch) (D : va_G) (s0 : State) (b0 : Nat) (A : Nat → Prop) (G : jG) (S : sSt) (th : Nat) (ad : jN) (T : jT) (hR : jMo D s0 b0 th S ad T G) (q : Nat) (u : Int32 × Nat) (hu : (s_u S)[q]? = some u) (hul : (s_u S).length < 10000) : jM l yX5_putAt (ws_ yX5_putAt cX5_putAt 2 (some .int)) (jR 5 0 0) D s0 b0 A G [.ref (ad 31 0 0), .int (nI q)] (fun w G1 => w = some (.int (u.1)) ∧ jMo D s0 b0 0 S ad T G1 ∧ jFm 31 60 T G T G1) := by
  have hxx := mo_x hR
  have hq9 := lt_ofl hu
  have hin := len_yes hul hq9
  have hg9 : (s_u S).getD q (0, 0) = u := by rw [List.getD_eq_getElem?_getD, hu]; rfl
  refine jM.of (by decide +kernel) (own := RX5) rfl (Nat.le_of_ble_eq_true rfl) ?_
  intro p e s m args below meth c hX hr hlk hnm
  refine jr_aload_n (i := 0) hX rfl rfl dX5_putAt_0 ?_
  refine jr_iload_n (i := 1) hX rfl rfl dX5_putAt_1 ?_
  refine jr_callV (As := [.int (nI q)]) (bc1 := (0)) (bs1 := (0)) hX (mm_noAmount l D s0 b0 A _ S th ad T hR (nI q)) (cwV 1 hX.ts (lw_V q2168 q2170 qs63 q78 q2171) rfl rfl rfl (by decide +kernel) ⟨Nat.le_of_ble_eq_true rfl, Nat.le_of_ble_eq_true rfl⟩) hxx rfl rfl (Nat.le_of_ble_eq_true rfl) (by first | omega | (dsimp only; omega) | (show _ ≤ _; simp only []; omega)) (by first | omega | (dsimp only; omega) | (show _ ≤ _; simp only []; omega)) rfl dX5_putAt_2 (fun v_2 G_2 hp_2 => ?_)
  obtain ⟨rfl, hR1, hF1⟩ := hp_2
  rw [if_pos hin] at hR1
  rw [decide_eq_true hin]
  have hxx1 := mo_x hR1
  refine jr_if_eq hX (tgt := 12) (by decide) dX5_putAt_5 (fun c_5 => ?_) (fun c_5 => absurd rfl c_5)
  refine jr_aload_n (i := 0) hX rfl rfl dX5_putAt_12 ?_
  obtain ⟨moU, capU, eaU, hUL, -, -, -⟩ := mo_am hR1
  refine jr_get (ci := 11) (k := 11) hX hxx1 rfl in_X5 (by decide) q1741 rfl dX5_putAt_13 ?_
  refine jr_iload_n (i := 1) hX rfl rfl dX5_putAt_16 ?_
  refine jr_callV (As := [.int (nI q)]) (bc1 := (0)) (bs1 := (0)) hX (met_get l D s0 b0 A _ (ad 32 5 0) (s_rg (s_u S).length (fun v => jbx s0 b0 ((s_u S).getD v (0, 0)).1 (ad 49 v 0))) moU capU eaU hUL q (jbx s0 b0 u.1 (ad 49 q 0)) (by rw [← hg9]; exact rg_at hq9)) (cwV 1 hX.ts (lw_V q1712 q304 q2203 q68 q306) rfl rfl rfl (by decide +kernel) ⟨Nat.le_of_ble_eq_true rfl, Nat.le_of_ble_eq_true rfl⟩) hUL.1 rfl rfl (Nat.le_of_ble_eq_true rfl) (by first | omega | (dsimp only; omega) | (show _ ≤ _; simp only []; omega)) (by first | omega | (dsimp only; omega) | (show _ ≤ _; simp only []; omega)) rfl dX5_putAt_17 (fun v_17 G_17 hp_17 => ?_)
  obtain ⟨rfl, e9⟩ := hp_17
  rw [e9]
  by_cases hi : ((-128 : Int32) ≤ u.1 ∧ u.1 ≤ 127)
  · have hk9 := (box_in hi).2
    rw [show jbx s0 b0 u.1 (ad 49 q 0) = jAI s0 b0 (u.1 + 128).toNatClampNeg from if_pos hi]
    refine jr_castKO hX (hX.S.IC.1.1 _ hk9) q2172 dX5_putAt_20 ?_
    refine jr_callKV (As := []) (bc1 := (0)) (bs1 := (0)) hX (met_intValueK l D s0 b0 A _ _ hk9) (cwV 0 hX.ts (lw_V q2173 q827 q828 q107 q829) rfl rfl rfl (by decide +kernel) ⟨Nat.le_of_ble_eq_true rfl, Nat.le_of_ble_eq_true rfl⟩) (hX.S.IC.1.1 _ hk9) rfl (Nat.le_of_ble_eq_true rfl) (by first | omega | (dsimp only; omega) | (show _ ≤ _; simp only []; omega)) (by first | omega | (dsimp only; omega) | (show _ ≤ _; simp only []; omega)) rfl dX5_putAt_23 (fun v_23 G_23 hp_23 => ?_)
    obtain ⟨rfl, e9⟩ := hp_23
    rw [e9, vb_in hi]
    exact jr_iret hX hlk hr ⟨rfl, hR1, hF1⟩ dX5_putAt_26
  · have hB := hR1.c (k := 49) (i := q) (j := 0) (c := jo 10 [.int u.1]) (by
      show (if 0 = 0 then (match (s_u S)[q]? with | some u => if ((-128 : Int32) ≤ u.1 ∧ u.1 ≤ 127) then none else some (Sum.inl (jo 10 [.int u.1]) : jSh) | none => none) else none) = _
      rw [if_pos rfl, hu]
      show (if ((-128 : Int32) ≤ u.1 ∧ u.1 ≤ 127) then none else _) = _
      rw [if_neg hi])
    rw [show jbx s0 b0 u.1 (ad 49 q 0) = ad 49 q 0 from if_neg hi]
    refine jr_castS hX hB rfl q2172 dX5_putAt_20 ?_
    refine jr_callV (As := []) (bc1 := (0)) (bs1 := (0)) hX (met_intValue l D s0 b0 A _ (ad 49 q 0) u.1 hB) (cwV 0 hX.ts (lw_V q2173 q827 q828 q107 q829) rfl rfl rfl (by decide +kernel) ⟨Nat.le_of_ble_eq_true rfl, Nat.le_of_ble_eq_true rfl⟩) hB rfl rfl (Nat.le_of_ble_eq_true rfl) (by first | omega | (dsimp only; omega) | (show _ ≤ _; simp only []; omega)) (by first | omega | (dsimp only; omega) | (show _ ≤ _; simp only []; omega)) rfl dX5_putAt_23 (fun v_23 G_23 hp_23 => ?_)
    obtain ⟨rfl, e9⟩ := hp_23
    rw [e9]
    exact jr_iret hX hlk hr ⟨rfl, hR1, hF1⟩ dX5_putAt_26

set_option maxHeartbeats 4000000 in
set_option maxRecDepth 100000 in
theorem mm_putAtE (l : Launch) (D : va_G) (s0 : State) (b0 : Nat) (A : Nat → Prop) (G : jG) (S : sSt) (th : Nat) (ad : jN) (T : jT) (hR : jMo D s0 b0 th S ad T G) (x : Int32) (hin : ¬ ((0 : Int32) ≤ x ∧ x ≤ nI (s_u S).length - 1)) : jM l yX5_putAt (ws_ yX5_putAt cX5_putAt 2 (some .int)) (jR 5 0 0) D s0 b0 A G [.ref (ad 31 0 0), .int x] (fun w G1 => w = some (.int 0) ∧ jMo D s0 b0 1 S ad T G1 ∧ jFm 31 60 T G T G1) := by
  have hxx := mo_x hR
  refine jM.of (by decide +kernel) (own := RX5) rfl (Nat.le_of_ble_eq_true rfl) ?_
  intro p e s m args below meth c hX hr hlk hnm
  refine jr_aload_n (i := 0) hX rfl rfl dX5_putAt_0 ?_
  refine jr_iload_n (i := 1) hX rfl rfl dX5_putAt_1 ?_
  refine jr_callV (As := [.int x]) (bc1 := (0)) (bs1 := (0)) hX (mm_noAmount l D s0 b0 A _ S th ad T hR x) (cwV 1 hX.ts (lw_V q2168 q2170 qs63 q78 q2171) rfl rfl rfl (by decide +kernel) ⟨Nat.le_of_ble_eq_true rfl, Nat.le_of_ble_eq_true rfl⟩) hxx rfl rfl (Nat.le_of_ble_eq_true rfl) (by first | omega | (dsimp only; omega) | (show _ ≤ _; simp only []; omega)) (by first | omega | (dsimp only; omega) | (show _ ≤ _; simp only []; omega)) rfl dX5_putAt_2 (fun v_2 G_2 hp_2 => ?_)
  obtain ⟨rfl, hR1, hF1⟩ := hp_2
  rw [if_neg hin] at hR1
  rw [decide_eq_false hin]
  have hxx1 := mo_x hR1
  refine jr_if_eq hX (tgt := 12) (by decide) dX5_putAt_5 (fun c_5 => absurd c_5 (by decide)) (fun c_5 => ?_)
  refine jr_iconst (v := 0) hX rfl dX5_putAt_8 ?_
  refine jr_goto hX (tgt := 26) (by decide) dX5_putAt_9 ?_
  exact jr_iret hX hlk hr ⟨rfl, hR1, hF1⟩ dX5_putAt_26

set_option maxHeartbeats 4000000 in
set_option maxRecDepth 100000 in
theorem mm_putInC (l : Launch) (D : va_G) (s0 : State) (b0 : Nat) (A : Nat → Prop) (G : jG) (S : sSt) (th : Nat) (ad : jN) (T : jT) (hR : jMo D s0 b0 th S ad T G) (q : Nat) (u : Int32 × Nat) (hu : (s_u S)[q]? = some u) (hul : (s_u S).length < 10000) (hu2 : u.2 + 128 < 256) : jM l yX5_putIn (ws_ yX5_putIn cX5_putIn 2 (some .int)) (jR 5 0 0) D s0 b0 A G [.ref (ad 31 0 0), .int (nI q)] (fun w G1 => w = some (.int (nI u.2)) ∧ jMo D s0 b0 0 S ad T G1 ∧ jFm 31 60 T G T G1) := by
  have hxx := mo_x hR
  have hq9 := lt_ofl hu
  have hin := len_yes hul hq9
  have hg9 : (s_u S).getD q (0, 0) = u := by rw [List.getD_eq_getElem?_getD, hu]; rfl
  have hk9 := hu2
  refine jM.of (by decide +kernel) (own := RX5) rfl (Nat.le_of_ble_eq_true rfl) ?_
  intro p e s m args below meth c hX hr hlk hnm
  refine jr_aload_n (i := 0) hX rfl rfl dX5_putIn_0 ?_
  refine jr_iload_n (i := 1) hX rfl rfl dX5_putIn_1 ?_
  refine jr_callV (As := [.int (nI q)]) (bc1 := (0)) (bs1 := (0)) hX (mm_noAmount l D s0 b0 A _ S th ad T hR (nI q)) (cwV 1 hX.ts (lw_V q2168 q2170 qs63 q78 q2171) rfl rfl rfl (by decide +kernel) ⟨Nat.le_of_ble_eq_true rfl, Nat.le_of_ble_eq_true rfl⟩) hxx rfl rfl (Nat.le_of_ble_eq_true rfl) (by first | omega | (dsimp only; omega) | (show _ ≤ _; simp only []; omega)) (by first | omega | (dsimp only; omega) | (show _ ≤ _; simp only []; omega)) rfl dX5_putIn_2 (fun v_2 G_2 hp_2 => ?_)
  obtain ⟨rfl, hR1, hF1⟩ := hp_2
  rw [if_pos hin] at hR1
  rw [decide_eq_true hin]
  have hxx1 := mo_x hR1
  refine jr_if_eq hX (tgt := 12) (by decide) dX5_putIn_5 (fun c_5 => ?_) (fun c_5 => absurd rfl c_5)
  refine jr_aload_n (i := 0) hX rfl rfl dX5_putIn_12 ?_
  obtain ⟨moU, capU, eaU, hUL, -, -, -⟩ := mo_av hR1
  refine jr_get (ci := 11) (k := 12) hX hxx1 rfl in_X5 (by decide) q1742 rfl dX5_putIn_13 ?_
  refine jr_iload_n (i := 1) hX rfl rfl dX5_putIn_16 ?_
  refine jr_callV (As := [.int (nI q)]) (bc1 := (0)) (bs1 := (0)) hX (met_get l D s0 b0 A _ (ad 32 6 0) (s_rg (s_u S).length (fun v => jAI s0 b0 (((s_u S).getD v (0, 0)).2 + 128))) moU capU eaU hUL q (jAI s0 b0 (u.2 + 128)) (by rw [← hg9]; exact rg_at hq9)) (cwV 1 hX.ts (lw_V q1712 q304 q2203 q68 q306) rfl rfl rfl (by decide +kernel) ⟨Nat.le_of_ble_eq_true rfl, Nat.le_of_ble_eq_true rfl⟩) hUL.1 rfl rfl (Nat.le_of_ble_eq_true rfl) (by first | omega | (dsimp only; omega) | (show _ ≤ _; simp only []; omega)) (by first | omega | (dsimp only; omega) | (show _ ≤ _; simp only []; omega)) rfl dX5_putIn_17 (fun v_17 G_17 hp_17 => ?_)
  obtain ⟨rfl, e9⟩ := hp_17
  rw [e9]
  refine jr_castKO hX (hX.S.IC.1.1 _ hk9) q2172 dX5_putIn_20 ?_
  refine jr_callKV (As := []) (bc1 := (0)) (bs1 := (0)) hX (met_intValueK l D s0 b0 A _ _ hk9) (cwV 0 hX.ts (lw_V q2173 q827 q828 q107 q829) rfl rfl rfl (by decide +kernel) ⟨Nat.le_of_ble_eq_true rfl, Nat.le_of_ble_eq_true rfl⟩) (hX.S.IC.1.1 _ hk9) rfl (Nat.le_of_ble_eq_true rfl) (by first | omega | (dsimp only; omega) | (show _ ≤ _; simp only []; omega)) (by first | omega | (dsimp only; omega) | (show _ ≤ _; simp only []; omega)) rfl dX5_putIn_23 (fun v_23 G_23 hp_23 => ?_)
  obtain ⟨rfl, e9⟩ := hp_23
  rw [e9, vb_nI]
  exact jr_iret hX hlk hr ⟨rfl, hR1, hF1⟩ dX5_putIn_26

set_option maxHeartbeats 4000000 in
set_option maxRecDepth 100000 in
theorem mm_putInE (l : Launch) (D : va_G) (s0 : State) (b0 : Nat) (A : Nat → Prop) (G : jG) (S : sSt) (th : Nat) (ad : jN) (T : jT) (hR : jMo D s0 b0 th S ad T G) (x : Int32) (hin : ¬ ((0 : Int32) ≤ x ∧ x ≤ nI (s_u S).length - 1)) : jM l yX5_putIn (ws_ yX5_putIn cX5_putIn 2 (some .int)) (jR 5 0 0) D s0 b0 A G [.ref (ad 31 0 0), .int x] (fun w G1 => w = some (.int 0) ∧ jMo D s0 b0 1 S ad T G1 ∧ jFm 31 60 T G T G1) := by
  have hxx := mo_x hR
  refine jM.of (by decide +kernel) (own := RX5) rfl (Nat.le_of_ble_eq_true rfl) ?_
  intro p e s m args below meth c hX hr hlk hnm
  refine jr_aload_n (i := 0) hX rfl rfl dX5_putIn_0 ?_
  refine jr_iload_n (i := 1) hX rfl rfl dX5_putIn_1 ?_
  refine jr_callV (As := [.int x]) (bc1 := (0)) (bs1 := (0)) hX (mm_noAmount l D s0 b0 A _ S th ad T hR x) (cwV 1 hX.ts (lw_V q2168 q2170 qs63 q78 q2171) rfl rfl rfl (by decide +kernel) ⟨Nat.le_of_ble_eq_true rfl, Nat.le_of_ble_eq_true rfl⟩) hxx rfl rfl (Nat.le_of_ble_eq_true rfl) (by first | omega | (dsimp only; omega) | (show _ ≤ _; simp only []; omega)) (by first | omega | (dsimp only; omega) | (show _ ≤ _; simp only []; omega)) rfl dX5_putIn_2 (fun v_2 G_2 hp_2 => ?_)
  obtain ⟨rfl, hR1, hF1⟩ := hp_2
  rw [if_neg hin] at hR1
  rw [decide_eq_false hin]
  have hxx1 := mo_x hR1
  refine jr_if_eq hX (tgt := 12) (by decide) dX5_putIn_5 (fun c_5 => absurd c_5 (by decide)) (fun c_5 => ?_)
  refine jr_iconst (v := 0) hX rfl dX5_putIn_8 ?_
  refine jr_goto hX (tgt := 26) (by decide) dX5_putIn_9 ?_
  exact jr_iret hX hlk hr ⟨rfl, hR1, hF1⟩ dX5_putIn_26
