/-! the component's small methods -/
theorem jdt {p : Prop} {q : Decidable p} (h : p) : jbz (@decide p q) = 1 := by simp [jbz, h]
theorem jdf {p : Prop} {q : Decidable p} (h : ¬ p) : jbz (@decide p q) = 0 := by simp [jbz, h]

set_option maxHeartbeats 4000000 in
set_option maxRecDepth 100000 in
theorem met_isIn (l : Launch) (D : va_G) (s0 : State) (b0 : Nat) (A : Nat → Prop) (G : jG) (x a b : Int32) : jM l yX1_isIn (ws_ yX1_isIn cX1_isIn 3 (some .boolean)) (jR 0 0 0) D s0 b0 A G [.int x, .int a, .int b] (fun v G1 => v = some (.int (jbz (decide (a ≤ x ∧ x ≤ b)))) ∧ G1 = G) := by
  refine jM.of (by decide +kernel) (own := RX1) rfl (Nat.le_of_ble_eq_true rfl) ?_
  intro p e s m args below meth c hX hr hlk hnm
  refine jr_iload_n (i := 0) hX rfl rfl dX1_isIn_0 ?_
  refine jr_iload_n (i := 1) hX rfl rfl dX1_isIn_1 ?_
  refine jr_icmp_lt hX (tgt := 14) (by decide) dX1_isIn_2 (fun c_2 => ?_) (fun c_2 => ?_)
  · refine jr_iconst (v := 0) hX rfl dX1_isIn_14 ?_
    exact jr_zret hX hlk hr (by decide) ⟨by rw [jdf (fun q => absurd c_2 (Int32.not_lt.mpr q.1))], rfl⟩ dX1_isIn_15
  · refine jr_iload_n (i := 0) hX rfl rfl dX1_isIn_5 ?_
    refine jr_iload_n (i := 2) hX rfl rfl dX1_isIn_6 ?_
    refine jr_icmp_gt hX (tgt := 14) (by decide) dX1_isIn_7 (fun c_7 => ?_) (fun c_7 => ?_)
    · refine jr_iconst (v := 0) hX rfl dX1_isIn_14 ?_
      exact jr_zret hX hlk hr (by decide) ⟨by rw [jdf (fun q => absurd c_7 (Int32.not_lt.mpr q.2))], rfl⟩ dX1_isIn_15
    · refine jr_iconst (v := 1) hX rfl dX1_isIn_10 ?_
      refine jr_goto hX (tgt := 15) (by decide) dX1_isIn_11 ?_
      exact jr_zret hX hlk hr (by decide) ⟨by rw [jdt (p := a ≤ x ∧ x ≤ b) ⟨Int32.not_lt.mp c_2, Int32.not_lt.mp c_7⟩], rfl⟩ dX1_isIn_15

set_option maxHeartbeats 4000000 in
set_option maxRecDepth 100000 in
theorem met_requireValid (l : Launch) (D : va_G) (s0 : State) (b0 : Nat) (A : Nat → Prop) (G : jG)  : jM l yX1_requireValid (ws_ yX1_requireValid cX1_requireValid 1 none) (jR 0 0 0) D s0 b0 A G [.int 1] (fun v G1 => v = none ∧ G1 = G) := by
  refine jM.of (by decide +kernel) (own := RX1) rfl (Nat.le_of_ble_eq_true rfl) ?_
  intro p e s m args below meth c hX hr hlk hnm
  refine jr_iload_n (i := 0) hX rfl rfl dX1_requireValid_0 ?_
  refine jr_if_ne hX (tgt := 12) (by decide) dX1_requireValid_1 (fun _ => ?_) (fun q => absurd q (by decide))
  exact jr_vret hX hlk hr ⟨rfl, rfl⟩ dX1_requireValid_12

set_option maxHeartbeats 4000000 in
set_option maxRecDepth 100000 in
theorem met_requireState (l : Launch) (D : va_G) (s0 : State) (b0 : Nat) (A : Nat → Prop) (G : jG)  : jM l yX1_requireState (ws_ yX1_requireState cX1_requireState 1 none) (jR 0 0 0) D s0 b0 A G [.int 1] (fun v G1 => v = none ∧ G1 = G) := by
  refine jM.of (by decide +kernel) (own := RX1) rfl (Nat.le_of_ble_eq_true rfl) ?_
  intro p e s m args below meth c hX hr hlk hnm
  refine jr_iload_n (i := 0) hX rfl rfl dX1_requireState_0 ?_
  refine jr_if_ne hX (tgt := 12) (by decide) dX1_requireState_1 (fun _ => ?_) (fun q => absurd q (by decide))
  exact jr_vret hX hlk hr ⟨rfl, rfl⟩ dX1_requireState_12

set_option maxHeartbeats 4000000 in
set_option maxRecDepth 100000 in
theorem met_requireNumber (l : Launch) (D : va_G) (s0 : State) (b0 : Nat) (A : Nat → Prop) (G : jG)  : jM l yX1_requireNumber (ws_ yX1_requireNumber cX1_requireNumber 1 none) (jR 0 0 0) D s0 b0 A G [.int 1] (fun v G1 => v = none ∧ G1 = G) := by
  refine jM.of (by decide +kernel) (own := RX1) rfl (Nat.le_of_ble_eq_true rfl) ?_
  intro p e s m args below meth c hX hr hlk hnm
  refine jr_iload_n (i := 0) hX rfl rfl dX1_requireNumber_0 ?_
  refine jr_if_ne hX (tgt := 12) (by decide) dX1_requireNumber_1 (fun _ => ?_) (fun q => absurd q (by decide))
  exact jr_vret hX hlk hr ⟨rfl, rfl⟩ dX1_requireNumber_12

set_option maxHeartbeats 4000000 in
set_option maxRecDepth 100000 in
theorem met_requireIndex (l : Launch) (D : va_G) (s0 : State) (b0 : Nat) (A : Nat → Prop) (G : jG) (i n : Nat) (hi : i < n) (hn : n < 20000) : jM l yX1_requireIndex (ws_ yX1_requireIndex cX1_requireIndex 2 none) (jR 0 0 0) D s0 b0 A G [.int (nI i), .int (nI n)] (fun v G1 => v = none ∧ G1 = G) := by
  refine jM.of (by decide +kernel) (own := RX1) rfl (Nat.le_of_ble_eq_true rfl) ?_
  intro p e s m args below meth c hX hr hlk hnm
  refine jr_iload_n (i := 0) hX rfl rfl dX1_requireIndex_0 ?_
  refine jr_if_lt hX (tgt := 9) (by decide) dX1_requireIndex_1 (fun c_1 => absurd c_1 (nI_pos (by omega))) (fun c_1 => ?_)
  refine jr_iload_n (i := 0) hX rfl rfl dX1_requireIndex_4 ?_
  refine jr_iload_n (i := 1) hX rfl rfl dX1_requireIndex_5 ?_
  refine jr_icmp_lt hX (tgt := 17) (by decide) dX1_requireIndex_6 (fun c_6 => ?_) (fun c_6 => absurd (nI_lt hi (by omega)) c_6)
  exact jr_vret hX hlk hr ⟨rfl, rfl⟩ dX1_requireIndex_17

set_option maxHeartbeats 4000000 in
set_option maxRecDepth 100000 in
theorem met_requireFunction (l : Launch) (D : va_G) (s0 : State) (b0 : Nat) (A : Nat → Prop) (G : jG) (f : Nat) (hf : f < 5) : jM l yX1_requireFunction (ws_ yX1_requireFunction cX1_requireFunction 1 none) (jR 1 0 0) D s0 b0 A G [.int (nI f)] (fun v G1 => v = none ∧ G1 = G) := by
  refine jM.of (by decide +kernel) (own := RX1) rfl (Nat.le_of_ble_eq_true rfl) ?_
  intro p e s m args below meth c hX hr hlk hnm
  refine jr_iload_n (i := 0) hX rfl rfl dX1_requireFunction_0 ?_
  refine jr_iconst (v := 0) hX rfl dX1_requireFunction_1 ?_
  refine jr_iconst (v := 4) hX rfl dX1_requireFunction_2 ?_
  refine jr_callS (As := [.int (nI f), .int 0, .int 4]) (bc1 := (0)) (bs1 := (0)) hX (met_isIn l D s0 b0 A _ (nI f) 0 4) (va_cwS 3 hX.ts (lw_S q453 q454 q65 q455) rfl rfl rfl (by decide +kernel) ⟨Nat.le_of_ble_eq_true rfl, Nat.le_of_ble_eq_true rfl⟩) rfl (Nat.le_of_ble_eq_true rfl) (by first | omega | (dsimp only; omega) | (show _ ≤ _; simp only []; omega)) (by first | omega | (dsimp only; omega) | (show _ ≤ _; simp only []; omega)) rfl dX1_requireFunction_3 (fun v_3 G_3 hp_3 => ?_)
  obtain ⟨rfl, e9⟩ := hp_3
  rw [e9, jdt (p := (0 : Int32) ≤ nI f ∧ nI f ≤ 4) ⟨nI_pos' (by omega), nI_le (b := 4) (by omega) (by omega)⟩]
  refine jr_callS (As := [.int 1]) (bc1 := (0)) (bs1 := (0)) hX (met_requireValid l D s0 b0 A _ ) (va_cwS 1 hX.ts (lw_S q456 q457 q65 q458) rfl rfl rfl (by decide +kernel) ⟨Nat.le_of_ble_eq_true rfl, Nat.le_of_ble_eq_true rfl⟩) rfl (Nat.le_of_ble_eq_true rfl) (by first | omega | (dsimp only; omega) | (show _ ≤ _; simp only []; omega)) (by first | omega | (dsimp only; omega) | (show _ ≤ _; simp only []; omega)) rfl dX1_requireFunction_6 (fun v_6 G_6 hp_6 => ?_)
  obtain ⟨rfl, e9⟩ := hp_6
  rw [e9]
  exact jr_vret hX hlk hr ⟨rfl, rfl⟩ dX1_requireFunction_9

set_option maxHeartbeats 4000000 in
set_option maxRecDepth 100000 in
theorem met_requireKind (l : Launch) (D : va_G) (s0 : State) (b0 : Nat) (A : Nat → Prop) (G : jG) (f : Nat) (hf : f < 3) : jM l yX1_requireKind (ws_ yX1_requireKind cX1_requireKind 1 none) (jR 1 0 0) D s0 b0 A G [.int (nI f)] (fun v G1 => v = none ∧ G1 = G) := by
  refine jM.of (by decide +kernel) (own := RX1) rfl (Nat.le_of_ble_eq_true rfl) ?_
  intro p e s m args below meth c hX hr hlk hnm
  refine jr_iload_n (i := 0) hX rfl rfl dX1_requireKind_0 ?_
  refine jr_iconst (v := 0) hX rfl dX1_requireKind_1 ?_
  refine jr_iconst (v := 2) hX rfl dX1_requireKind_2 ?_
  refine jr_callS (As := [.int (nI f), .int 0, .int 2]) (bc1 := (0)) (bs1 := (0)) hX (met_isIn l D s0 b0 A _ (nI f) 0 2) (va_cwS 3 hX.ts (lw_S q453 q454 q65 q455) rfl rfl rfl (by decide +kernel) ⟨Nat.le_of_ble_eq_true rfl, Nat.le_of_ble_eq_true rfl⟩) rfl (Nat.le_of_ble_eq_true rfl) (by first | omega | (dsimp only; omega) | (show _ ≤ _; simp only []; omega)) (by first | omega | (dsimp only; omega) | (show _ ≤ _; simp only []; omega)) rfl dX1_requireKind_3 (fun v_3 G_3 hp_3 => ?_)
  obtain ⟨rfl, e9⟩ := hp_3
  rw [e9, jdt (p := (0 : Int32) ≤ nI f ∧ nI f ≤ 2) ⟨nI_pos' (by omega), nI_le (b := 2) (by omega) (by omega)⟩]
  refine jr_callS (As := [.int 1]) (bc1 := (0)) (bs1 := (0)) hX (met_requireValid l D s0 b0 A _ ) (va_cwS 1 hX.ts (lw_S q456 q457 q65 q458) rfl rfl rfl (by decide +kernel) ⟨Nat.le_of_ble_eq_true rfl, Nat.le_of_ble_eq_true rfl⟩) rfl (Nat.le_of_ble_eq_true rfl) (by first | omega | (dsimp only; omega) | (show _ ≤ _; simp only []; omega)) (by first | omega | (dsimp only; omega) | (show _ ≤ _; simp only []; omega)) rfl dX1_requireKind_6 (fun v_6 G_6 hp_6 => ?_)
  obtain ⟨rfl, e9⟩ := hp_6
  rw [e9]
  exact jr_vret hX hlk hr ⟨rfl, rfl⟩ dX1_requireKind_9

theorem nI3 {i : Nat} (h : i < 3) : vp_in (nI i) 3 := vp_in_nI h (by omega)
theorem lt_ofl {α : Type} {xs : List α} {i : Nat} {x : α} (h : xs[i]? = some x) : i < xs.length := (List.getElem?_eq_some_iff.mp h).1
theorem rg_at {n i : Nat} {f : Nat → Nat} (h : i < n) : (s_rg n f)[i]? = some (f i) := by simp [s_rg, h]
theorem rg_len {n : Nat} {f : Nat → Nat} : (s_rg n f).length = n := by simp [s_rg]

set_option maxHeartbeats 4000000 in
set_option maxRecDepth 100000 in
theorem met_strandAt (l : Launch) (D : va_G) (s0 : State) (b0 : Nat) (A : Nat → Prop) (G : jG) (S : sSt) (ad : jN) (T : jT) (hR : jCo D s0 b0 S ad T G) (i : Nat) (hi : i < 3) : jM l yX1_strandAt (ws_ yX1_strandAt cX1_strandAt 2 (some (.object "SwapWhile$Strand"))) (jR 1 0 0) D s0 b0 A G [.ref (ad 1 0 0), .int (nI i)] (fun v G1 => v = some (.ref (ad 5 i 0)) ∧ G1 = G) := by
  have hx := hR.c (k := 1) (i := 0) (j := 0) rfl
  have ha := hR.c (k := 3) (i := 0) (j := 0) rfl
  refine jM.of (by decide +kernel) (own := RX1) rfl (Nat.le_of_ble_eq_true rfl) ?_
  intro p e s m args below meth c hX hr hlk hnm
  refine jr_iload_n (i := 1) hX rfl rfl dX1_strandAt_0 ?_
  refine jr_iconst (v := 0) hX rfl dX1_strandAt_1 ?_
  refine jr_iconst (v := 2) hX rfl dX1_strandAt_2 ?_
  refine jr_callS (As := [.int (nI i), .int 0, .int 2]) (bc1 := (0)) (bs1 := (0)) hX (met_isIn l D s0 b0 A _ (nI i) 0 2) (va_cwS 3 hX.ts (lw_S q453 q454 q65 q455) rfl rfl rfl (by decide +kernel) ⟨Nat.le_of_ble_eq_true rfl, Nat.le_of_ble_eq_true rfl⟩) rfl (Nat.le_of_ble_eq_true rfl) (by first | omega | (dsimp only; omega) | (show _ ≤ _; simp only []; omega)) (by first | omega | (dsimp only; omega) | (show _ ≤ _; simp only []; omega)) rfl dX1_strandAt_3 (fun v_3 G_3 hp_3 => ?_)
  obtain ⟨rfl, e9⟩ := hp_3
  rw [e9, jdt (p := (0 : Int32) ≤ nI i ∧ nI i ≤ 2) ⟨nI_pos' (by omega), nI_le (b := 2) (by omega) (by omega)⟩]
  refine jr_callS (As := [.int 1]) (bc1 := (0)) (bs1 := (0)) hX (met_requireValid l D s0 b0 A _ ) (va_cwS 1 hX.ts (lw_S q456 q457 q65 q458) rfl rfl rfl (by decide +kernel) ⟨Nat.le_of_ble_eq_true rfl, Nat.le_of_ble_eq_true rfl⟩) rfl (Nat.le_of_ble_eq_true rfl) (by first | omega | (dsimp only; omega) | (show _ ≤ _; simp only []; omega)) (by first | omega | (dsimp only; omega) | (show _ ≤ _; simp only []; omega)) rfl dX1_strandAt_6 (fun v_6 G_6 hp_6 => ?_)
  obtain ⟨rfl, e9⟩ := hp_6
  rw [e9]
  refine jr_aload_n (i := 0) hX rfl rfl dX1_strandAt_9 ?_
  refine jr_get (ci := 2) (k := 2) hX (by first | assumption | exact jup_s) rfl in_X1 (by decide) q365 rfl dX1_strandAt_10 ?_
  refine jr_iload_n (i := 1) hX rfl rfl dX1_strandAt_13 ?_
  refine jr_aald (t := 2) (v := .ref (ad 5 i 0)) hX ha rfl rfl (nI3 hi) (by rw [nI_clamp (by omega)]; rfl) dX1_strandAt_14 ?_
  exact jr_aret hX hlk hr (Or.inl ⟨_, rfl⟩) (Or.inr ⟨_, rfl⟩) ⟨rfl, rfl⟩ dX1_strandAt_15

def s_al (c : Nat) : Bool := c == 114 || c == 119

set_option maxHeartbeats 4000000 in
set_option maxRecDepth 100000 in
theorem met_isAlive (l : Launch) (D : va_G) (s0 : State) (b0 : Nat) (A : Nat → Prop) (G : jG) (a fr st : Nat) (ha : G a = some (jo 3 [.ref fr, .int (nI st)])) (hst : st < 1000) : jM l yX2_isAlive (ws_ yX2_isAlive cX2_isAlive 1 (some .boolean)) (jR 0 0 0) D s0 b0 A G [.ref a] (fun v G1 => v = some (.int (jbz (s_al st))) ∧ G1 = G) := by
  refine jM.of (by decide +kernel) (own := RX2) rfl (Nat.le_of_ble_eq_true rfl) ?_
  intro p e s m args below meth c hX hr hlk hnm
  refine jr_aload_n (i := 0) hX rfl rfl dX2_isAlive_0 ?_
  refine jr_get (ci := 3) (k := 1) hX (by first | assumption | exact jup_s) rfl in_X2 (by decide) q160 rfl dX2_isAlive_1 ?_
  refine jr_bipush (v := 114) hX (by decide) dX2_isAlive_4 ?_
  refine jr_icmp_eq hX (tgt := 18) (by decide) dX2_isAlive_6 (fun c_6 => ?_) (fun c_6 => ?_)
  · refine jr_iconst (v := 1) hX rfl dX2_isAlive_18 ?_
    refine jr_goto hX (tgt := 23) (by decide) dX2_isAlive_19 ?_
    exact jr_zret hX hlk hr (by decide) ⟨by rw [show st = 114 from (nI_eq (by omega) (by omega)).mp c_6]; rfl, rfl⟩ dX2_isAlive_23
  · refine jr_aload_n (i := 0) hX rfl rfl dX2_isAlive_9 ?_
    refine jr_get (ci := 3) (k := 1) hX (by first | assumption | exact jup_s) rfl in_X2 (by decide) q160 rfl dX2_isAlive_10 ?_
    refine jr_bipush (v := 119) hX (by decide) dX2_isAlive_13 ?_
    refine jr_icmp_ne hX (tgt := 22) (by decide) dX2_isAlive_15 (fun c_15 => ?_) (fun c_15 => ?_)
    · refine jr_iconst (v := 0) hX rfl dX2_isAlive_22 ?_
      exact jr_zret hX hlk hr (by decide) ⟨by rw [show s_al st = false by unfold s_al; simp; exact ⟨fun q => c_6 (by rw [q]; rfl), fun q => c_15 (by rw [q]; rfl)⟩]; rfl, rfl⟩ dX2_isAlive_23
    · refine jr_iconst (v := 1) hX rfl dX2_isAlive_18 ?_
      refine jr_goto hX (tgt := 23) (by decide) dX2_isAlive_19 ?_
      exact jr_zret hX hlk hr (by decide) ⟨by rw [show st = 119 from (nI_eq (by omega) (by omega)).mp c_15]; rfl, rfl⟩ dX2_isAlive_23

set_option maxHeartbeats 4000000 in
set_option maxRecDepth 100000 in
theorem met_version_f (l : Launch) (D : va_G) (s0 : State) (b0 : Nat) (A : Nat → Prop) (G : jG) (a : Nat) (v : Int32) (x1 x2 x3 x4 : Value) (ha : G a = some (jo 6 [.int v, x1, x2, x3, x4])) : jM l yX12_version (ws_ yX12_version cX12_version 1 (some .int)) (jR 0 0 0) D s0 b0 A G [.ref a] (fun w G1 => w = some (.int v) ∧ G1 = G) := by
  refine jM.of (by decide +kernel) (own := RX12) rfl (Nat.le_of_ble_eq_true rfl) ?_
  intro p e s m args below meth c hX hr hlk hnm
  refine jr_aload_n (i := 0) hX rfl rfl dX12_version_0 ?_
  first | (refine jr_get (ci := 6) (k := 0) hX (by first | assumption | exact jup_s) rfl in_X13 (by decide) q974 rfl dX12_version_1 ?_) | (refine jr_get (ci := 7) (k := 0) hX (by first | assumption | exact jup_s) rfl in_X15 (by decide) q974 rfl dX12_version_1 ?_)
  exact jr_iret hX hlk hr ⟨rfl, rfl⟩ dX12_version_4

set_option maxHeartbeats 4000000 in
set_option maxRecDepth 100000 in
theorem met_isOf_f (l : Launch) (D : va_G) (s0 : State) (b0 : Nat) (A : Nat → Prop) (G : jG) (a : Nat) (v : Int32) (x1 x2 x3 x4 : Value) (ha : G a = some (jo 6 [.int v, x1, x2, x3, x4])) (w : Int32) : jM l yX12_isOf (ws_ yX12_isOf cX12_isOf 2 (some .boolean)) (jR 0 0 0) D s0 b0 A G [.ref a, .int w] (fun r G1 => r = some (.int (jbz (decide (v = w)))) ∧ G1 = G) := by
  refine jM.of (by decide +kernel) (own := RX12) rfl (Nat.le_of_ble_eq_true rfl) ?_
  intro p e s m args below meth c hX hr hlk hnm
  refine jr_aload_n (i := 0) hX rfl rfl dX12_isOf_0 ?_
  first | (refine jr_get (ci := 6) (k := 0) hX (by first | assumption | exact jup_s) rfl in_X13 (by decide) q974 rfl dX12_isOf_1 ?_) | (refine jr_get (ci := 7) (k := 0) hX (by first | assumption | exact jup_s) rfl in_X15 (by decide) q974 rfl dX12_isOf_1 ?_)
  refine jr_iload_n (i := 1) hX rfl rfl dX12_isOf_4 ?_
  refine jr_icmp_ne hX (tgt := 12) (by decide) dX12_isOf_5 (fun c_5 => ?_) (fun c_5 => ?_)
  · refine jr_iconst (v := 0) hX rfl dX12_isOf_12 ?_
    exact jr_zret hX hlk hr (by decide) ⟨by rw [jdf c_5], rfl⟩ dX12_isOf_13
  · refine jr_iconst (v := 1) hX rfl dX12_isOf_8 ?_
    refine jr_goto hX (tgt := 13) (by decide) dX12_isOf_9 ?_
    exact jr_zret hX hlk hr (by decide) ⟨by rw [jdt (p := v = w) c_5], rfl⟩ dX12_isOf_13

set_option maxHeartbeats 4000000 in
set_option maxRecDepth 100000 in
theorem met_vmoveTo_f (l : Launch) (D : va_G) (s0 : State) (b0 : Nat) (A : Nat → Prop) (G : jG) (a : Nat) (v : Int32) (x1 x2 x3 x4 : Value) (ha : G a = some (jo 6 [.int v, x1, x2, x3, x4])) (w : Int32) : jM l yX12_moveTo (ws_ yX12_moveTo cX12_moveTo 2 none) (jR 0 0 0) D s0 b0 A G [.ref a, .int w] (fun r G1 => r = none ∧ G1 = jup G a (jo 6 [.int w, x1, x2, x3, x4])) := by
  refine jM.of (by decide +kernel) (own := RX12) rfl (Nat.le_of_ble_eq_true rfl) ?_
  intro p e s m args below meth c hX hr hlk hnm
  refine jr_aload_n (i := 0) hX rfl rfl dX12_moveTo_0 ?_
  refine jr_iload_n (i := 1) hX rfl rfl dX12_moveTo_1 ?_
  first | (refine jr_put (ci := 6) (k := 0) hX (by first | assumption | exact jup_s) rfl in_X13 (by decide) tyX13 tyX13_ok nmX13 q974 rfl (by first | rfl | assumption) (by first | rfl | assumption) (Nat.le_of_ble_eq_true rfl) dX12_moveTo_2 ?_) | (refine jr_put (ci := 7) (k := 0) hX (by first | assumption | exact jup_s) rfl in_X15 (by decide) tyX15 tyX15_ok nmX15 q974 rfl (by first | rfl | assumption) (by first | rfl | assumption) (Nat.le_of_ble_eq_true rfl) dX12_moveTo_2 ?_)
  exact jr_vret hX hlk hr ⟨rfl, rfl⟩ dX12_moveTo_5

set_option maxHeartbeats 4000000 in
set_option maxRecDepth 100000 in
theorem met_version_t (l : Launch) (D : va_G) (s0 : State) (b0 : Nat) (A : Nat → Prop) (G : jG) (a : Nat) (v : Int32) (x1 x2 : Value) (ha : G a = some (jo 7 [.int v, x1, x2])) : jM l yX12_version (ws_ yX12_version cX12_version 1 (some .int)) (jR 0 0 0) D s0 b0 A G [.ref a] (fun w G1 => w = some (.int v) ∧ G1 = G) := by
  refine jM.of (by decide +kernel) (own := RX12) rfl (Nat.le_of_ble_eq_true rfl) ?_
  intro p e s m args below meth c hX hr hlk hnm
  refine jr_aload_n (i := 0) hX rfl rfl dX12_version_0 ?_
  first | (refine jr_get (ci := 6) (k := 0) hX (by first | assumption | exact jup_s) rfl in_X13 (by decide) q974 rfl dX12_version_1 ?_) | (refine jr_get (ci := 7) (k := 0) hX (by first | assumption | exact jup_s) rfl in_X15 (by decide) q974 rfl dX12_version_1 ?_)
  exact jr_iret hX hlk hr ⟨rfl, rfl⟩ dX12_version_4

set_option maxHeartbeats 4000000 in
set_option maxRecDepth 100000 in
theorem met_isOf_t (l : Launch) (D : va_G) (s0 : State) (b0 : Nat) (A : Nat → Prop) (G : jG) (a : Nat) (v : Int32) (x1 x2 : Value) (ha : G a = some (jo 7 [.int v, x1, x2])) (w : Int32) : jM l yX12_isOf (ws_ yX12_isOf cX12_isOf 2 (some .boolean)) (jR 0 0 0) D s0 b0 A G [.ref a, .int w] (fun r G1 => r = some (.int (jbz (decide (v = w)))) ∧ G1 = G) := by
  refine jM.of (by decide +kernel) (own := RX12) rfl (Nat.le_of_ble_eq_true rfl) ?_
  intro p e s m args below meth c hX hr hlk hnm
  refine jr_aload_n (i := 0) hX rfl rfl dX12_isOf_0 ?_
  first | (refine jr_get (ci := 6) (k := 0) hX (by first | assumption | exact jup_s) rfl in_X13 (by decide) q974 rfl dX12_isOf_1 ?_) | (refine jr_get (ci := 7) (k := 0) hX (by first | assumption | exact jup_s) rfl in_X15 (by decide) q974 rfl dX12_isOf_1 ?_)
  refine jr_iload_n (i := 1) hX rfl rfl dX12_isOf_4 ?_
  refine jr_icmp_ne hX (tgt := 12) (by decide) dX12_isOf_5 (fun c_5 => ?_) (fun c_5 => ?_)
  · refine jr_iconst (v := 0) hX rfl dX12_isOf_12 ?_
    exact jr_zret hX hlk hr (by decide) ⟨by rw [jdf c_5], rfl⟩ dX12_isOf_13
  · refine jr_iconst (v := 1) hX rfl dX12_isOf_8 ?_
    refine jr_goto hX (tgt := 13) (by decide) dX12_isOf_9 ?_
    exact jr_zret hX hlk hr (by decide) ⟨by rw [jdt (p := v = w) c_5], rfl⟩ dX12_isOf_13

set_option maxHeartbeats 4000000 in
set_option maxRecDepth 100000 in
theorem met_vmoveTo_t (l : Launch) (D : va_G) (s0 : State) (b0 : Nat) (A : Nat → Prop) (G : jG) (a : Nat) (v : Int32) (x1 x2 : Value) (ha : G a = some (jo 7 [.int v, x1, x2])) (w : Int32) : jM l yX12_moveTo (ws_ yX12_moveTo cX12_moveTo 2 none) (jR 0 0 0) D s0 b0 A G [.ref a, .int w] (fun r G1 => r = none ∧ G1 = jup G a (jo 7 [.int w, x1, x2])) := by
  refine jM.of (by decide +kernel) (own := RX12) rfl (Nat.le_of_ble_eq_true rfl) ?_
  intro p e s m args below meth c hX hr hlk hnm
  refine jr_aload_n (i := 0) hX rfl rfl dX12_moveTo_0 ?_
  refine jr_iload_n (i := 1) hX rfl rfl dX12_moveTo_1 ?_
  first | (refine jr_put (ci := 6) (k := 0) hX (by first | assumption | exact jup_s) rfl in_X13 (by decide) tyX13 tyX13_ok nmX13 q974 rfl (by first | rfl | assumption) (by first | rfl | assumption) (Nat.le_of_ble_eq_true rfl) dX12_moveTo_2 ?_) | (refine jr_put (ci := 7) (k := 0) hX (by first | assumption | exact jup_s) rfl in_X15 (by decide) tyX15 tyX15_ok nmX15 q974 rfl (by first | rfl | assumption) (by first | rfl | assumption) (Nat.le_of_ble_eq_true rfl) dX12_moveTo_2 ?_)
  exact jr_vret hX hlk hr ⟨rfl, rfl⟩ dX12_moveTo_5

set_option maxHeartbeats 4000000 in
set_option maxRecDepth 100000 in
theorem met_target (l : Launch) (D : va_G) (s0 : State) (b0 : Nat) (A : Nat → Prop) (G : jG) (a : Nat) (b : Bool) (x0 x2 x3 x4 : Value) (ha : G a = some (jo 8 [x0, .int (jbz b), x2, x3, x4])) (q : Int32) : jM l yX16_target (ws_ yX16_target cX16_target 2 (some .int)) (jR 0 0 0) D s0 b0 A G [.ref a, .int q] (fun w G1 => w = some (.int (if b then q - 1 else q + 1)) ∧ G1 = G) := by
  refine jM.of (by decide +kernel) (own := RX16) rfl (Nat.le_of_ble_eq_true rfl) ?_
  intro p e s m args below meth c hX hr hlk hnm
  refine jr_aload_n (i := 0) hX rfl rfl dX16_target_0 ?_
  refine jr_get (ci := 8) (k := 1) hX (by first | assumption | exact jup_s) rfl in_X16 (by decide) q1222 rfl dX16_target_1 ?_
  refine jr_if_eq hX (tgt := 13) (by decide) dX16_target_4 (fun c_4 => ?_) (fun c_4 => ?_)
  · refine jr_iload_n (i := 1) hX rfl rfl dX16_target_13 ?_
    refine jr_iconst (v := 1) hX rfl dX16_target_14 ?_
    refine jr_iadd hX dX16_target_15 ?_
    exact jr_iret hX hlk hr ⟨by rw [show b = false from jbz_0 c_4]; rfl, rfl⟩ dX16_target_16
  · refine jr_iload_n (i := 1) hX rfl rfl dX16_target_7 ?_
    refine jr_iconst (v := 1) hX rfl dX16_target_8 ?_
    refine jr_isub hX dX16_target_9 ?_
    refine jr_goto hX (tgt := 16) (by decide) dX16_target_10 ?_
    exact jr_iret hX hlk hr ⟨by rw [show b = true from jbz_1 c_4]; rfl, rfl⟩ dX16_target_16
