/-! the component's readers -/
section JCS
variable {D : va_G} {s0 : State} {b0 : Nat} {S : sSt} {ad : jN} {T : jT} {G : jG} {v f i j k : Nat}
theorem co_ths (h : jCo D s0 b0 S ad T G) : ∃ (mo : Int32) (cap ea : Nat), jLS D s0 b0 G (ad 2 1 0) (s_rg (s_o S).length (fun v => ad 16 v 0)) mo cap ea ∧ 0 ≤ cap ∧ cap ≤ 200 ∧ (cap ≠ 0 → T ea = (102, 1, 0)) := h.l (k := 2) (i := 1) (j := 0) rfl
theorem co_chs (h : jCo D s0 b0 S ad T G) : ∃ (mo : Int32) (cap ea : Nat), jLS D s0 b0 G (ad 2 2 0) (s_rg (s_c S).length (fun v => ad 18 v 0)) mo cap ea ∧ 0 ≤ cap ∧ cap ≤ 200 ∧ (cap ≠ 0 → T ea = (102, 2, 0)) := h.l (k := 2) (i := 2) (j := 0) rfl
theorem co_que (h : jCo D s0 b0 S ad T G) : ∃ (mo : Int32) (cap ea : Nat), jLS D s0 b0 G (ad 2 3 0) ((s_q S).map (fun v => ad 18 v 0)) mo cap ea ∧ 0 ≤ cap ∧ cap ≤ 200 ∧ (cap ≠ 0 → T ea = (102, 3, 0)) := h.l (k := 2) (i := 3) (j := 0) rfl
theorem co_pts (h : jCo D s0 b0 S ad T G) : ∃ (mo : Int32) (cap ea : Nat), jLS D s0 b0 G (ad 2 4 0) (s_rg (s_u S).length (fun v => ad 19 v 0)) mo cap ea ∧ s_k S ≤ cap ∧ cap ≤ s_k S ∧ (cap ≠ 0 → T ea = (102, 4, 0)) := h.l (k := 2) (i := 4) (j := 0) rfl
theorem co_frl (h : jCo D s0 b0 S ad T G) (hi : i < 3) : ∃ (mo : Int32) (cap ea : Nat), jLS D s0 b0 G (ad 6 i 0) (s_rg (s_s S i).2.length (fun q => ad 8 i q)) mo cap ea ∧ 0 ≤ cap ∧ cap ≤ 200 ∧ (cap ≠ 0 → T ea = (106, i, 0)) := h.l (k := 6) (i := i) (j := 0) (if_pos ⟨hi, rfl⟩)
theorem co_strs (h : jCo D s0 b0 S ad T G) : G (ad 3 0 0) = some (jq D 102 3 (fun q => some (ad 5 q 0))) := h.c (k := 3) (i := 0) (j := 0) rfl
theorem co_tbl (h : jCo D s0 b0 S ad T G) : G (ad 4 0 0) = some (ji D 4 (fun q => nI (s_t S q))) := h.c (k := 4) (i := 0) (j := 0) rfl
theorem co_str (h : jCo D s0 b0 S ad T G) (hi : i < 3) : G (ad 5 i 0) = some (jo 3 [.ref (ad 6 i 0), .int (nI (s_s S i).1)]) := h.c (k := 5) (if_pos ⟨hi, rfl⟩)
theorem co_fr (h : jCo D s0 b0 S ad T G) (hi : i < 3) {x : sFr} (hx : (s_s S i).2[j]? = some x) : G (ad 8 i j) = some (jo 6 [.int (nI x.1), .int (nI x.2.1), .int (nI x.2.2.1), .ref (ad 9 i j), .int (nI x.2.2.2.2)]) := h.c (k := 8) (by
  show (if i < 3 then Option.map _ (((s_s S i).2)[j]?) else none) = _
  rw [if_pos hi, hx]
  rfl)
theorem co_loc (h : jCo D s0 b0 S ad T G) (hi : i < 3) {x : sFr} (hx : (s_s S i).2[j]? = some x) : G (ad 9 i j) = some (ji D 4 x.2.2.2.1) := h.c (k := 9) (by
  show (if i < 3 then Option.map _ (((s_s S i).2)[j]?) else none) = _
  rw [if_pos hi, hx]
  rfl)
theorem co_th (h : jCo D s0 b0 S ad T G) {x : sTh} (hx : (s_o S)[i]? = some x) : G (ad 16 i 0) = some (jo 7 [.int (nI x.1), .int (nI x.2.1), .ref (ad 17 i 0)]) := h.c (k := 16) (j := 0) (by
  show (if 0 = 0 then Option.map _ ((s_o S)[i]?) else none) = _
  rw [if_pos rfl, hx]
  rfl)
theorem co_thf (h : jCo D s0 b0 S ad T G) {x : sTh} (hx : (s_o S)[i]? = some x) : G (ad 17 i 0) = some (ji D ((s_ver S x.1).2.1 x.2.1) x.2.2) := h.c (k := 17) (j := 0) (by
  show (if 0 = 0 then Option.map _ ((s_o S)[i]?) else none) = _
  rw [if_pos rfl, hx]
  rfl)
theorem co_ch (h : jCo D s0 b0 S ad T G) {x : sCh} (hx : (s_c S)[i]? = some x) : G (ad 18 i 0) = some (jo 8 [.int (nI x.1), .int (jbz x.2.1), .int (jbz x.2.2.1), .long (lN x.2.2.2.1), .int (nI x.2.2.2.2)]) := h.c (k := 18) (j := 0) (by
  show (if 0 = 0 then Option.map _ ((s_c S)[i]?) else none) = _
  rw [if_pos rfl, hx]
  rfl)
theorem co_put (h : jCo D s0 b0 S ad T G) {x : Int32 × Nat} (hx : (s_u S)[i]? = some x) : G (ad 19 i 0) = some (ji D 2 (fun q => if q = 0 then x.1 else nI x.2)) := h.c (k := 19) (j := 0) (by
  show (if 0 = 0 then Option.map _ ((s_u S)[i]?) else none) = _
  rw [if_pos rfl, hx]
  rfl)
end JCS
/-- strands: frames know versions that are published -/
def sWs (S : sSt) : Prop := ∀ i, i < 3 → (s_s S i).1 < 1000 ∧ (s_s S i).2.length ≤ 8 ∧ ∀ (j : Nat) (x : sFr), (s_s S i).2[j]? = some x → x.1 < s_m S ∧ x.2.1 < 5 ∧ x.2.2.1 < 4 ∧ x.2.2.2.2 ≤ 10
def s_lead (S : sSt) (b : Bool) : Bool := if b then decide (0 < s_p S) else decide (s_p S + 1 < s_m S)
def s_to (S : sSt) (b : Bool) : Nat := if b then s_p S - 1 else s_p S + 1
def s_lo (S : sSt) (b : Bool) : Nat := if b then s_p S - 1 else s_p S
def s_bp (row : Nat → Int32) (x : Int32) : Int32 := match (List.range 11).find? (fun p => decide (row p = x)) with
  | some p => nI p
  | none => -1
def s_pl (S : sSt) (b : Bool) (f p : Nat) : Int32 := if b then s_bp ((s_ver S (s_lo S b + 1)).2.2.2.2 f) (nI p) else (s_ver S (s_lo S b + 1)).2.2.2.2 f p
theorem nI_s1 {n : Nat} (h : 0 < n) : nI n - 1 = nI (n - 1) := by
  obtain ⟨k, rfl⟩ : ∃ k, n = k + 1 := ⟨n - 1, by omega⟩
  exact nI_pred k

set_option maxHeartbeats 4000000 in
set_option maxRecDepth 100000 in
theorem met_latest (l : Launch) (D : va_G) (s0 : State) (b0 : Nat) (A : Nat → Prop) (G : jG) (S : sSt) (ad : jN) (T : jT) (hR : jCo D s0 b0 S ad T G) (hm : 0 < s_m S) (hm2 : s_m S < 100) : jM l yX1_latest (ws_ yX1_latest cX1_latest 1 (some (.object "SwapWhile$Version"))) (jR 3 0 0) D s0 b0 A G [.ref (ad 1 0 0)] (fun w G1 => w = some (.ref (ad 7 (s_m S - 1) 0)) ∧ G1 = G) := by
  have hx := co_x hR
  have hmm : s_m S = (s_v S).length - 1 := rfl
  obtain ⟨moV, capV, eaV, hVL, -, hVc, -⟩ := co_vs hR
  have hcv := co_ver hR (v := s_m S - 1) (by omega)
  refine jM.of (by decide +kernel) (own := RX1) rfl (Nat.le_of_ble_eq_true rfl) ?_
  intro p e s m args below meth c hX hr hlk hnm
  refine jr_aload_n (i := 0) hX rfl rfl dX1_latest_0 ?_
  refine jr_get (ci := 2) (k := 0) hX (by first | assumption | exact jup_s) rfl in_X1 (by decide) q363 rfl dX1_latest_1 ?_
  refine jr_aload_n (i := 0) hX rfl rfl dX1_latest_4 ?_
  refine jr_get (ci := 2) (k := 0) hX (by first | assumption | exact jup_s) rfl in_X1 (by decide) q363 rfl dX1_latest_5 ?_
  refine jr_callF (As := []) (bc1 := (0)) (bs1 := (0)) hX (met_size l D s0 b0 A _ (ad 2 0 0) (s_rg (s_m S) (fun v => ad 7 v 0)) moV capV eaV hVL) (va_cwF 0 hX.ts (lw_F q405 q408 q410 q68 q412) rfl rfl rfl (hX.S.fw ⟨by decide +kernel, by decide +kernel⟩ q407 q406 q411 q409 q183) (by decide +kernel) ⟨Nat.le_of_ble_eq_true rfl, Nat.le_of_ble_eq_true rfl⟩) hVL.1 rfl rfl (Nat.le_of_ble_eq_true rfl) (by first | omega | (dsimp only; omega) | (show _ ≤ _; simp only []; omega)) (by first | omega | (dsimp only; omega) | (show _ ≤ _; simp only []; omega)) rfl dX1_latest_8 (fun v_8 G_8 hp_8 => ?_)
  obtain ⟨rfl, e9⟩ := hp_8
  rw [e9, rg_len]
  refine jr_iconst (v := 1) hX rfl dX1_latest_13 ?_
  refine jr_isub hX dX1_latest_14 ?_
  rw [nI_s1 hm]
  refine jr_callF (As := [.int (nI (s_m S - 1))]) (bc1 := (0)) (bs1 := (0)) hX (met_get l D s0 b0 A _ (ad 2 0 0) (s_rg (s_m S) (fun v => ad 7 v 0)) moV capV eaV hVL (s_m S - 1) (ad 7 (s_m S - 1) 0) (rg_at (by omega))) (va_cwF 1 hX.ts (lw_F q299 q302 q304 q68 q306) rfl rfl rfl (hX.S.fw ⟨by decide +kernel, by decide +kernel⟩ q301 q300 q305 q303 q183) (by decide +kernel) ⟨Nat.le_of_ble_eq_true rfl, Nat.le_of_ble_eq_true rfl⟩) hVL.1 rfl rfl (Nat.le_of_ble_eq_true rfl) (by first | omega | (dsimp only; omega) | (show _ ≤ _; simp only []; omega)) (by first | omega | (dsimp only; omega) | (show _ ≤ _; simp only []; omega)) rfl dX1_latest_15 (fun v_15 G_15 hp_15 => ?_)
  obtain ⟨rfl, e9⟩ := hp_15
  rw [e9]
  refine jr_castS hX hcv rfl q167 dX1_latest_20 ?_
  exact jr_aret hX hlk hr (by first | exact Or.inl ⟨_, rfl⟩ | exact Or.inr ⟨_, rfl⟩) (Or.inr ⟨_, rfl⟩) ⟨rfl, rfl⟩ dX1_latest_23

set_option maxHeartbeats 4000000 in
set_option maxRecDepth 100000 in
theorem met_presentC (l : Launch) (D : va_G) (s0 : State) (b0 : Nat) (A : Nat → Prop) (G : jG) (S : sSt) (ad : jN) (T : jT) (hR : jCo D s0 b0 S ad T G) : jM l yX1_present (ws_ yX1_present cX1_present 1 (some .int)) (jR 0 0 0) D s0 b0 A G [.ref (ad 1 0 0)] (fun w G1 => w = some (.int (nI (s_p S))) ∧ G1 = G) := by
  have hx := co_x hR
  refine jM.of (by decide +kernel) (own := RX1) rfl (Nat.le_of_ble_eq_true rfl) ?_
  intro p e s m args below meth c hX hr hlk hnm
  refine jr_aload_n (i := 0) hX rfl rfl dX1_present_0 ?_
  refine jr_get (ci := 2) (k := 8) hX (by first | assumption | exact jup_s) rfl in_X1 (by decide) q371 rfl dX1_present_1 ?_
  exact jr_iret hX hlk hr ⟨rfl, rfl⟩ dX1_present_4

set_option maxHeartbeats 4000000 in
set_option maxRecDepth 100000 in
theorem met_isWatchedC (l : Launch) (D : va_G) (s0 : State) (b0 : Nat) (A : Nat → Prop) (G : jG) (S : sSt) (ad : jN) (T : jT) (hR : jCo D s0 b0 S ad T G) : jM l yX1_isWatched (ws_ yX1_isWatched cX1_isWatched 1 (some .boolean)) (jR 0 0 0) D s0 b0 A G [.ref (ad 1 0 0)] (fun w G1 => w = some (.int (jbz (s_w S))) ∧ G1 = G) := by
  have hx := co_x hR
  refine jM.of (by decide +kernel) (own := RX1) rfl (Nat.le_of_ble_eq_true rfl) ?_
  intro p e s m args below meth c hX hr hlk hnm
  refine jr_aload_n (i := 0) hX rfl rfl dX1_isWatched_0 ?_
  refine jr_get (ci := 2) (k := 10) hX (by first | assumption | exact jup_s) rfl in_X1 (by decide) q373 rfl dX1_isWatched_1 ?_
  exact jr_zret hX hlk hr (jbz_n _) ⟨rfl, rfl⟩ dX1_isWatched_4

set_option maxHeartbeats 4000000 in
set_option maxRecDepth 100000 in
theorem met_stepsC (l : Launch) (D : va_G) (s0 : State) (b0 : Nat) (A : Nat → Prop) (G : jG) (S : sSt) (ad : jN) (T : jT) (hR : jCo D s0 b0 S ad T G) : jM l yX1_steps (ws_ yX1_steps cX1_steps 1 (some .long)) (jR 0 0 0) D s0 b0 A G [.ref (ad 1 0 0)] (fun w G1 => w = some (.long (lN (s_n S))) ∧ G1 = G) := by
  have hx := co_x hR
  refine jM.of (by decide +kernel) (own := RX1) rfl (Nat.le_of_ble_eq_true rfl) ?_
  intro p e s m args below meth c hX hr hlk hnm
  refine jr_aload_n (i := 0) hX rfl rfl dX1_steps_0 ?_
  refine jr_get (ci := 2) (k := 11) hX (by first | assumption | exact jup_s) rfl in_X1 (by decide) q374 rfl dX1_steps_1 ?_
  exact jr_lret hX hlk hr ⟨rfl, rfl⟩ dX1_steps_4

set_option maxHeartbeats 4000000 in
set_option maxRecDepth 100000 in
theorem met_versionsC (l : Launch) (D : va_G) (s0 : State) (b0 : Nat) (A : Nat → Prop) (G : jG) (S : sSt) (ad : jN) (T : jT) (hR : jCo D s0 b0 S ad T G) : jM l yX1_versions (ws_ yX1_versions cX1_versions 1 (some .int)) (jR 1 0 0) D s0 b0 A G [.ref (ad 1 0 0)] (fun w G1 => w = some (.int (nI (s_m S))) ∧ G1 = G) := by
  have hx := co_x hR
  obtain ⟨moV, capV, eaV, hVL, -, hVc, -⟩ := co_vs hR
  refine jM.of (by decide +kernel) (own := RX1) rfl (Nat.le_of_ble_eq_true rfl) ?_
  intro p e s m args below meth c hX hr hlk hnm
  refine jr_aload_n (i := 0) hX rfl rfl dX1_versions_0 ?_
  refine jr_get (ci := 2) (k := 0) hX (by first | assumption | exact jup_s) rfl in_X1 (by decide) q363 rfl dX1_versions_1 ?_
  refine jr_callF (As := []) (bc1 := (0)) (bs1 := (0)) hX (met_size l D s0 b0 A _ (ad 2 0 0) (s_rg (s_m S) (fun v => ad 7 v 0)) moV capV eaV hVL) (va_cwF 0 hX.ts (lw_F q405 q408 q410 q68 q412) rfl rfl rfl (hX.S.fw ⟨by decide +kernel, by decide +kernel⟩ q407 q406 q411 q409 q183) (by decide +kernel) ⟨Nat.le_of_ble_eq_true rfl, Nat.le_of_ble_eq_true rfl⟩) hVL.1 rfl rfl (Nat.le_of_ble_eq_true rfl) (by first | omega | (dsimp only; omega) | (show _ ≤ _; simp only []; omega)) (by first | omega | (dsimp only; omega) | (show _ ≤ _; simp only []; omega)) rfl dX1_versions_4 (fun v_4 G_4 hp_4 => ?_)
  obtain ⟨rfl, e9⟩ := hp_4
  rw [e9, rg_len]
  exact jr_iret hX hlk hr ⟨rfl, rfl⟩ dX1_versions_9

set_option maxHeartbeats 4000000 in
set_option maxRecDepth 100000 in
theorem met_objectsC (l : Launch) (D : va_G) (s0 : State) (b0 : Nat) (A : Nat → Prop) (G : jG) (S : sSt) (ad : jN) (T : jT) (hR : jCo D s0 b0 S ad T G) : jM l yX1_objects (ws_ yX1_objects cX1_objects 1 (some .int)) (jR 1 0 0) D s0 b0 A G [.ref (ad 1 0 0)] (fun w G1 => w = some (.int (nI ((s_o S).length))) ∧ G1 = G) := by
  have hx := co_x hR
  obtain ⟨moO, capO, eaO, hOL, -, hOc, -⟩ := co_ths hR
  refine jM.of (by decide +kernel) (own := RX1) rfl (Nat.le_of_ble_eq_true rfl) ?_
  intro p e s m args below meth c hX hr hlk hnm
  refine jr_aload_n (i := 0) hX rfl rfl dX1_objects_0 ?_
  refine jr_get (ci := 2) (k := 1) hX (by first | assumption | exact jup_s) rfl in_X1 (by decide) q364 rfl dX1_objects_1 ?_
  refine jr_callF (As := []) (bc1 := (0)) (bs1 := (0)) hX (met_size l D s0 b0 A _ (ad 2 1 0) (s_rg (s_o S).length (fun v => ad 16 v 0)) moO capO eaO hOL) (va_cwF 0 hX.ts (lw_F q405 q408 q410 q68 q412) rfl rfl rfl (hX.S.fw ⟨by decide +kernel, by decide +kernel⟩ q407 q406 q411 q409 q183) (by decide +kernel) ⟨Nat.le_of_ble_eq_true rfl, Nat.le_of_ble_eq_true rfl⟩) hOL.1 rfl rfl (Nat.le_of_ble_eq_true rfl) (by first | omega | (dsimp only; omega) | (show _ ≤ _; simp only []; omega)) (by first | omega | (dsimp only; omega) | (show _ ≤ _; simp only []; omega)) rfl dX1_objects_4 (fun v_4 G_4 hp_4 => ?_)
  obtain ⟨rfl, e9⟩ := hp_4
  rw [e9, rg_len]
  exact jr_iret hX hlk hr ⟨rfl, rfl⟩ dX1_objects_9

set_option maxHeartbeats 4000000 in
set_option maxRecDepth 100000 in
theorem met_putsC (l : Launch) (D : va_G) (s0 : State) (b0 : Nat) (A : Nat → Prop) (G : jG) (S : sSt) (ad : jN) (T : jT) (hR : jCo D s0 b0 S ad T G) : jM l yX1_puts (ws_ yX1_puts cX1_puts 1 (some .int)) (jR 1 0 0) D s0 b0 A G [.ref (ad 1 0 0)] (fun w G1 => w = some (.int (nI ((s_u S).length))) ∧ G1 = G) := by
  have hx := co_x hR
  obtain ⟨moU, capU, eaU, hUL, -, hUc, -⟩ := co_pts hR
  refine jM.of (by decide +kernel) (own := RX1) rfl (Nat.le_of_ble_eq_true rfl) ?_
  intro p e s m args below meth c hX hr hlk hnm
  refine jr_aload_n (i := 0) hX rfl rfl dX1_puts_0 ?_
  refine jr_get (ci := 2) (k := 5) hX (by first | assumption | exact jup_s) rfl in_X1 (by decide) q368 rfl dX1_puts_1 ?_
  refine jr_callF (As := []) (bc1 := (0)) (bs1 := (0)) hX (met_size l D s0 b0 A _ (ad 2 4 0) (s_rg (s_u S).length (fun v => ad 19 v 0)) moU capU eaU hUL) (va_cwF 0 hX.ts (lw_F q405 q408 q410 q68 q412) rfl rfl rfl (hX.S.fw ⟨by decide +kernel, by decide +kernel⟩ q407 q406 q411 q409 q183) (by decide +kernel) ⟨Nat.le_of_ble_eq_true rfl, Nat.le_of_ble_eq_true rfl⟩) hUL.1 rfl rfl (Nat.le_of_ble_eq_true rfl) (by first | omega | (dsimp only; omega) | (show _ ≤ _; simp only []; omega)) (by first | omega | (dsimp only; omega) | (show _ ≤ _; simp only []; omega)) rfl dX1_puts_4 (fun v_4 G_4 hp_4 => ?_)
  obtain ⟨rfl, e9⟩ := hp_4
  rw [e9, rg_len]
  exact jr_iret hX hlk hr ⟨rfl, rfl⟩ dX1_puts_9

set_option maxHeartbeats 4000000 in
set_option maxRecDepth 100000 in
theorem met_queuedC (l : Launch) (D : va_G) (s0 : State) (b0 : Nat) (A : Nat → Prop) (G : jG) (S : sSt) (ad : jN) (T : jT) (hR : jCo D s0 b0 S ad T G) : jM l yX1_queued (ws_ yX1_queued cX1_queued 1 (some .int)) (jR 1 0 0) D s0 b0 A G [.ref (ad 1 0 0)] (fun w G1 => w = some (.int (nI ((s_q S).length))) ∧ G1 = G) := by
  have hx := co_x hR
  obtain ⟨moQ, capQ, eaQ, hQL, -, hQc, -⟩ := co_que hR
  refine jM.of (by decide +kernel) (own := RX1) rfl (Nat.le_of_ble_eq_true rfl) ?_
  intro p e s m args below meth c hX hr hlk hnm
  refine jr_aload_n (i := 0) hX rfl rfl dX1_queued_0 ?_
  refine jr_get (ci := 2) (k := 4) hX (by first | assumption | exact jup_s) rfl in_X1 (by decide) q367 rfl dX1_queued_1 ?_
  refine jr_callF (As := []) (bc1 := (0)) (bs1 := (0)) hX (met_size l D s0 b0 A _ (ad 2 3 0) ((s_q S).map (fun v => ad 18 v 0)) moQ capQ eaQ hQL) (va_cwF 0 hX.ts (lw_F q405 q408 q410 q68 q412) rfl rfl rfl (hX.S.fw ⟨by decide +kernel, by decide +kernel⟩ q407 q406 q411 q409 q183) (by decide +kernel) ⟨Nat.le_of_ble_eq_true rfl, Nat.le_of_ble_eq_true rfl⟩) hQL.1 rfl rfl (Nat.le_of_ble_eq_true rfl) (by first | omega | (dsimp only; omega) | (show _ ≤ _; simp only []; omega)) (by first | omega | (dsimp only; omega) | (show _ ≤ _; simp only []; omega)) rfl dX1_queued_4 (fun v_4 G_4 hp_4 => ?_)
  obtain ⟨rfl, e9⟩ := hp_4
  rw [e9, List.length_map]
  exact jr_iret hX hlk hr ⟨rfl, rfl⟩ dX1_queued_9

set_option maxHeartbeats 4000000 in
set_option maxRecDepth 100000 in
theorem met_entryC (l : Launch) (D : va_G) (s0 : State) (b0 : Nat) (A : Nat → Prop) (G : jG) (S : sSt) (ad : jN) (T : jT) (hR : jCo D s0 b0 S ad T G) (i : Nat) (hi : i < 4) : jM l yX1_entry (ws_ yX1_entry cX1_entry 2 (some .int)) (jR 1 0 0) D s0 b0 A G [.ref (ad 1 0 0), .int (nI i)] (fun w G1 => w = some (.int (nI (s_t S i))) ∧ G1 = G) := by
  have hx := co_x hR
  have ht := co_tbl hR
  refine jM.of (by decide +kernel) (own := RX1) rfl (Nat.le_of_ble_eq_true rfl) ?_
  intro p e s m args below meth c hX hr hlk hnm
  refine jr_iload_n (i := 1) hX rfl rfl dX1_entry_0 ?_
  refine jr_iconst (v := 4) hX rfl dX1_entry_1 ?_
  refine jr_callS (As := [.int (nI i), .int 4]) (bc1 := (0)) (bs1 := (0)) hX (met_requireIndex l D s0 b0 A _ i 4 hi (by omega)) (va_cwS 2 hX.ts (lw_S q735 q736 q65 q737) rfl rfl rfl (by decide +kernel) ⟨Nat.le_of_ble_eq_true rfl, Nat.le_of_ble_eq_true rfl⟩) rfl (Nat.le_of_ble_eq_true rfl) (by first | omega | (dsimp only; omega) | (show _ ≤ _; simp only []; omega)) (by first | omega | (dsimp only; omega) | (show _ ≤ _; simp only []; omega)) rfl dX1_entry_2 (fun v_2 G_2 hp_2 => ?_)
  obtain ⟨rfl, e9⟩ := hp_2
  rw [e9]
  refine jr_aload_n (i := 0) hX rfl rfl dX1_entry_5 ?_
  refine jr_get (ci := 2) (k := 6) hX (by first | assumption | exact jup_s) rfl in_X1 (by decide) q369 rfl dX1_entry_6 ?_
  refine jr_iload_n (i := 1) hX rfl rfl dX1_entry_9 ?_
  refine jr_iald hX ht (vp_in_nI (by omega) (by omega)) dX1_entry_10 ?_
  rw [nI_clamp (by omega)]
  exact jr_iret hX hlk hr ⟨rfl, rfl⟩ dX1_entry_11

set_option maxHeartbeats 4000000 in
set_option maxRecDepth 100000 in
theorem met_thingAt (l : Launch) (D : va_G) (s0 : State) (b0 : Nat) (A : Nat → Prop) (G : jG) (S : sSt) (ad : jN) (T : jT) (hR : jCo D s0 b0 S ad T G) (i : Nat) (hi : i < (s_o S).length) (hol : (s_o S).length < 200) : jM l yX1_thingAt (ws_ yX1_thingAt cX1_thingAt 2 (some (.object "SwapWhile$Thing"))) (jR 3 0 0) D s0 b0 A G [.ref (ad 1 0 0), .int (nI i)] (fun w G1 => w = some (.ref (ad 16 i 0)) ∧ G1 = G) := by
  have hx := co_x hR
  obtain ⟨moO, capO, eaO, hOL, -, hOc, -⟩ := co_ths hR
  obtain ⟨t, ht⟩ : ∃ t, (s_o S)[i]? = some t := ⟨_, List.getElem?_eq_getElem hi⟩
  have hth := co_th hR ht
  refine jM.of (by decide +kernel) (own := RX1) rfl (Nat.le_of_ble_eq_true rfl) ?_
  intro p e s m args below meth c hX hr hlk hnm
  refine jr_iload_n (i := 1) hX rfl rfl dX1_thingAt_0 ?_
  refine jr_aload_n (i := 0) hX rfl rfl dX1_thingAt_1 ?_
  refine jr_get (ci := 2) (k := 1) hX (by first | assumption | exact jup_s) rfl in_X1 (by decide) q364 rfl dX1_thingAt_2 ?_
  refine jr_callF (As := []) (bc1 := (0)) (bs1 := (0)) hX (met_size l D s0 b0 A _ (ad 2 1 0) (s_rg (s_o S).length (fun v => ad 16 v 0)) moO capO eaO hOL) (va_cwF 0 hX.ts (lw_F q405 q408 q410 q68 q412) rfl rfl rfl (hX.S.fw ⟨by decide +kernel, by decide +kernel⟩ q407 q406 q411 q409 q183) (by decide +kernel) ⟨Nat.le_of_ble_eq_true rfl, Nat.le_of_ble_eq_true rfl⟩) hOL.1 rfl rfl (Nat.le_of_ble_eq_true rfl) (by first | omega | (dsimp only; omega) | (show _ ≤ _; simp only []; omega)) (by first | omega | (dsimp only; omega) | (show _ ≤ _; simp only []; omega)) rfl dX1_thingAt_5 (fun v_5 G_5 hp_5 => ?_)
  obtain ⟨rfl, e9⟩ := hp_5
  rw [e9, rg_len]
  refine jr_callS (As := [.int (nI i), .int (nI (s_o S).length)]) (bc1 := (0)) (bs1 := (0)) hX (met_requireIndex l D s0 b0 A _ i (s_o S).length hi (by omega)) (va_cwS 2 hX.ts (lw_S q735 q736 q65 q737) rfl rfl rfl (by decide +kernel) ⟨Nat.le_of_ble_eq_true rfl, Nat.le_of_ble_eq_true rfl⟩) rfl (Nat.le_of_ble_eq_true rfl) (by first | omega | (dsimp only; omega) | (show _ ≤ _; simp only []; omega)) (by first | omega | (dsimp only; omega) | (show _ ≤ _; simp only []; omega)) rfl dX1_thingAt_10 (fun v_10 G_10 hp_10 => ?_)
  obtain ⟨rfl, e9⟩ := hp_10
  rw [e9]
  refine jr_aload_n (i := 0) hX rfl rfl dX1_thingAt_13 ?_
  refine jr_get (ci := 2) (k := 1) hX (by first | assumption | exact jup_s) rfl in_X1 (by decide) q364 rfl dX1_thingAt_14 ?_
  refine jr_iload_n (i := 1) hX rfl rfl dX1_thingAt_17 ?_
  refine jr_callF (As := [.int (nI (i))]) (bc1 := (0)) (bs1 := (0)) hX (met_get l D s0 b0 A _ (ad 2 1 0) (s_rg (s_o S).length (fun v => ad 16 v 0)) moO capO eaO hOL (i) (ad 16 i 0) (rg_at hi)) (va_cwF 1 hX.ts (lw_F q299 q302 q304 q68 q306) rfl rfl rfl (hX.S.fw ⟨by decide +kernel, by decide +kernel⟩ q301 q300 q305 q303 q183) (by decide +kernel) ⟨Nat.le_of_ble_eq_true rfl, Nat.le_of_ble_eq_true rfl⟩) hOL.1 rfl rfl (Nat.le_of_ble_eq_true rfl) (by first | omega | (dsimp only; omega) | (show _ ≤ _; simp only []; omega)) (by first | omega | (dsimp only; omega) | (show _ ≤ _; simp only []; omega)) rfl dX1_thingAt_18 (fun v_18 G_18 hp_18 => ?_)
  obtain ⟨rfl, e9⟩ := hp_18
  rw [e9]
  refine jr_castS hX hth rfl q1096 dX1_thingAt_23 ?_
  exact jr_aret hX hlk hr (by first | exact Or.inl ⟨_, rfl⟩ | exact Or.inr ⟨_, rfl⟩) (Or.inr ⟨_, rfl⟩) ⟨rfl, rfl⟩ dX1_thingAt_26

set_option maxHeartbeats 4000000 in
set_option maxRecDepth 100000 in
theorem met_shapeC (l : Launch) (D : va_G) (s0 : State) (b0 : Nat) (A : Nat → Prop) (G : jG) (S : sSt) (ad : jN) (T : jT) (hR : jCo D s0 b0 S ad T G) (i : Nat) (t : sTh) (ht : (s_o S)[i]? = some t) (hol : (s_o S).length < 200) : jM l yX1_shape (ws_ yX1_shape cX1_shape 2 (some .int)) (jR 4 0 0) D s0 b0 A G [.ref (ad 1 0 0), .int (nI i)] (fun w G1 => w = some (.int (nI t.1)) ∧ G1 = G) := by
  have hx := co_x hR
  have hth := co_th hR ht
  refine jM.of (by decide +kernel) (own := RX1) rfl (Nat.le_of_ble_eq_true rfl) ?_
  intro p e s m args below meth c hX hr hlk hnm
  refine jr_aload_n (i := 0) hX rfl rfl dX1_shape_0 ?_
  refine jr_iload_n (i := 1) hX rfl rfl dX1_shape_1 ?_
  refine jr_callV (As := [.int (nI i)]) (bc1 := (0)) (bs1 := (0)) hX (met_thingAt l D s0 b0 A _ S ad T hR i (lt_ofl ht) hol) (cwV 1 hX.ts (lw_V q1573 q1575 qs36 q65 q1576) rfl rfl rfl (by decide +kernel) ⟨Nat.le_of_ble_eq_true rfl, Nat.le_of_ble_eq_true rfl⟩) hx rfl rfl (Nat.le_of_ble_eq_true rfl) (by first | omega | (dsimp only; omega) | (show _ ≤ _; simp only []; omega)) (by first | omega | (dsimp only; omega) | (show _ ≤ _; simp only []; omega)) rfl dX1_shape_2 (fun v_2 G_2 hp_2 => ?_)
  obtain ⟨rfl, e9⟩ := hp_2
  rw [e9]
  refine jr_callU (As := []) (bc1 := (0)) (bs1 := (0)) hX (met_version_t l D s0 b0 A _ (ad 16 i 0) _ _ _ hth) (va_cwU 0 hX.ts (lw_U q1577 q1106 q1108 q1109 q98 q1110) rfl rfl rfl rfl (by decide +kernel) ⟨Nat.le_of_ble_eq_true rfl, Nat.le_of_ble_eq_true rfl⟩) hth rfl rfl (Nat.le_of_ble_eq_true rfl) (by first | omega | (dsimp only; omega) | (show _ ≤ _; simp only []; omega)) (by first | omega | (dsimp only; omega) | (show _ ≤ _; simp only []; omega)) rfl dX1_shape_5 (fun v_5 G_5 hp_5 => ?_)
  obtain ⟨rfl, e9⟩ := hp_5
  rw [e9]
  exact jr_iret hX hlk hr ⟨rfl, rfl⟩ dX1_shape_8

set_option maxHeartbeats 4000000 in
set_option maxRecDepth 100000 in
theorem met_putOf (l : Launch) (D : va_G) (s0 : State) (b0 : Nat) (A : Nat → Prop) (G : jG) (S : sSt) (ad : jN) (T : jT) (hR : jCo D s0 b0 S ad T G) (i w : Nat) (u : Int32 × Nat) (hu : (s_u S)[i]? = some u) (hul : (s_u S).length < 20000) (hw : w < 2) : jM l yX1_putOf (ws_ yX1_putOf cX1_putOf 3 (some .int)) (jR 3 0 0) D s0 b0 A G [.ref (ad 1 0 0), .int (nI i), .int (nI w)] (fun r G1 => r = some (.int (if w = 0 then u.1 else nI u.2)) ∧ G1 = G) := by
  have hx := co_x hR
  obtain ⟨moU, capU, eaU, hUL, -, hUc, -⟩ := co_pts hR
  have hpu := co_put hR hu
  refine jM.of (by decide +kernel) (own := RX1) rfl (Nat.le_of_ble_eq_true rfl) ?_
  intro p e s m args below meth c hX hr hlk hnm
  refine jr_iload_n (i := 1) hX rfl rfl dX1_putOf_0 ?_
  refine jr_aload_n (i := 0) hX rfl rfl dX1_putOf_1 ?_
  refine jr_get (ci := 2) (k := 5) hX (by first | assumption | exact jup_s) rfl in_X1 (by decide) q368 rfl dX1_putOf_2 ?_
  refine jr_callF (As := []) (bc1 := (0)) (bs1 := (0)) hX (met_size l D s0 b0 A _ (ad 2 4 0) (s_rg (s_u S).length (fun v => ad 19 v 0)) moU capU eaU hUL) (va_cwF 0 hX.ts (lw_F q405 q408 q410 q68 q412) rfl rfl rfl (hX.S.fw ⟨by decide +kernel, by decide +kernel⟩ q407 q406 q411 q409 q183) (by decide +kernel) ⟨Nat.le_of_ble_eq_true rfl, Nat.le_of_ble_eq_true rfl⟩) hUL.1 rfl rfl (Nat.le_of_ble_eq_true rfl) (by first | omega | (dsimp only; omega) | (show _ ≤ _; simp only []; omega)) (by first | omega | (dsimp only; omega) | (show _ ≤ _; simp only []; omega)) rfl dX1_putOf_5 (fun v_5 G_5 hp_5 => ?_)
  obtain ⟨rfl, e9⟩ := hp_5
  rw [e9, rg_len]
  refine jr_callS (As := [.int (nI i), .int (nI (s_u S).length)]) (bc1 := (0)) (bs1 := (0)) hX (met_requireIndex l D s0 b0 A _ i (s_u S).length (lt_ofl hu) hul) (va_cwS 2 hX.ts (lw_S q735 q736 q65 q737) rfl rfl rfl (by decide +kernel) ⟨Nat.le_of_ble_eq_true rfl, Nat.le_of_ble_eq_true rfl⟩) rfl (Nat.le_of_ble_eq_true rfl) (by first | omega | (dsimp only; omega) | (show _ ≤ _; simp only []; omega)) (by first | omega | (dsimp only; omega) | (show _ ≤ _; simp only []; omega)) rfl dX1_putOf_10 (fun v_10 G_10 hp_10 => ?_)
  obtain ⟨rfl, e9⟩ := hp_10
  rw [e9]
  refine jr_aload_n (i := 0) hX rfl rfl dX1_putOf_13 ?_
  refine jr_get (ci := 2) (k := 5) hX (by first | assumption | exact jup_s) rfl in_X1 (by decide) q368 rfl dX1_putOf_14 ?_
  refine jr_iload_n (i := 1) hX rfl rfl dX1_putOf_17 ?_
  refine jr_callF (As := [.int (nI (i))]) (bc1 := (0)) (bs1 := (0)) hX (met_get l D s0 b0 A _ (ad 2 4 0) (s_rg (s_u S).length (fun v => ad 19 v 0)) moU capU eaU hUL (i) (ad 19 i 0) (rg_at (lt_ofl hu))) (va_cwF 1 hX.ts (lw_F q299 q302 q304 q68 q306) rfl rfl rfl (hX.S.fw ⟨by decide +kernel, by decide +kernel⟩ q301 q300 q305 q303 q183) (by decide +kernel) ⟨Nat.le_of_ble_eq_true rfl, Nat.le_of_ble_eq_true rfl⟩) hUL.1 rfl rfl (Nat.le_of_ble_eq_true rfl) (by first | omega | (dsimp only; omega) | (show _ ≤ _; simp only []; omega)) (by first | omega | (dsimp only; omega) | (show _ ≤ _; simp only []; omega)) rfl dX1_putOf_18 (fun v_18 G_18 hp_18 => ?_)
  obtain ⟨rfl, e9⟩ := hp_18
  rw [e9]
  refine jr_castA hX hpu q1611 (va_nm_int (hX.K.2 0 _ rfl).2) dX1_putOf_23 ?_
  refine jr_iload_n (i := 2) hX rfl rfl dX1_putOf_26 ?_
  refine jr_iald hX hpu (vp_in_nI hw (by omega)) dX1_putOf_27 ?_
  rw [nI_clamp (by omega)]
  exact jr_iret hX hlk hr ⟨rfl, rfl⟩ dX1_putOf_28
