/-! ArrayList: what its cells show; its readers and iterators -/
/-- at a lies a list of the objects xs, its modCount mo, its room cap, its array at ea -/
def jLS (D : va_G) (s0 : State) (b0 : Nat) (G : jG) (a : Nat) (xs : List Nat) (mo : Int32) (cap ea : Nat) : Prop :=
  G a = some (jo 0 [.int mo, .ref ea, .int (nI xs.length)]) ∧ xs.length ≤ cap ∧ cap ≤ 20000 ∧ ((cap = 0 ∧ ea = jEE s0 b0) ∨ (10 ≤ cap ∧ ∃ f : Nat → Option Nat, G ea = some (jq D 101 cap f) ∧ ∀ i, i < cap → f i = xs[i]?))
theorem jLS.arr {D : va_G} {s0 : State} {b0 : Nat} {G : jG} {a : Nat} {xs : List Nat} {mo : Int32} {cap ea : Nat} (h : jLS D s0 b0 G a xs mo cap ea) {i x : Nat} (hx : xs[i]? = some x) : i < xs.length ∧ 10 ≤ cap ∧ ∃ f : Nat → Option Nat, G ea = some (jq D 101 cap f) ∧ f i = some x := by
  obtain ⟨h1, h2, h3, h4⟩ := h
  have hi : i < xs.length := (List.getElem?_eq_some_iff.mp hx).1
  rcases h4 with ⟨h5, -⟩ | ⟨h5, f, h6, h7⟩
  · omega
  · exact ⟨hi, h5, f, h6, (h7 i (by omega)).trans hx⟩

set_option maxHeartbeats 4000000 in
set_option maxRecDepth 100000 in
theorem met_size (l : Launch) (D : va_G) (s0 : State) (b0 : Nat) (A : Nat → Prop) (G : jG) (a : Nat) (xs : List Nat) (mo : Int32) (cap ea : Nat) (hL : jLS D s0 b0 G a xs mo cap ea) : jM l yJ2_size (ws_ yJ2_size cJ2_size 1 (some .int)) (jR 0 0 0) D s0 b0 A G [.ref a] (fun v G1 => v = some (.int (nI xs.length)) ∧ G1 = G) := by
  obtain ⟨hL1, hle, hcap, hor⟩ := hL
  refine jM.of (by decide +kernel) (own := RJ2) rfl (Nat.le_of_ble_eq_true rfl) ?_
  intro p e s m args below meth c hX hr hlk hnm
  refine jr_aload_n (i := 0) hX rfl rfl dJ2_size_0 ?_
  refine jr_get (ci := 0) (k := 2) hX (by first | assumption | exact jup_s) rfl in_J2 (by decide) q137 rfl dJ2_size_1 ?_
  exact jr_iret hX hlk hr ⟨rfl, rfl⟩ dJ2_size_4

set_option maxHeartbeats 4000000 in
set_option maxRecDepth 100000 in
theorem met_isEmpty (l : Launch) (D : va_G) (s0 : State) (b0 : Nat) (A : Nat → Prop) (G : jG) (a : Nat) (xs : List Nat) (mo : Int32) (cap ea : Nat) (hL : jLS D s0 b0 G a xs mo cap ea) : jM l yJ2_isEmpty (ws_ yJ2_isEmpty cJ2_isEmpty 1 (some .boolean)) (jR 0 0 0) D s0 b0 A G [.ref a] (fun v G1 => v = some (.int (jbz (decide (xs = [])))) ∧ G1 = G) := by
  obtain ⟨hL1, hle, hcap, hor⟩ := hL
  refine jM.of (by decide +kernel) (own := RJ2) rfl (Nat.le_of_ble_eq_true rfl) ?_
  intro p e s m args below meth c hX hr hlk hnm
  refine jr_aload_n (i := 0) hX rfl rfl dJ2_isEmpty_0 ?_
  refine jr_get (ci := 0) (k := 2) hX (by first | assumption | exact jup_s) rfl in_J2 (by decide) q137 rfl dJ2_isEmpty_1 ?_
  refine jr_if_ne hX (tgt := 11) (by decide) dJ2_isEmpty_4 (fun c_4 => ?_) (fun c_4 => ?_)
  · refine jr_iconst (v := 0) hX rfl dJ2_isEmpty_11 ?_
    have hne : ¬ xs = [] := fun q => c_4 (by rw [q]; rfl)
    exact jr_zret hX hlk hr (by decide) ⟨by rw [decide_eq_false hne]; rfl, rfl⟩ dJ2_isEmpty_12
  · refine jr_iconst (v := 1) hX rfl dJ2_isEmpty_7 ?_
    refine jr_goto hX (tgt := 12) (by decide) dJ2_isEmpty_8 ?_
    have he : xs = [] := by
      cases xs with
      | nil => rfl
      | cons x r => exact absurd c_4 (nI_ne0 (by simp) (by simp at hle ⊢; omega))
    exact jr_zret hX hlk hr (by decide) ⟨by rw [decide_eq_true he]; rfl, rfl⟩ dJ2_isEmpty_12

set_option maxHeartbeats 4000000 in
set_option maxRecDepth 100000 in
theorem met_eData (l : Launch) (D : va_G) (s0 : State) (b0 : Nat) (A : Nat → Prop) (G : jG) (a : Nat) (xs : List Nat) (mo : Int32) (cap ea : Nat) (hL : jLS D s0 b0 G a xs mo cap ea) (i x : Nat) (hx : xs[i]? = some x) : jM l yJ2_elementData (ws_ yJ2_elementData cJ2_elementData 2 (some (.object "java/lang/Object"))) (jR 0 0 0) D s0 b0 A G [.ref a, .int (nI i)] (fun v G1 => v = some (.ref x) ∧ G1 = G) := by
  obtain ⟨hi, hc10, f, hf, hfx⟩ := hL.arr hx
  obtain ⟨hL1, hle, hcap, hor⟩ := hL
  refine jM.of (by decide +kernel) (own := RJ2) rfl (Nat.le_of_ble_eq_true rfl) ?_
  intro p e s m args below meth c hX hr hlk hnm
  refine jr_aload_n (i := 0) hX rfl rfl dJ2_elementData_0 ?_
  refine jr_get (ci := 0) (k := 1) hX (by first | assumption | exact jup_s) rfl in_J2 (by decide) q134 rfl dJ2_elementData_1 ?_
  refine jr_iload_n (i := 1) hX rfl rfl dJ2_elementData_4 ?_
  refine jr_aald (t := 1) (v := .ref x) hX hf rfl rfl (vp_in_nI (by omega) (by omega)) (by rw [nI_clamp (by omega), hfx]; rfl) dJ2_elementData_5 ?_
  exact jr_aret hX hlk hr (Or.inl ⟨_, rfl⟩) (Or.inr ⟨_, rfl⟩) ⟨rfl, rfl⟩ dJ2_elementData_6

set_option maxHeartbeats 4000000 in
set_option maxRecDepth 100000 in
theorem met_get (l : Launch) (D : va_G) (s0 : State) (b0 : Nat) (A : Nat → Prop) (G : jG) (a : Nat) (xs : List Nat) (mo : Int32) (cap ea : Nat) (hL : jLS D s0 b0 G a xs mo cap ea) (i x : Nat) (hx : xs[i]? = some x) : jM l yJ2_get (ws_ yJ2_get cJ2_get 2 (some (.object "java/lang/Object"))) (jR 2 0 0) D s0 b0 A G [.ref a, .int (nI i)] (fun v G1 => v = some (.ref x) ∧ G1 = G) := by
  have hL0 := hL
  obtain ⟨hi, hc10, f, hf, hfx⟩ := hL.arr hx
  obtain ⟨hL1, hle, hcap, hor⟩ := hL
  refine jM.of (by decide +kernel) (own := RJ2) rfl (Nat.le_of_ble_eq_true rfl) ?_
  intro p e s m args below meth c hX hr hlk hnm
  refine jr_iload_n (i := 1) hX rfl rfl dJ2_get_0 ?_
  refine jr_aload_n (i := 0) hX rfl rfl dJ2_get_1 ?_
  refine jr_get (ci := 0) (k := 2) hX (by first | assumption | exact jup_s) rfl in_J2 (by decide) q137 rfl dJ2_get_2 ?_
  refine jr_callS (As := [.int (nI i), .int (nI xs.length)]) (bc1 := (0)) (bs1 := (0)) hX (met_ochk l D s0 b0 A G (nI i) (nI xs.length) (nI_pos (by omega)) (nI_lt hi (by omega))) (va_cwS 2 hX.ts (lw_S q307 q308 q75 q309) rfl rfl rfl (by decide +kernel) ⟨Nat.le_of_ble_eq_true rfl, Nat.le_of_ble_eq_true rfl⟩) rfl (Nat.le_of_ble_eq_true rfl) (by first | omega | (dsimp only; omega) | (show _ ≤ _; simp only []; omega)) (by first | omega | (dsimp only; omega) | (show _ ≤ _; simp only []; omega)) rfl dJ2_get_5 (fun v_5 G_5 hp_5 => ?_)
  obtain ⟨rfl, e9⟩ := hp_5
  rw [e9]
  refine jr_pop hX rfl dJ2_get_8 ?_
  refine jr_aload_n (i := 0) hX rfl rfl dJ2_get_9 ?_
  refine jr_iload_n (i := 1) hX rfl rfl dJ2_get_10 ?_
  refine jr_callV (As := [.int (nI i)]) (bc1 := (0)) (bs1 := (0)) hX (met_eData l D s0 b0 A G a xs mo cap ea hL0 i x hx) (cwV 1 hX.ts (lw_V q313 q314 q315 q68 q316) rfl rfl rfl (by decide +kernel) ⟨Nat.le_of_ble_eq_true rfl, Nat.le_of_ble_eq_true rfl⟩) (by first | assumption | exact jup_s) rfl rfl (Nat.le_of_ble_eq_true rfl) (by first | omega | (dsimp only; omega) | (show _ ≤ _; simp only []; omega)) (by first | omega | (dsimp only; omega) | (show _ ≤ _; simp only []; omega)) rfl dJ2_get_11 (fun v_11 G_11 hp_11 => ?_)
  obtain ⟨rfl, e9⟩ := hp_11
  rw [e9]
  exact jr_aret hX hlk hr (Or.inl ⟨_, rfl⟩) (Or.inr ⟨_, rfl⟩) ⟨rfl, rfl⟩ dJ2_get_14

set_option maxHeartbeats 4000000 in
set_option maxRecDepth 100000 in
theorem met_ACinit (l : Launch) (D : va_G) (s0 : State) (b0 : Nat) (A : Nat → Prop) (G : jG) (a : Nat) : jM l yJ0_init (ws_ yJ0_init cJ0_init 1 none) (jR 1 0 0) D s0 b0 A G [.ref a] (fun v G1 => v = none ∧ G1 = G) := by
  refine jM.of (by decide +kernel) (own := RJ0) rfl (Nat.le_of_ble_eq_true rfl) ?_
  intro p e s m args below meth c hX hr hlk hnm
  refine jr_aload_n (i := 0) hX rfl rfl dJ0_init_0 ?_
  refine jr_oinit hX q131 q118 q119 (Nat.le_of_ble_eq_true rfl) (Nat.le_of_ble_eq_true rfl) dJ0_init_1 ?_
  exact jr_vret hX hlk hr ⟨rfl, rfl⟩ dJ0_init_4

set_option maxHeartbeats 4000000 in
set_option maxRecDepth 100000 in
theorem met_ALinit (l : Launch) (D : va_G) (s0 : State) (b0 : Nat) (A : Nat → Prop) (G : jG) (a : Nat) (fs1 fs2 fs3 : Value) (ha : G a = some (jo 0 [fs1, fs2, fs3])) : jM l yJ1_init (ws_ yJ1_init cJ1_init 1 none) (jR 2 0 0) D s0 b0 A G [.ref a] (fun v G1 => v = none ∧ G1 = jup G a (jo 0 [.int 0, fs2, fs3])) := by
  refine jM.of (by decide +kernel) (own := RJ1) rfl (Nat.le_of_ble_eq_true rfl) ?_
  intro p e s m args below meth c hX hr hlk hnm
  refine jr_aload_n (i := 0) hX rfl rfl dJ1_init_0 ?_
  refine jr_callI (ret := none) (As := []) (bc1 := (0)) (bs1 := (0)) hX (met_ACinit l D s0 b0 A G a) (cwI 0 hX.ts (lw_meth q130) rfl rfl rfl (hX.ts _ q66) (hX.ts _ q128) (hX.ts _ q129) rfl (by decide +kernel) ⟨Nat.le_of_ble_eq_true rfl, Nat.le_of_ble_eq_true rfl⟩) rfl (Nat.le_of_ble_eq_true rfl) (by first | omega | (dsimp only; omega) | (show _ ≤ _; simp only []; omega)) (by first | omega | (dsimp only; omega) | (show _ ≤ _; simp only []; omega)) rfl dJ1_init_1 (fun v_1 G_1 hp_1 => ?_)
  obtain ⟨rfl, e9⟩ := hp_1
  rw [e9]
  refine jr_aload_n (i := 0) hX rfl rfl dJ1_init_4 ?_
  refine jr_iconst (v := 0) hX rfl dJ1_init_5 ?_
  refine jr_put (ci := 0) (k := 0) hX (by first | assumption | exact jup_s) rfl in_J2 (by decide) tyJ2 tyJ2_ok nmJ2 q138 rfl (by first | rfl | assumption) (by first | rfl | assumption) (Nat.le_of_ble_eq_true rfl) dJ1_init_6 ?_
  exact jr_vret hX hlk hr ⟨rfl, rfl⟩ dJ1_init_9

set_option maxHeartbeats 4000000 in
set_option maxRecDepth 100000 in
theorem met_init (l : Launch) (D : va_G) (s0 : State) (b0 : Nat) (A : Nat → Prop) (G : jG) (a : Nat) (fs1 fs2 : Value) (ha : G a = some (jo 0 [fs1, fs2, .int 0])) : jM l yJ2_init (ws_ yJ2_init cJ2_init 1 none) (jR 3 0 0) D s0 b0 A G [.ref a] (fun v G1 => v = none ∧ G1 = jup G a (jo 0 [.int 0, .ref (jEE s0 b0), .int 0])) := by
  refine jM.of (by decide +kernel) (own := RJ2) rfl (Nat.le_of_ble_eq_true rfl) ?_
  intro p e s m args below meth c hX hr hlk hnm
  refine jr_aload_n (i := 0) hX rfl rfl dJ2_init_0 ?_
  refine jr_callI (ret := none) (As := []) (bc1 := (0)) (bs1 := (0)) hX (met_ALinit l D s0 b0 A G a fs1 fs2 (.int 0) ha) (cwI 0 hX.ts (lw_meth q127) rfl rfl rfl (hX.ts _ q67) (hX.ts _ q125) (hX.ts _ q126) rfl (by decide +kernel) ⟨Nat.le_of_ble_eq_true rfl, Nat.le_of_ble_eq_true rfl⟩) rfl (Nat.le_of_ble_eq_true rfl) (by first | omega | (dsimp only; omega) | (show _ ≤ _; simp only []; omega)) (by first | omega | (dsimp only; omega) | (show _ ≤ _; simp only []; omega)) rfl dJ2_init_1 (fun v_1 G_1 hp_1 => ?_)
  obtain ⟨rfl, e9⟩ := hp_1
  rw [e9]
  refine jr_aload_n (i := 0) hX rfl rfl dJ2_init_4 ?_
  refine jr_gets hX hX.S.EE.1 q132 (fun _ h => h) dJ2_init_5 ?_
  refine jr_put (ci := 0) (k := 1) hX (by first | assumption | exact jup_s) rfl in_J2 (by decide) tyJ2 tyJ2_ok nmJ2 q134 rfl (by first | rfl | assumption) (by first | rfl | assumption) (Nat.le_of_ble_eq_true rfl) dJ2_init_8 ?_
  exact jr_vret hX hlk hr ⟨rfl, by rw [jup_jup]; rfl⟩ dJ2_init_11

set_option maxHeartbeats 4000000 in
set_option maxRecDepth 100000 in
theorem met_ItrInit (l : Launch) (D : va_G) (s0 : State) (b0 : Nat) (A : Nat → Prop) (G : jG) (a it : Nat) (xs : List Nat) (mo : Int32) (cap ea : Nat) (hL : jLS D s0 b0 G a xs mo cap ea) (hit : G it = some (jo 1 [.int 0, .int 0, .int 0, .null])) : jM l yJ18_init (ws_ yJ18_init cJ18_init 2 none) (jR 1 0 0) D s0 b0 A G [.ref it, .ref a] (fun v G1 => v = none ∧ G1 = jup G it (jo 1 [.int 0, .int (-1), .int mo, .ref a])) := by
  obtain ⟨hL1, hle, hcap, hor⟩ := hL
  refine jM.of (by decide +kernel) (own := RJ18) rfl (Nat.le_of_ble_eq_true rfl) ?_
  intro p e s m args below meth c hX hr hlk hnm
  refine jr_aload_n (i := 0) hX rfl rfl dJ18_init_0 ?_
  refine jr_aload_n (i := 1) hX rfl rfl dJ18_init_1 ?_
  refine jr_putF (ci := 1) (k := 3) hX (by first | assumption | exact jup_s) rfl in_J18 (by decide) tyJ18 tyJ18_ok nmJ18 q867 rfl hnm rfl (by first | rfl | assumption) (by first | rfl | assumption) (Nat.le_of_ble_eq_true rfl) dJ18_init_2 ?_
  refine jr_aload_n (i := 0) hX rfl rfl dJ18_init_5 ?_
  refine jr_oinit hX q863 q118 q119 (Nat.le_of_ble_eq_true rfl) (Nat.le_of_ble_eq_true rfl) dJ18_init_6 ?_
  refine jr_aload_n (i := 0) hX rfl rfl dJ18_init_9 ?_
  refine jr_iconst (v := -1) hX rfl dJ18_init_10 ?_
  refine jr_put (ci := 1) (k := 1) hX (by first | assumption | exact jup_s) rfl in_J18 (by decide) tyJ18 tyJ18_ok nmJ18 q865 rfl (by first | rfl | assumption) (by first | rfl | assumption) (Nat.le_of_ble_eq_true rfl) dJ18_init_11 ?_
  refine jr_aload_n (i := 0) hX rfl rfl dJ18_init_14 ?_
  refine jr_aload_n (i := 0) hX rfl rfl dJ18_init_15 ?_
  refine jr_get (ci := 1) (k := 3) hX (by first | assumption | exact jup_s) rfl in_J18 (by decide) q867 rfl dJ18_init_16 ?_
  have hL2 := jup_o (x := jo 1 [.int 0, .int (-1), .int 0, .ref a]) hL1 hit (by simp)
  rw [jup_jup]
  refine jr_getS (ci := 0) (k := 0) hX (by first | assumption | exact jup_s) rfl in_J2 (by decide) q139 (u_same (hX.ts _ q140)) rfl dJ18_init_19 ?_
  refine jr_put (ci := 1) (k := 2) hX (by first | assumption | exact jup_s) rfl in_J18 (by decide) tyJ18 tyJ18_ok nmJ18 q866 rfl (by first | rfl | assumption) (by first | rfl | assumption) (Nat.le_of_ble_eq_true rfl) dJ18_init_22 ?_
  exact jr_vret hX hlk hr ⟨rfl, by rw [jup_jup]; rfl⟩ dJ18_init_25

set_option maxHeartbeats 4000000 in
set_option maxRecDepth 100000 in
theorem met_iterator (l : Launch) (D : va_G) (s0 : State) (b0 : Nat) (A : Nat → Prop) (G : jG) (a : Nat) (xs : List Nat) (mo : Int32) (cap ea : Nat) (hL : jLS D s0 b0 G a xs mo cap ea) : jM l yJ2_iterator (ws_ yJ2_iterator cJ2_iterator 1 (some (.object "java/util/Iterator"))) (jR 2 1 4) D s0 b0 A G [.ref a] (fun v G1 => ∃ it, v = some (.ref it) ∧ G it = none ∧ A it ∧ G1 = jup G it (jo 1 [.int 0, .int (-1), .int mo, .ref a])) := by
  have hL0 := hL
  obtain ⟨hL1, hle, hcap, hor⟩ := hL
  refine jM.of (by decide +kernel) (own := RJ2) rfl (Nat.le_of_ble_eq_true rfl) ?_
  intro p e s m args below meth c hX hr hlk hnm
  refine jr_new (ci := 1) (fs := [.int 0, .int 0, .int 0, .null]) (bc1 := 0) (bs1 := 0) hX in_J18 tyJ18 tyJ18_ok q858 q859 q96 rfl (by decide) (by omega) (by omega) dJ2_iterator_0 (fun n_0 hn_0 hA_0 => ?_)
  refine jr_dup hX rfl dJ2_iterator_3 ?_
  refine jr_aload_n (i := 0) hX rfl rfl dJ2_iterator_4 ?_
  refine jr_callI (ret := none) (As := [.ref a]) (bc1 := (0)) (bs1 := (0)) hX (met_ItrInit l D s0 b0 A _ a n_0 xs mo cap ea ⟨jup_f hL1 hn_0, hle, hcap, by
        rcases hor with h | ⟨h, f, h1, h2⟩
        · exact Or.inl h
        · exact Or.inr ⟨h, f, jup_f h1 hn_0, h2⟩⟩ jup_s) (cwI 1 hX.ts (lw_meth q862) rfl rfl rfl (hX.ts _ q96) (hX.ts _ q860) (hX.ts _ q861) rfl (by decide +kernel) ⟨Nat.le_of_ble_eq_true rfl, Nat.le_of_ble_eq_true rfl⟩) rfl (Nat.le_of_ble_eq_true rfl) (by first | omega | (dsimp only; omega) | (show _ ≤ _; simp only []; omega)) (by first | omega | (dsimp only; omega) | (show _ ≤ _; simp only []; omega)) rfl dJ2_iterator_5 (fun v_5 G_5 hp_5 => ?_)
  obtain ⟨rfl, e9⟩ := hp_5
  rw [e9]
  rw [jup_jup]
  exact jr_aret hX hlk hr (Or.inl ⟨_, rfl⟩) (Or.inr ⟨_, rfl⟩) ⟨n_0, rfl, hn_0, hA_0, rfl⟩ dJ2_iterator_8

set_option maxHeartbeats 4000000 in
set_option maxRecDepth 100000 in
theorem met_hasNext (l : Launch) (D : va_G) (s0 : State) (b0 : Nat) (A : Nat → Prop) (G : jG) (a : Nat) (xs : List Nat) (mo : Int32) (cap ea : Nat) (hL : jLS D s0 b0 G a xs mo cap ea) (it i : Nat) (lr : Int32) (hit : G it = some (jo 1 [.int (nI i), .int lr, .int mo, .ref a])) (hi : i ≤ xs.length) : jM l yJ18_hasNext (ws_ yJ18_hasNext cJ18_hasNext 1 (some .boolean)) (jR 0 0 0) D s0 b0 A G [.ref it] (fun v G1 => v = some (.int (jbz (decide (i < xs.length)))) ∧ G1 = G) := by
  obtain ⟨hL1, hle, hcap, hor⟩ := hL
  refine jM.of (by decide +kernel) (own := RJ18) rfl (Nat.le_of_ble_eq_true rfl) ?_
  intro p e s m args below meth c hX hr hlk hnm
  refine jr_aload_n (i := 0) hX rfl rfl dJ18_hasNext_0 ?_
  refine jr_get (ci := 1) (k := 0) hX (by first | assumption | exact jup_s) rfl in_J18 (by decide) q864 rfl dJ18_hasNext_1 ?_
  refine jr_aload_n (i := 0) hX rfl rfl dJ18_hasNext_4 ?_
  refine jr_get (ci := 1) (k := 3) hX (by first | assumption | exact jup_s) rfl in_J18 (by decide) q867 rfl dJ18_hasNext_5 ?_
  refine jr_getN (ci := 0) (k := 2) hX (by first | assumption | exact jup_s) rfl in_J2 (by decide) q136 rfl dJ18_hasNext_8 ?_
  refine jr_icmp_eq hX (tgt := 18) (by decide) dJ18_hasNext_11 (fun c_11 => ?_) (fun c_11 => ?_)
  · refine jr_iconst (v := 0) hX rfl dJ18_hasNext_18 ?_
    exact jr_zret hX hlk hr (by decide) ⟨by rw [decide_eq_false (by have := (nI_eq (by omega) (by omega)).mp c_11; omega)]; rfl, rfl⟩ dJ18_hasNext_19
  · refine jr_iconst (v := 1) hX rfl dJ18_hasNext_14 ?_
    refine jr_goto hX (tgt := 19) (by decide) dJ18_hasNext_15 ?_
    exact jr_zret hX hlk hr (by decide) ⟨by rw [decide_eq_true (Nat.lt_of_le_of_ne hi (fun q => c_11 (by rw [q])))]; rfl, rfl⟩ dJ18_hasNext_19

set_option maxHeartbeats 4000000 in
set_option maxRecDepth 100000 in
theorem met_Itrcf (l : Launch) (D : va_G) (s0 : State) (b0 : Nat) (A : Nat → Prop) (G : jG) (a : Nat) (xs : List Nat) (mo : Int32) (cap ea : Nat) (hL : jLS D s0 b0 G a xs mo cap ea) (it i : Nat) (lr : Int32) (hit : G it = some (jo 1 [.int (nI i), .int lr, .int mo, .ref a])) : jM l yJ18_checkForComodification (ws_ yJ18_checkForComodification cJ18_checkForComodification 1 none) (jR 0 0 0) D s0 b0 A G [.ref it] (fun v G1 => v = none ∧ G1 = G) := by
  obtain ⟨hL1, hle, hcap, hor⟩ := hL
  refine jM.of (by decide +kernel) (own := RJ18) rfl (Nat.le_of_ble_eq_true rfl) ?_
  intro p e s m args below meth c hX hr hlk hnm
  refine jr_aload_n (i := 0) hX rfl rfl dJ18_checkForComodification_0 ?_
  refine jr_get (ci := 1) (k := 3) hX (by first | assumption | exact jup_s) rfl in_J18 (by decide) q867 rfl dJ18_checkForComodification_1 ?_
  refine jr_getS (ci := 0) (k := 0) hX (by first | assumption | exact jup_s) rfl in_J2 (by decide) q139 (u_same (hX.ts _ q140)) rfl dJ18_checkForComodification_4 ?_
  refine jr_aload_n (i := 0) hX rfl rfl dJ18_checkForComodification_7 ?_
  refine jr_get (ci := 1) (k := 2) hX (by first | assumption | exact jup_s) rfl in_J18 (by decide) q866 rfl dJ18_checkForComodification_8 ?_
  refine jr_icmp_eq hX (tgt := 22) (by decide) dJ18_checkForComodification_11 (fun c_11 => ?_) (fun c_11 => absurd rfl c_11)
  exact jr_vret hX hlk hr ⟨rfl, rfl⟩ dJ18_checkForComodification_22

set_option maxHeartbeats 4000000 in
set_option maxRecDepth 100000 in
theorem met_next (l : Launch) (D : va_G) (s0 : State) (b0 : Nat) (A : Nat → Prop) (G : jG) (a : Nat) (xs : List Nat) (mo : Int32) (cap ea : Nat) (hL : jLS D s0 b0 G a xs mo cap ea) (it i : Nat) (lr : Int32) (hit : G it = some (jo 1 [.int (nI i), .int lr, .int mo, .ref a])) (x : Nat) (hx : xs[i]? = some x) : jM l yJ18_next (ws_ yJ18_next cJ18_next 3 (some (.object "java/lang/Object"))) (jR 1 0 0) D s0 b0 A G [.ref it] (fun v G1 => v = some (.ref x) ∧ G1 = jup G it (jo 1 [.int (nI (i + 1)), .int (nI i), .int mo, .ref a])) := by
  have hL0 := hL
  obtain ⟨hi, hc10, f, hf, hfx⟩ := hL.arr hx
  obtain ⟨hL1, hle, hcap, hor⟩ := hL
  refine jM.of (by decide +kernel) (own := RJ18) rfl (Nat.le_of_ble_eq_true rfl) ?_
  intro p e s m args below meth c hX hr hlk hnm
  refine jr_aload_n (i := 0) hX rfl rfl dJ18_next_0 ?_
  refine jr_callV (As := []) (bc1 := (0)) (bs1 := (0)) hX (met_Itrcf l D s0 b0 A G a xs mo cap ea hL0 it i lr hit) (cwV 0 hX.ts (lw_V q896 q897 q898 q96 q899) rfl rfl rfl (by decide +kernel) ⟨Nat.le_of_ble_eq_true rfl, Nat.le_of_ble_eq_true rfl⟩) (by first | assumption | exact jup_s) rfl rfl (Nat.le_of_ble_eq_true rfl) (by first | omega | (dsimp only; omega) | (show _ ≤ _; simp only []; omega)) (by first | omega | (dsimp only; omega) | (show _ ≤ _; simp only []; omega)) rfl dJ18_next_1 (fun v_1 G_1 hp_1 => ?_)
  obtain ⟨rfl, e9⟩ := hp_1
  rw [e9]
  refine jr_aload_n (i := 0) hX rfl rfl dJ18_next_4 ?_
  refine jr_get (ci := 1) (k := 0) hX (by first | assumption | exact jup_s) rfl in_J18 (by decide) q864 rfl dJ18_next_5 ?_
  refine jr_istore_n (i := 1) hX rfl (by decide) rfl dJ18_next_8 ?_
  refine jr_iload_n (i := 1) hX rfl rfl dJ18_next_9 ?_
  refine jr_aload_n (i := 0) hX rfl rfl dJ18_next_10 ?_
  refine jr_get (ci := 1) (k := 3) hX (by first | assumption | exact jup_s) rfl in_J18 (by decide) q867 rfl dJ18_next_11 ?_
  refine jr_getN (ci := 0) (k := 2) hX (by first | assumption | exact jup_s) rfl in_J2 (by decide) q136 rfl dJ18_next_14 ?_
  refine jr_icmp_lt hX (tgt := 28) (by decide) dJ18_next_17 (fun c_17 => ?_) (fun c_17 => absurd (nI_lt hi (by omega)) c_17)
  refine jr_aload_n (i := 0) hX rfl rfl dJ18_next_28 ?_
  refine jr_get (ci := 1) (k := 3) hX (by first | assumption | exact jup_s) rfl in_J18 (by decide) q867 rfl dJ18_next_29 ?_
  refine jr_get (ci := 0) (k := 1) hX (by first | assumption | exact jup_s) rfl in_J2 (by decide) q135 rfl dJ18_next_32 ?_
  refine jr_astore_n (i := 2) hX rfl (by decide) rfl dJ18_next_35 ?_
  refine jr_iload_n (i := 1) hX rfl rfl dJ18_next_36 ?_
  refine jr_aload_n (i := 2) hX rfl rfl dJ18_next_37 ?_
  refine jr_alen (t := 1) hX hf rfl rfl dJ18_next_38 ?_
  refine jr_icmp_lt hX (tgt := 50) (by decide) dJ18_next_39 (fun c_39 => ?_) (fun c_39 => absurd (nI_lt (b := cap) (by omega) (by omega)) c_39)
  refine jr_aload_n (i := 0) hX rfl rfl dJ18_next_50 ?_
  refine jr_iload_n (i := 1) hX rfl rfl dJ18_next_51 ?_
  refine jr_iconst (v := 1) hX rfl dJ18_next_52 ?_
  refine jr_iadd hX dJ18_next_53 ?_
  rw [nI_1]
  refine jr_put (ci := 1) (k := 0) hX (by first | assumption | exact jup_s) rfl in_J18 (by decide) tyJ18 tyJ18_ok nmJ18 q864 rfl (by first | rfl | assumption) (by first | rfl | assumption) (Nat.le_of_ble_eq_true rfl) dJ18_next_54 ?_
  refine jr_aload_n (i := 2) hX rfl rfl dJ18_next_57 ?_
  refine jr_aload_n (i := 0) hX rfl rfl dJ18_next_58 ?_
  refine jr_iload_n (i := 1) hX rfl rfl dJ18_next_59 ?_
  refine jr_dup_x1 hX rfl rfl dJ18_next_60 ?_
  refine jr_put (ci := 1) (k := 1) hX (by first | assumption | exact jup_s) rfl in_J18 (by decide) tyJ18 tyJ18_ok nmJ18 q865 rfl (by first | rfl | assumption) (by first | rfl | assumption) (Nat.le_of_ble_eq_true rfl) dJ18_next_61 ?_
  refine jr_aald (t := 1) (v := .ref x) hX (jup_o (jup_o hf hit (by simp)) jup_s (by simp)) rfl rfl (vp_in_nI (by omega) (by omega)) (by rw [nI_clamp (by omega), hfx]; rfl) dJ18_next_64 ?_
  exact jr_aret hX hlk hr (Or.inl ⟨_, rfl⟩) (Or.inr ⟨_, rfl⟩) ⟨rfl, by rw [jup_jup]; rfl⟩ dJ18_next_65
