/-! PICTURES BY ROLES: a role is a triple of numbers (kind, i, j); ad says where it lies, T which role an address has.
    A shape: what lies there: a cell, or a list with its bounds on the capacity (its array has role (kind + 100, i, j)). -/
abbrev jT : Type := Nat → Nat × Nat × Nat
abbrev jN : Type := Nat → Nat → Nat → Nat
abbrev jSh : Type := jE ⊕ (List Nat × Nat × Nat)
abbrev jPic : Type := Nat → Nat → Nat → Option jSh
def jHo (D : va_G) (s0 : State) (b0 : Nat) (T : jT) (G : jG) (k i j a : Nat) (s : jSh) : Prop := match s with
  | .inl c => T a = (k, i, j) ∧ G a = some c
  | .inr (xs, lo, hi) => T a = (k, i, j) ∧ ∃ (mo : Int32) (cap ea : Nat), jLS D s0 b0 G a xs mo cap ea ∧ lo ≤ cap ∧ cap ≤ hi ∧ (cap ≠ 0 → T ea = (k + 100, i, j))
/-- the heap shows the picture; what is not of a role has no tag -/
def jRep (D : va_G) (s0 : State) (b0 : Nat) (sh : jPic) (ad : jN) (T : jT) (G : jG) : Prop :=
  (∀ k i j s, sh k i j = some s → 0 < k ∧ k < 100 ∧ jHo D s0 b0 T G k i j (ad k i j) s) ∧ (∀ b, G b = none → (T b).1 = 0) ∧ (T (jEE s0 b0)).1 = 0
section JRP
variable {D : va_G} {s0 : State} {b0 : Nat} {A : Nat → Prop} {sh sh' : jPic} {ad ad' : jN} {T T' : jT} {G G' : jG} {k i j : Nat}
theorem jRep.c (h : jRep D s0 b0 sh ad T G) {c : jE} (hs : sh k i j = some (.inl c)) : G (ad k i j) = some c := (h.1 _ _ _ _ hs).2.2.2
theorem jRep.t (h : jRep D s0 b0 sh ad T G) {s : jSh} (hs : sh k i j = some s) : T (ad k i j) = (k, i, j) := by
  have h1 := (h.1 _ _ _ _ hs).2.2
  match s, h1 with
  | .inl c, h1 => exact h1.1
  | .inr (xs, lo, hi), h1 => exact h1.1
theorem jRep.l (h : jRep D s0 b0 sh ad T G) {xs : List Nat} {lo hi : Nat} (hs : sh k i j = some (.inr (xs, lo, hi))) : ∃ (mo : Int32) (cap ea : Nat), jLS D s0 b0 G (ad k i j) xs mo cap ea ∧ lo ≤ cap ∧ cap ≤ hi ∧ (cap ≠ 0 → T ea = (k + 100, i, j)) := (h.1 _ _ _ _ hs).2.2.2
theorem jHo.ex {a : Nat} {s : jSh} (h : jHo D s0 b0 T G k i j a s) : T a = (k, i, j) ∧ G a ≠ none := by
  match s, h with
  | .inl c, h => exact ⟨h.1, by rw [h.2]; simp⟩
  | .inr (xs, lo, hi), h =>
    obtain ⟨h, mo, cap, ea, h1, h2⟩ := h
    exact ⟨h, by rw [h1.1]; simp⟩
/-- what holds of a role rides along where its cells do -/
theorem jHo.mv {a : Nat} {s : jSh} (h : jHo D s0 b0 T G k i j a s) (hk : 0 < k) (hf : ∀ b, (T b = (k, i, j) ∨ T b = (k + 100, i, j)) → T' b = T b ∧ G' b = G b) : jHo D s0 b0 T' G' k i j a s := by
  match s, h with
  | .inl c, h =>
    have h1 := hf a (Or.inl h.1)
    exact ⟨h1.1.trans h.1, h1.2.trans h.2⟩
  | .inr (xs, lo, hi), h =>
    obtain ⟨h, mo, cap, ea, ⟨h1, h2, h3, h4⟩, h5, h6, h7⟩ := h
    have g1 := hf a (Or.inl h)
    refine ⟨g1.1.trans h, mo, cap, ea, ⟨g1.2.trans h1, h2, h3, ?_⟩, h5, h6, fun q => ((hf ea (Or.inr (h7 q))).1).trans (h7 q)⟩
    rcases h4 with h4 | ⟨h4, f, h8, h9⟩
    · exact Or.inl h4
    · exact Or.inr ⟨h4, f, ((hf ea (Or.inr (h7 (by omega)))).2).trans h8, h9⟩
/-- the general step -/
theorem jRep.mv (h : jRep D s0 b0 sh ad T G) (hall : ∀ k i j s, sh' k i j = some s → (sh k i j = some s ∧ ad' k i j = ad k i j ∧ ∀ b, (T b = (k, i, j) ∨ T b = (k + 100, i, j)) → T' b = T b ∧ G' b = G b) ∨ (0 < k ∧ k < 100 ∧ jHo D s0 b0 T' G' k i j (ad' k i j) s)) (hn : ∀ b, G' b = none → (T' b).1 = 0) (he : (T' (jEE s0 b0)).1 = 0) : jRep D s0 b0 sh' ad' T' G' := by
  refine ⟨fun k i j s hs => ?_, hn, he⟩
  rcases hall k i j s hs with ⟨h1, h2, h3⟩ | h1
  · obtain ⟨g1, g2, g3⟩ := h.1 _ _ _ _ h1
    exact ⟨g1, g2, by rw [h2]; exact g3.mv g1 h3⟩
  · exact h1
theorem jRep.tag (h : jRep D s0 b0 sh ad T G) {b : Nat} (hb : (T b).1 ≠ 0) : G b ≠ none := fun q => hb (h.2.1 b q)
theorem jRep.un (h : jRep D s0 b0 sh ad T G) {n : Nat} (hn : G n = none) : (T n).1 = 0 := h.2.1 n hn
/-- a fresh cell, or a write to one without a role -/
theorem jRep.lo (h : jRep D s0 b0 sh ad T G) {n : Nat} (hn : (T n).1 = 0) (c : jE) : jRep D s0 b0 sh ad T (jup G n c) := by
  refine h.mv (fun k i j s hs => Or.inl ⟨hs, rfl, fun b hb => ⟨rfl, jup_n fun q => ?_⟩⟩) (fun b hb => ?_) h.2.2
  · have h0 := (h.1 _ _ _ _ hs).1
    subst q
    rcases hb with hb | hb <;> rw [hb] at hn <;> simp at hn <;> omega
  · by_cases e : b = n
    · subst e; rw [jup_s] at hb; cases hb
    · rw [jup_n e] at hb; exact h.2.1 b hb
theorem jRep.fr (h : jRep D s0 b0 sh ad T G) {n : Nat} (hn : G n = none) (c : jE) : jRep D s0 b0 sh ad T (jup G n c) := h.lo (h.un hn) c
/-- a heap that differs at cells without a role alone -/
theorem jRep.los (h : jRep D s0 b0 sh ad T G) (hg : ∀ b, (T b).1 ≠ 0 → G' b = G b) (hn : ∀ b, G' b = none → G b = none) : jRep D s0 b0 sh ad T G' := by
  refine h.mv (fun k i j s hs => Or.inl ⟨hs, rfl, fun b hb => ⟨rfl, hg b ?_⟩⟩) (fun b hb => h.2.1 b (hn b hb)) h.2.2
  have h0 := (h.1 _ _ _ _ hs).1
  rcases hb with hb | hb <;> rw [hb] <;> simp <;> omega
/-- a cell without a role gets one -/
def jTs (T : jT) (a k i j : Nat) : jT := fun b => if b = a then (k, i, j) else T b
def jas (ad : jN) (k i j a : Nat) : jN := fun k' i' j' => if k' = k ∧ i' = i ∧ j' = j then a else ad k' i' j'
theorem jas_s {a : Nat} : jas ad k i j a k i j = a := by simp [jas]
theorem jas_n {a k' i' j' : Nat} (h : ¬ (k' = k ∧ i' = i ∧ j' = j)) : jas ad k i j a k' i' j' = ad k' i' j' := by simp [jas, h]
theorem jTs_s {a : Nat} : jTs T a k i j a = (k, i, j) := by simp [jTs]
theorem jTs_n {a b : Nat} (h : b ≠ a) : jTs T a k i j b = T b := by simp [jTs, h]
/-- the picture with one role taken out of it -/
def jou (sh : jPic) (k i j : Nat) : jPic := fun k' i' j' => if k' = k ∧ i' = i ∧ j' = j then none else sh k' i' j'
theorem jRep.ado (h : jRep D s0 b0 sh ad T G) {a : Nat} (ht : (T a).1 = 0) (ha : G a ≠ none) (he : a ≠ jEE s0 b0) (k i j : Nat) : jRep D s0 b0 (jou sh k i j) (jas ad k i j a) (jTs T a k i j) G := by
  refine h.mv (fun k' i' j' s hs => ?_) (fun b hb => ?_) ?_
  · by_cases q : k' = k ∧ i' = i ∧ j' = j
    · simp [jou, q] at hs
    · simp only [jou, q, if_false] at hs
      refine Or.inl ⟨hs, jas_n q, fun b hb => ⟨jTs_n fun q2 => ?_, rfl⟩⟩
      have h0 := (h.1 _ _ _ _ hs).1
      subst q2
      rcases hb with hb | hb <;> rw [hb] at ht <;> simp at ht <;> omega
  · rw [jTs_n (fun q => by subst q; exact ha hb)]; exact h.2.1 b hb
  · rw [jTs_n (Ne.symm he)]; exact h.2.2
/-- a write to the cell of a role -/
theorem jRep.put (h : jRep D s0 b0 sh ad T G) {k i j : Nat} {s0' : jSh} {c : jE} (hs : sh k i j = some s0') (hs' : ∀ s, sh' k i j = some s → s = .inl c) (ho : ∀ k' i' j' s, ¬ (k' = k ∧ i' = i ∧ j' = j) → sh' k' i' j' = some s → sh k' i' j' = some s ∨ (0 < k' ∧ k' < 100 ∧ jHo D s0 b0 T G k' i' j' (ad k' i' j') s)) : jRep D s0 b0 sh' ad T (jup G (ad k i j) c) := by
  have ht := h.t hs
  have hk := (h.1 _ _ _ _ hs).1
  have hk2 := (h.1 _ _ _ _ hs).2.1
  refine h.mv (fun k' i' j' s q => ?_) (fun b hb => ?_) h.2.2
  · by_cases e : k' = k ∧ i' = i ∧ j' = j
    · obtain ⟨rfl, rfl, rfl⟩ := e
      have := hs' s q
      subst this
      exact Or.inr ⟨hk, hk2, ht, jup_s⟩
    · have hf : ∀ k0 : Nat, k0 < 100 → 0 < k0 → ¬ (k0 = k ∧ i' = i ∧ j' = j) → ∀ b, (T b = (k0, i', j') ∨ T b = (k0 + 100, i', j')) → T b = T b ∧ jup G (ad k i j) c b = G b := by
        intro k0 hk0 hk1 e b hb
        refine ⟨rfl, jup_n fun z => ?_⟩
        subst z
        rw [ht] at hb
        rcases hb with hb | hb <;> simp only [Prod.mk.injEq] at hb
        · exact e ⟨hb.1.symm, hb.2.1.symm, hb.2.2.symm⟩
        · omega
      rcases ho k' i' j' s e q with z | ⟨z1, z2, z3⟩
      · exact Or.inl ⟨z, rfl, hf k' (h.1 _ _ _ _ z).2.1 (h.1 _ _ _ _ z).1 e⟩
      · exact Or.inr ⟨z1, z2, z3.mv z1 (hf k' z2 z1 e)⟩
  · by_cases e : b = ad k i j
    · subst e; rw [jup_s] at hb; cases hb
    · rw [jup_n e] at hb; exact h.2.1 b hb
/-- a list is written -/
theorem jRep.lst (h : jRep D s0 b0 sh ad T G) (hE : G' (jEE s0 b0) = none) {k i j cap1 ea cap : Nat} {mo mo1 : Int32} {xs xs1 : List Nat} {sl : jSh} (hs : sh k i j = some sl) (hL : jLS D s0 b0 G (ad k i j) xs mo cap ea) (hea : cap ≠ 0 → T ea = (k + 100, i, j)) (hU : jLU D s0 b0 A G G' (ad k i j) ea xs1 mo1 cap1)
    (hs' : ∀ s, sh' k i j = some s → ∃ lo1 hi1, s = .inr (xs1, lo1, hi1) ∧ lo1 ≤ cap1 ∧ cap1 ≤ hi1) (ho : ∀ k' i' j' s, ¬ (k' = k ∧ i' = i ∧ j' = j) → sh' k' i' j' = some s → sh k' i' j' = some s ∨ (0 < k' ∧ k' < 100 ∧ jHo D s0 b0 T G k' i' j' (ad k' i' j') s)) :
    ∃ T1 : jT, jRep D s0 b0 sh' ad T1 G' ∧ ∀ b, G b ≠ none → T b ≠ (k, i, j) → T b ≠ (k + 100, i, j) → b ≠ jEE s0 b0 → T1 b = T b ∧ G' b = G b := by
  have ht := h.t hs
  have hk := (h.1 _ _ _ _ hs).1
  have hk2 := (h.1 _ _ _ _ hs).2.1
  obtain ⟨ea1, hL1, hfr, hn⟩ := hU
  have htea : ∀ b, b = ea → ((T b).1 = 0 ∧ b = jEE s0 b0) ∨ T b = (k + 100, i, j) := by
    intro b hb
    subst hb
    by_cases c0 : cap = 0
    · rcases hL.2.2.2 with ⟨-, e⟩ | ⟨e, -⟩
      · exact Or.inl ⟨by rw [e]; exact h.2.2, e⟩
      · omega
    · exact Or.inr (hea c0)
  have h1c : cap1 ≠ 0 → ∃ f, G' ea1 = some (jq D 101 cap1 f) := fun c => by
    rcases hL1.2.2.2 with ⟨z, -⟩ | ⟨-, f, z, -⟩
    · exact absurd z c
    · exact ⟨f, z⟩
  have h10 : cap1 = 0 → ea1 = jEE s0 b0 := fun c => by
    rcases hL1.2.2.2 with ⟨-, z⟩ | ⟨z, -⟩
    · exact z
    · omega
  have hT1 : ∀ b, b ≠ ea1 → b ≠ ea → (fun b => if b = ea1 ∧ cap1 ≠ 0 then (k + 100, i, j) else if b = ea then (0, 0, 0) else T b) b = T b := fun b q1 q2 => by simp [q1, q2]
  have hb1 : ∀ b, G b ≠ none → b ≠ ea → b ≠ ea1 := fun b q1 q2 q3 => by
    rcases hn with hn | ⟨hn, -⟩
    · exact q2 (q3.trans hn)
    · exact q1 (by rw [q3]; exact hn)
  have hgood : ∀ k0 i0 j0, 0 < k0 → k0 < 100 → ¬ (k0 = k ∧ i0 = i ∧ j0 = j) → ∀ b, (T b = (k0, i0, j0) ∨ T b = (k0 + 100, i0, j0)) → (fun b => if b = ea1 ∧ cap1 ≠ 0 then (k + 100, i, j) else if b = ea then (0, 0, 0) else T b) b = T b ∧ G' b = G b := by
    intro k0 i0 j0 hk0 hk1 e b hb
    have hb0 : (T b).1 ≠ 0 := by rcases hb with hb | hb <;> rw [hb] <;> simp <;> omega
    have q2 : b ≠ ea := by
      intro q
      rcases htea b q with ⟨z, -⟩ | z
      · exact hb0 z
      · rw [z] at hb
        rcases hb with hb | hb <;> simp only [Prod.mk.injEq] at hb
        · omega
        · exact e ⟨by omega, hb.2.1.symm, hb.2.2.symm⟩
    have q1 := hb1 b (h.tag hb0) q2
    refine ⟨hT1 b q1 q2, hfr b (fun q => ?_) q2 q1⟩
    subst q
    rw [ht] at hb
    rcases hb with hb | hb <;> simp only [Prod.mk.injEq] at hb
    · exact e ⟨hb.1.symm, hb.2.1.symm, hb.2.2.symm⟩
    · omega
  refine ⟨fun b => if b = ea1 ∧ cap1 ≠ 0 then (k + 100, i, j) else if b = ea then (0, 0, 0) else T b, h.mv (fun k' i' j' s q => ?_) (fun b hb => ?_) ?_, fun b hb z1 z2 z3 => ?_⟩
  · by_cases e : k' = k ∧ i' = i ∧ j' = j
    · obtain ⟨rfl, rfl, rfl⟩ := e
      obtain ⟨lo1, hi1, rfl, g1, g2⟩ := hs' s q
      refine Or.inr ⟨hk, hk2, ?_, mo1, cap1, ea1, hL1, g1, g2, fun c => by simp [c]⟩
      have q2 : ad k' i' j' ≠ ea := by
        intro q
        rcases htea _ q with ⟨z, -⟩ | z <;> rw [ht] at z <;> simp at z
        omega
      rw [hT1 _ (hb1 _ (by rw [hL.1]; simp) q2) q2]
      exact ht
    · rcases ho k' i' j' s e q with z | ⟨z1, z2, z3⟩
      · exact Or.inl ⟨z, rfl, hgood _ _ _ (h.1 _ _ _ _ z).1 (h.1 _ _ _ _ z).2.1 e⟩
      · exact Or.inr ⟨z1, z2, z3.mv z1 (hgood _ _ _ z1 z2 e)⟩
  · by_cases e1 : b = ea1 ∧ cap1 ≠ 0
    · obtain ⟨e1, e2⟩ := e1
      subst e1
      obtain ⟨f, z⟩ := h1c e2
      rw [z] at hb; cases hb
    · by_cases e2 : b = ea
      · subst e2; simp [e1]
      · by_cases e3 : b = ea1
        · have c0 : cap1 = 0 := Decidable.byContradiction fun c => e1 ⟨e3, c⟩
          have := h10 c0
          simp only [e1, e2, if_false]
          rw [e3, this]; exact h.2.2
        · simp only [e1, e2, if_false]
          have e4 : b ≠ ad k i j := fun q => by subst q; rw [hL1.1] at hb; cases hb
          rw [hfr b e4 e2 e3] at hb
          exact h.2.1 b hb
  · by_cases e1 : jEE s0 b0 = ea1 ∧ cap1 ≠ 0
    · obtain ⟨f, z⟩ := h1c e1.2
      rw [← e1.1, hE] at z; cases z
    · by_cases e2 : jEE s0 b0 = ea
      · simp only [e1, if_false]
        rw [if_pos e2]
      · simp only [e1, e2, if_false]; exact h.2.2
  · have q2 : b ≠ ea := fun q => by
      rcases htea b q with ⟨-, z⟩ | z
      · exact z3 z
      · exact z2 z
    have q1 := hb1 b hb q2
    exact ⟨hT1 b q1 q2, hfr b (fun q => by subst q; exact z1 ht) q2 q1⟩
/-- outside the roles lo ≤ kind < hi (and their arrays') nothing moved -/
def jFm (lo hi : Nat) (T : jT) (G : jG) (T1 : jT) (G1 : jG) : Prop := ∀ b, G b ≠ none → ¬ (lo ≤ (T b).1 % 100 ∧ (T b).1 % 100 < hi) → T1 b = T b ∧ G1 b = G b
theorem jFm.refl {lo hi : Nat} : jFm lo hi T G T G := fun _ _ _ => ⟨rfl, rfl⟩
theorem jFm.trans {lo hi : Nat} {T1 T2 : jT} {G1 G2 : jG} (h1 : jFm lo hi T G T1 G1) (h2 : jFm lo hi T1 G1 T2 G2) : jFm lo hi T G T2 G2 := fun b hb hk => by
  obtain ⟨q1, q2⟩ := h1 b hb hk
  obtain ⟨q3, q4⟩ := h2 b (by rw [q2]; exact hb) (by rw [q1]; exact hk)
  exact ⟨q3.trans q1, q4.trans q2⟩
theorem jFm.new {lo hi : Nat} {n : Nat} {c : jE} (hn : G n = none) : jFm lo hi T G T (jup G n c) := fun b hb _ => ⟨rfl, jup_n fun q => hb (by rw [q]; exact hn)⟩
theorem jFm.put {lo hi : Nat} {n : Nat} {c : jE} (hn : lo ≤ (T n).1 % 100 ∧ (T n).1 % 100 < hi) : jFm lo hi T G T (jup G n c) := fun b _ hk => ⟨rfl, jup_n fun q => hk (by rw [q]; exact hn)⟩
/-- another picture of the same heap is not hurt -/
theorem jRep.by {lo hi : Nat} {T1 : jT} {G1 : jG} (h : jRep D s0 b0 sh ad T G) (hf : jFm lo hi T G T1 G1) (hsh : ∀ k i j s, sh k i j = some s → ¬ (lo ≤ k ∧ k < hi)) (h1 : jRep D s0 b0 sh' ad' T1 G1) : jRep D s0 b0 sh ad T1 G1 := by
  refine h.mv (fun k i j s hs => Or.inl ⟨hs, rfl, fun b hb => ?_⟩) h1.2.1 h1.2.2
  have h0 := h.1 _ _ _ _ hs
  have h2 := hsh _ _ _ _ hs
  refine hf b (h.tag ?_) ?_ 
  · rcases hb with hb | hb <;> rw [hb] <;> simp <;> omega
  · rcases hb with hb | hb <;> rw [hb] <;> simp only <;> omega
end JRP
