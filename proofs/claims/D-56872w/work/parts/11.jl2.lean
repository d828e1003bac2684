/-! Jg: heap rows, ends, contracts, calls -/
theorem jat.kept {D : va_G} {cl : List vw_C} {a : Nat} {x : jE} {H H1 : Heap} (h : jat D cl a x H) (hq : H1[a]? = H[a]?) : jat D cl a x H1 := by
  cases x with
  | inl y => exact va_at.kept h hq
  | inr y => exact hq.trans h
theorem jat.lt {D : va_G} {cl : List vw_C} {a : Nat} {x : jE} {H : Heap} (h : jat D cl a x H) : a < H.size := by
  cases x with
  | inl y => exact va_at.lt h
  | inr y => exact (Array.getElem?_eq_some_iff.mp h).1
theorem jH.lt {D : va_G} {cl : List vw_C} {A : Nat → Prop} {G : jG} {H : Heap} (h : jH D cl A G H) {a : Nat} {x : jE} (ha : G a = some x) : a < H.size := (h a x ha).1.lt
theorem jH.fresh {D : va_G} {cl : List vw_C} {A : Nat → Prop} {G : jG} {H : Heap} (h : jH D cl A G H) : G H.size = none := by
  cases hg : G H.size with
  | none => rfl
  | some x => exact absurd (h.lt hg) (Nat.lt_irrefl _)
theorem jH.set {D : va_G} {cl : List vw_C} {A : Nat → Prop} {G : jG} {H H1 : Heap} {a : Nat} {x : jE} (h : jH D cl A G H) (ha : A a) (he : jat D cl a x H1) (oq : ∀ q : Nat, q ≠ a → H1[q]? = H[q]?) : jH D cl A (jup G a x) H1 := by
  intro b y hy
  by_cases hb : b = a
  · subst hb
    rw [jup_s] at hy
    cases hy
    exact ⟨he, ha⟩
  · rw [jup_n hb] at hy
    exact ⟨(h b y hy).1.kept (oq b hb), (h b y hy).2⟩
theorem jH.push {D : va_G} {cl : List vw_C} {A : Nat → Prop} {G : jG} {H H1 : Heap} {x : jE} (h : jH D cl A G H) (ha : A H.size) (he : jat D cl H.size x H1) (oq : ∀ q : Nat, q < H.size → H1[q]? = H[q]?) : jH D cl A (jup G H.size x) H1 := by
  intro b y hy
  by_cases hb : b = H.size
  · subst hb
    rw [jup_s] at hy
    cases hy
    exact ⟨he, ha⟩
  · rw [jup_n hb] at hy
    exact ⟨(h b y hy).1.kept (oq b (h.lt hy)), (h b y hy).2⟩
theorem jS_push {A : Nat → Prop} {H0 H H1 : Heap} {locs : List Loc} (hS : va_S A H0 H locs) (z : H.size ≤ H1.size) (oq : ∀ q : Nat, q < H.size → H1[q]? = H[q]?) : va_S A H0 H1 locs :=
  ⟨Nat.le_trans hS.1 z, fun q h1 h2 => (oq q (Nat.lt_of_lt_of_le h1 hS.1)).trans (hS.2.1 q h1 h2), hS.2.2⟩
theorem jtys_at {D : va_G} {U : State} (h : va_K D jcl (jtys D) U) (k : Nat) {q : ClassId × FieldType} (hk : (jtys D)[k]? = some q) : ArrOfT U q.1 q.2 ∧ va_RA U q.1 q.2 := h.2 k q hk
section JL2
variable {p : Program} {l : Launch} {e : Env} {R : Room} {s : State} {m : MethodId} {args : Array Value} {below : List Frame} {meth : Method} {c : Code} {Q : State → Prop} {D : va_G} {s0 : State} {b0 : Nat} {A : Nat → Prop} {cc : ByteArray} {nL : Nat} {own : String} {G : jG} {bc bs pc : Nat} {lv : List (Nat × Value)} {st : List Value}
theorem jr_getS (hX : jX D s0 b0 A p s m args c cc nL own) {C ref : String} {T : u_T} {N ci index k a : Nat} {fs : List Value} (hG : G a = some (jo ci fs)) (hc : jcl[ci]? = some (C, T, N)) (hin : ∀ w ∈ u_ws C T N, w ∈ lw_all) (hk : k < N) (hq : Cond.fieldLink own index ref (T k).2.1 (T k).2.2.1 ∈ lw_all) (hsame : ∀ x, s.fieldFound? (T k).1 (T k).2.1 (T k).2.2.1 = some x → s.fieldFound? ref (T k).2.1 (T k).2.2.1 = some x) {v : Value} (hv : fs[k]? = some v) (d : decode cc pc = .ok (.getfield index, 3)) (kk : Jg p l e R s m args below meth c Q D A nL G bc bs (pc + 3) lv (v :: st)) : Jg p l e R s m args below meth c Q D A nL G bc bs pc lv (.ref a :: st) := by
  intro H locs ls cells slots hG0 hS hl hc0 hs
  obtain ⟨r, h1, cell, q1, q2, q3, q4⟩ := (hG0 _ _ hG).1
  have hr : r = (C, T, N) := Option.some.inj (h1.symm.trans hc)
  subst hr
  obtain ⟨hS1, hfc, kC, hkC, hkind⟩ := hX.K.1 ci _ hc
  obtain ⟨cf, kf, fi, f, hi, hsl⟩ := hS1 k hk
  refine W.getf hX.1 hX.2.1 hX.2.2.2.1 (hX.ts _ hq) (hsame _ hi) (u_facts hfc hkC (u_lays hX.ts hin hk) hi).1 q1 (by rw [q3]; exact fun h => by cases h) (v := v) ?_ rfl rfl d (kk H locs ls cells slots hG0 hS hl hc0 hs)
  rw [hsl, q4 k hk]
  simp [vp_V, hv]
theorem jr_get (hX : jX D s0 b0 A p s m args c cc nL own) {C : String} {T : u_T} {N ci index k a : Nat} {fs : List Value} (hG : G a = some (jo ci fs)) (hc : jcl[ci]? = some (C, T, N)) (hin : ∀ w ∈ u_ws C T N, w ∈ lw_all) (hk : k < N) (hq : Cond.fieldLink own index (T k).1 (T k).2.1 (T k).2.2.1 ∈ lw_all) {v : Value} (hv : fs[k]? = some v) (d : decode cc pc = .ok (.getfield index, 3)) (kk : Jg p l e R s m args below meth c Q D A nL G bc bs (pc + 3) lv (v :: st)) : Jg p l e R s m args below meth c Q D A nL G bc bs pc lv (.ref a :: st) := jr_getS hX hG hc hin hk hq (fun _ h => h) hv d kk
theorem jr_getNS (hX : jX D s0 b0 A p s m args c cc nL own) {C ref : String} {T : u_T} {N ci index k a : Nat} {fs : List Value} (hG : G a = some (jo ci fs)) (hc : jcl[ci]? = some (C, T, N)) (hin : ∀ w ∈ u_ws C T N, w ∈ lw_all) (hk : k < N) {host : String} (hq : Cond.fieldLinkNest own index ref (T k).2.1 (T k).2.2.1 host ∈ lw_tbl) (hsame : ∀ x, s.fieldFound? (T k).1 (T k).2.1 (T k).2.2.1 = some x → s.fieldFound? ref (T k).2.1 (T k).2.2.1 = some x) {v : Value} (hv : fs[k]? = some v) (d : decode cc pc = .ok (.getfield index, 3)) (kk : Jg p l e R s m args below meth c Q D A nL G bc bs (pc + 3) lv (v :: st)) : Jg p l e R s m args below meth c Q D A nL G bc bs pc lv (.ref a :: st) := by
  intro H locs ls cells slots hG0 hS hl hc0 hs
  obtain ⟨r, h1, cell, q1, q2, q3, q4⟩ := (hG0 _ _ hG).1
  have hr : r = (C, T, N) := Option.some.inj (h1.symm.trans hc)
  subst hr
  obtain ⟨hS1, hfc, kC, hkC, hkind⟩ := hX.K.1 ci _ hc
  obtain ⟨cf, kf, fi, f, hi, hsl⟩ := hS1 k hk
  refine va_Wgetf hX.1 hX.2.1 hX.2.2.2.1 (hX.S.fn hq) (hsame _ hi) (u_facts hfc hkC (u_lays hX.ts hin hk) hi).1 q1 (by rw [q3]; exact fun h => by cases h) (v := v) ?_ rfl rfl d (kk H locs ls cells slots hG0 hS hl hc0 hs)
  rw [hsl, q4 k hk]
  simp [vp_V, hv]
theorem jr_getN (hX : jX D s0 b0 A p s m args c cc nL own) {C : String} {T : u_T} {N ci index k a : Nat} {fs : List Value} (hG : G a = some (jo ci fs)) (hc : jcl[ci]? = some (C, T, N)) (hin : ∀ w ∈ u_ws C T N, w ∈ lw_all) (hk : k < N) {host : String} (hq : Cond.fieldLinkNest own index (T k).1 (T k).2.1 (T k).2.2.1 host ∈ lw_tbl) {v : Value} (hv : fs[k]? = some v) (d : decode cc pc = .ok (.getfield index, 3)) (kk : Jg p l e R s m args below meth c Q D A nL G bc bs (pc + 3) lv (v :: st)) : Jg p l e R s m args below meth c Q D A nL G bc bs pc lv (.ref a :: st) := jr_getNS hX hG hc hin hk hq (fun _ h => h) hv d kk
theorem jr_putS (hX : jX D s0 b0 A p s m args c cc nL own) {C ref : String} {T : u_T} {N ci index k a : Nat} {fs : List Value} (hG : G a = some (jo ci fs)) (hc : jcl[ci]? = some (C, T, N)) (hin : ∀ w ∈ u_ws C T N, w ∈ lw_all) (hk : k < N) (ty0 : Nat → FieldType) (hty : ∀ k, k < N → parseFieldDescriptor (T k).2.2.1 = some (ty0 k)) (hnm : ∀ a, a < N → ∀ b, b < N → a ≠ b → (T a).2.1 ≠ (T b).2.1) (hq : Cond.fieldLink own index ref (T k).2.1 (T k).2.2.1 ∈ lw_all) (hsame : ∀ x, s.fieldFound? (T k).1 (T k).2.1 (T k).2.2.1 = some x → s.fieldFound? ref (T k).2.1 (T k).2.2.1 = some x) (hfin : (T k).2.2.2 = false) {v : Value} (hn : narrow (ty0 k) v = v) (hfit : fits (ty0 k) v = true) (hlen : k < fs.length) (d : decode cc pc = .ok (.putfield index, 3)) (kk : Jg p l e R s m args below meth c Q D A nL (jup G a (jo ci (fs.set k v))) bc bs (pc + 3) lv st) : Jg p l e R s m args below meth c Q D A nL G bc bs pc lv (v :: .ref a :: st) := by
  intro H locs ls cells slots hG0 hS hl hc0 hs
  obtain ⟨r, h1, cell, q1, q2, q3, q4⟩ := (hG0 _ _ hG).1
  have hr : r = (C, T, N) := Option.some.inj (h1.symm.trans hc)
  subst hr
  obtain ⟨hS1, hfc, kC, hkC, hkind⟩ := hX.K.1 ci _ hc
  obtain ⟨cf, kf, fi, f, hi, hsl⟩ := hS1 k hk
  have hap := va_apart (own := own) hX.ts hin ty0 hty hnm hX.K hc
  have hlay := hX.ts _ (hin _ (u_in_lay hk))
  unfold u_lay at hlay
  rw [if_neg (by rw [hfin]; decide)] at hlay
  have hst := (u_facts hfc hkC (u_lays hX.ts hin hk) hi).1
  have h6 := u_store hfc hkC hkind hlay hi (hty k hk) hn hfit
  have hA := (hG0 _ _ hG).2
  refine W.putK hX.1 hX.2.1 (f := f) ⟨hX.2.2.2.1, hX.ts _ hq, ⟨_, _, _, hsame _ hi⟩, hst⟩ (by rw [q2]; exact h6) q1 q3 (by rw [hsl]; exact k2_hasslot (q4 k hk)) rfl rfl d fun H' e1 e2 e3 => ?_
  rw [hsl] at e1 ⊢
  exact kk H' _ ls cells slots (hG0.set hA ⟨_, hc, t_OB.to (V := updV (vp_V fs) k v) ⟨_, e1, q2, q3, t_set q4 hap hk v⟩ (fun j _ => vp_updV_set hlen v j)⟩ e3) (hS.put e2 e3 hA) hl hc0 hs
theorem jr_put (hX : jX D s0 b0 A p s m args c cc nL own) {C : String} {T : u_T} {N ci index k a : Nat} {fs : List Value} (hG : G a = some (jo ci fs)) (hc : jcl[ci]? = some (C, T, N)) (hin : ∀ w ∈ u_ws C T N, w ∈ lw_all) (hk : k < N) (ty0 : Nat → FieldType) (hty : ∀ k, k < N → parseFieldDescriptor (T k).2.2.1 = some (ty0 k)) (hnm : ∀ a, a < N → ∀ b, b < N → a ≠ b → (T a).2.1 ≠ (T b).2.1) (hq : Cond.fieldLink own index (T k).1 (T k).2.1 (T k).2.2.1 ∈ lw_all) (hfin : (T k).2.2.2 = false) {v : Value} (hn : narrow (ty0 k) v = v) (hfit : fits (ty0 k) v = true) (hlen : k < fs.length) (d : decode cc pc = .ok (.putfield index, 3)) (kk : Jg p l e R s m args below meth c Q D A nL (jup G a (jo ci (fs.set k v))) bc bs (pc + 3) lv st) : Jg p l e R s m args below meth c Q D A nL G bc bs pc lv (v :: .ref a :: st) := jr_putS hX hG hc hin hk ty0 hty hnm hq (fun _ h => h) hfin hn hfit hlen d kk
theorem jr_putNS (hX : jX D s0 b0 A p s m args c cc nL own) {C ref : String} {T : u_T} {N ci index k a : Nat} {fs : List Value} (hG : G a = some (jo ci fs)) (hc : jcl[ci]? = some (C, T, N)) (hin : ∀ w ∈ u_ws C T N, w ∈ lw_all) (hk : k < N) (ty0 : Nat → FieldType) (hty : ∀ k, k < N → parseFieldDescriptor (T k).2.2.1 = some (ty0 k)) (hnm : ∀ a, a < N → ∀ b, b < N → a ≠ b → (T a).2.1 ≠ (T b).2.1) {host : String} (hq : Cond.fieldLinkNest own index ref (T k).2.1 (T k).2.2.1 host ∈ lw_tbl) (hsame : ∀ x, s.fieldFound? (T k).1 (T k).2.1 (T k).2.2.1 = some x → s.fieldFound? ref (T k).2.1 (T k).2.2.1 = some x) (hfin : (T k).2.2.2 = false) {v : Value} (hn : narrow (ty0 k) v = v) (hfit : fits (ty0 k) v = true) (hlen : k < fs.length) (d : decode cc pc = .ok (.putfield index, 3)) (kk : Jg p l e R s m args below meth c Q D A nL (jup G a (jo ci (fs.set k v))) bc bs (pc + 3) lv st) : Jg p l e R s m args below meth c Q D A nL G bc bs pc lv (v :: .ref a :: st) := by
  intro H locs ls cells slots hG0 hS hl hc0 hs
  obtain ⟨r, h1, cell, q1, q2, q3, q4⟩ := (hG0 _ _ hG).1
  have hr : r = (C, T, N) := Option.some.inj (h1.symm.trans hc)
  subst hr
  obtain ⟨hS1, hfc, kC, hkC, hkind⟩ := hX.K.1 ci _ hc
  obtain ⟨cf, kf, fi, f, hi, hsl⟩ := hS1 k hk
  have hap := va_apart (own := own) hX.ts hin ty0 hty hnm hX.K hc
  have hlay := hX.ts _ (hin _ (u_in_lay hk))
  unfold u_lay at hlay
  rw [if_neg (by rw [hfin]; decide)] at hlay
  have hst := (u_facts hfc hkC (u_lays hX.ts hin hk) hi).1
  have h6 := u_store hfc hkC hkind hlay hi (hty k hk) hn hfit
  have hA := (hG0 _ _ hG).2
  refine va_WputK hX.1 hX.2.1 (f := f) hX.2.2.2.1 (hX.S.fn hq) (hsame _ hi) hst (by rw [q2]; exact h6) q1 q3 (by rw [hsl]; exact k2_hasslot (q4 k hk)) rfl rfl d fun H' e1 e2 e3 => ?_
  rw [hsl] at e1 ⊢
  exact kk H' _ ls cells slots (hG0.set hA ⟨_, hc, t_OB.to (V := updV (vp_V fs) k v) ⟨_, e1, q2, q3, t_set q4 hap hk v⟩ (fun j _ => vp_updV_set hlen v j)⟩ e3) (hS.put e2 e3 hA) hl hc0 hs
theorem jr_putN (hX : jX D s0 b0 A p s m args c cc nL own) {C : String} {T : u_T} {N ci index k a : Nat} {fs : List Value} (hG : G a = some (jo ci fs)) (hc : jcl[ci]? = some (C, T, N)) (hin : ∀ w ∈ u_ws C T N, w ∈ lw_all) (hk : k < N) (ty0 : Nat → FieldType) (hty : ∀ k, k < N → parseFieldDescriptor (T k).2.2.1 = some (ty0 k)) (hnm : ∀ a, a < N → ∀ b, b < N → a ≠ b → (T a).2.1 ≠ (T b).2.1) {host : String} (hq : Cond.fieldLinkNest own index (T k).1 (T k).2.1 (T k).2.2.1 host ∈ lw_tbl) (hfin : (T k).2.2.2 = false) {v : Value} (hn : narrow (ty0 k) v = v) (hfit : fits (ty0 k) v = true) (hlen : k < fs.length) (d : decode cc pc = .ok (.putfield index, 3)) (kk : Jg p l e R s m args below meth c Q D A nL (jup G a (jo ci (fs.set k v))) bc bs (pc + 3) lv st) : Jg p l e R s m args below meth c Q D A nL G bc bs pc lv (v :: .ref a :: st) := jr_putNS hX hG hc hin hk ty0 hty hnm hq (fun _ h => h) hfin hn hfit hlen d kk
theorem jr_putF (hX : jX D s0 b0 A p s m args c cc nL own) {C : String} {T : u_T} {N ci index k a : Nat} {fs : List Value} (hG : G a = some (jo ci fs)) (hc : jcl[ci]? = some (C, T, N)) (hin : ∀ w ∈ u_ws C T N, w ∈ lw_all) (hk : k < N) (ty0 : Nat → FieldType) (hty : ∀ k, k < N → parseFieldDescriptor (T k).2.2.1 = some (ty0 k)) (hnm : ∀ a, a < N → ∀ b, b < N → a ≠ b → (T a).2.1 ≠ (T b).2.1) (hq : Cond.fieldLink own index (T k).1 (T k).2.1 (T k).2.2.1 ∈ lw_all) (hfin : (T k).2.2.2 = true) (hin2 : meth.name = "<init>") (hdecl : (T k).1 = own) {v : Value} (hn : narrow (ty0 k) v = v) (hfit : fits (ty0 k) v = true) (hlen : k < fs.length) (d : decode cc pc = .ok (.putfield index, 3)) (kk : Jg p l e R s m args below meth c Q D A nL (jup G a (jo ci (fs.set k v))) bc bs (pc + 3) lv st) : Jg p l e R s m args below meth c Q D A nL G bc bs pc lv (v :: .ref a :: st) := by
  intro H locs ls cells slots hG0 hS hl hc0 hs
  obtain ⟨r, h1, cell, q1, q2, q3, q4⟩ := (hG0 _ _ hG).1
  have hr : r = (C, T, N) := Option.some.inj (h1.symm.trans hc)
  subst hr
  obtain ⟨hS1, hfc, kC, hkC, hkind⟩ := hX.K.1 ci _ hc
  obtain ⟨cf, kf, fi, f, hi, hsl⟩ := hS1 k hk
  have hap := va_apart (own := own) hX.ts hin ty0 hty hnm hX.K hc
  have hlay := hX.ts _ (hin _ (u_in_lay hk))
  unfold u_lay at hlay
  rw [if_pos hfin] at hlay
  have hst := (u_facts hfc hkC (u_lays hX.ts hin hk) hi).1
  have hcf : m.cls = cf := by
    obtain ⟨_, _, c', _, _, _, -, -, hf', -, -, -, hown2, -⟩ := Cond.laysFinal_spec hlay
    have e1 : c' = cf := by have := hi.symm.trans hf'; simp at this; exact this.1.symm
    rw [hdecl] at hown2
    rw [← e1]; exact Option.some.inj (hX.2.2.2.1.symm.trans hown2)
  have h6 := u_fits hfc hkC hkind (Or.inr hlay) hi (hty k hk) hn hfit
  have hA := (hG0 _ _ hG).2
  refine W.putFinK hX.1 hX.2.1 hX.2.2.2.1 (hX.ts _ hq) hi hst hcf hin2 (by rw [q2]; exact h6) q1 q3 (by rw [hsl]; exact k2_hasslot (q4 k hk)) rfl rfl d fun H' e1 e2 e3 => ?_
  rw [hsl] at e1 ⊢
  exact kk H' _ ls cells slots (hG0.set hA ⟨_, hc, t_OB.to (V := updV (vp_V fs) k v) ⟨_, e1, q2, q3, t_set q4 hap hk v⟩ (fun j _ => vp_updV_set hlen v j)⟩ e3) (hS.put e2 e3 hA) hl hc0 hs
theorem jr_new (hX : jX D s0 b0 A p s m args c cc nL own) {C : String} {T : u_T} {N ci index : Nat} {fs : List Value} {bc1 bs1 : Nat} (hin : ∀ w ∈ u_ws C T N, w ∈ lw_all) (ty : Nat → FieldType) (hty : ∀ k, k < N → parseFieldDescriptor (T k).2.2.1 = some (ty k)) (hcl : Cond.classLink own index C ∈ lw_all) (hinst : Cond.instantiable C N ∈ lw_all) (hini : Cond.initialized C ∈ lw_all) (hc : jcl[ci]? = some (C, T, N)) (hfs : ∀ j, j < N → defaultValue (ty j) = vp_V fs j) (hbc : bc1 + 1 ≤ bc) (hbs : bs1 + N ≤ bs) (d : decode cc pc = .ok (.new index, 3)) (kk : ∀ q : Nat, G q = none → A q → Jg p l e R s m args below meth c Q D A nL (jup G q (jo ci fs)) bc1 bs1 (pc + 3) lv (.ref q :: st)) : Jg p l e R s m args below meth c Q D A nL G bc bs pc lv st := by
  intro H locs ls cells slots hG0 hS hl hc0 hs
  have hKn := hX.K.1 ci _ hc
  have hA : A H.size := hX.2.2.2.2.2.2 _ hS.1
  refine W.newcK hX.1 hX.2.1 hX.2.2.2.1 (hX.ts _ hcl) (hX.ts _ hinst) (hX.ts _ hini) rfl d (by omega) (by omega) hKn.2.1 rfl fun H1 kC hkC e1 z1 o1 => ?_
  exact kk H.size hG0.fresh hA H1 locs ls (cells + 1) (slots + N) (hG0.push hA ⟨_, hc, (u_born ty hX.ts hin hKn hkC e1 hty).to hfs⟩ o1) (jS_push hS (by omega) o1) hl (by omega) (by omega)
theorem jr_iald (hX : jX D s0 b0 A p s m args c cc nL own) {a n : Nat} {f : Nat → Int32} {i : Int32} (hG : G a = some (ji D n f)) (hi : vp_in i n) (d : decode cc pc = .ok (.iaload, 1)) (kk : Jg p l e R s m args below meth c Q D A nL G bc bs (pc + 1) lv (.int (f i.toNatClampNeg) :: st)) : Jg p l e R s m args below meth c Q D A nL G bc bs pc lv (.int i :: .ref a :: st) := by
  intro H locs ls cells slots hG0 hS hl hc0 hs
  have hlt : i.toNatClampNeg < n := Nat.not_le.mp fun q => hi (Or.inr q)
  exact W.iald (v := .int (f i.toNatClampNeg)) hX.1 hX.2.1 (hG0 _ _ hG).1 ((hX.K.2 0 _ rfl).1 n (fun j => .int (f j))) (fun q => by cases q) (by show ¬ (i < 0 ∨ (arrV _ _ _).slots.size ≤ _); rw [arrV_size]; exact hi) (by show (arrV _ _ _).slots[_]? = _; rw [arrV_read _ _ hlt]) rfl rfl d (kk H locs ls cells slots hG0 hS hl hc0 hs)
theorem jr_iast (hX : jX D s0 b0 A p s m args c cc nL own) {a n : Nat} {f : Nat → Int32} {i x : Int32} (hG : G a = some (ji D n f)) (hi : vp_in i n) (d : decode cc pc = .ok (.iastore, 1)) (kk : Jg p l e R s m args below meth c Q D A nL (jup G a (ji D n (upd f i.toNatClampNeg x))) bc bs (pc + 1) lv st) : Jg p l e R s m args below meth c Q D A nL G bc bs pc lv (.int x :: .int i :: .ref a :: st) := by
  intro H locs ls cells slots hG0 hS hl hc0 hs
  have hA := (hG0 _ _ hG).2
  refine W.iast hX.1 hX.2.1 (hG0 _ _ hG).1 ((hX.K.2 0 _ rfl).1 n (fun j => .int (f j))) (fun q => by cases q) (by show ¬ (i < 0 ∨ (arrV _ _ _).slots.size ≤ _); rw [arrV_size]; exact hi) rfl rfl d fun H1 e z oq => ?_
  refine kk H1 _ ls cells slots (hG0.set hA ?_ oq) (hS.put z oq hA) hl hc0 hs
  show H1[a]? = some (vp_cell _ _)
  rw [e]
  rw [vp_cell_i, vp_cell_i, arrV_store]
  congr 2
  funext q
  by_cases hq : q = i.toNatClampNeg
  · subst hq
    simp [updV, upd]
  · simp [updV, upd, hq]
theorem jr_last (hX : jX D s0 b0 A p s m args c cc nL own) {a n : Nat} {f : Nat → Int64} {i : Int32} {x : Int64} (hG : G a = some (jlg D n f)) (hi : vp_in i n) (d : decode cc pc = .ok (.lastore, 1)) (kk : Jg p l e R s m args below meth c Q D A nL (jup G a (jlg D n (vp_updL f i.toNatClampNeg x))) bc bs (pc + 1) lv st) : Jg p l e R s m args below meth c Q D A nL G bc bs pc lv (.long x :: .int i :: .ref a :: st) := by
  intro H locs ls cells slots hG0 hS hl hc0 hs
  have hA := (hG0 _ _ hG).2
  refine W.last hX.1 hX.2.1 (hG0 _ _ hG).1 ((hX.K.2 5 _ rfl).1 n (fun j => .long (f j))) (fun q => by cases q) (by show ¬ (i < 0 ∨ (arrV _ _ _).slots.size ≤ _); rw [arrV_size]; exact hi) rfl rfl d fun H1 e z oq => ?_
  refine kk H1 _ ls cells slots (hG0.set hA ?_ oq) (hS.put z oq hA) hl hc0 hs
  show H1[a]? = some (vp_cell _ _)
  rw [e]
  rw [vp_cell_l, vp_cell_l, arrV_store]
  congr 2
  funext q
  by_cases hq : q = i.toNatClampNeg
  · subst hq
    simp [updV, vp_updL]
  · simp [updV, vp_updL, hq]
theorem jr_dast (hX : jX D s0 b0 A p s m args c cc nL own) {a n : Nat} {f : Nat → UInt64} {i : Int32} {x : UInt64} (hG : G a = some (jdb D n f)) (hi : vp_in i n) (d : decode cc pc = .ok (.dastore, 1)) (kk : Jg p l e R s m args below meth c Q D A nL (jup G a (jdb D n (vf_upd f i.toNatClampNeg x))) bc bs (pc + 1) lv st) : Jg p l e R s m args below meth c Q D A nL G bc bs pc lv (.double x :: .int i :: .ref a :: st) := by
  intro H locs ls cells slots hG0 hS hl hc0 hs
  have hA := (hG0 _ _ hG).2
  refine W.dast hX.1 hX.2.1 (hG0 _ _ hG).1 ((hX.K.2 6 _ rfl).1 n (fun j => .double (f j))) (fun q => by cases q) (by show ¬ (i < 0 ∨ (arrV _ _ _).slots.size ≤ _); rw [arrV_size]; exact hi) rfl rfl d fun H1 e z oq => ?_
  refine kk H1 _ ls cells slots (hG0.set hA ?_ oq) (hS.put z oq hA) hl hc0 hs
  show H1[a]? = some (vp_cell _ _)
  rw [e]
  rw [vp_cell_d, vp_cell_d, arrV_store]
  congr 2
  funext q
  by_cases hq : q = i.toNatClampNeg
  · subst hq
    simp [updV, vf_upd]
  · simp [updV, vf_upd, hq]
theorem jr_lald (hX : jX D s0 b0 A p s m args c cc nL own) {a n : Nat} {f : Nat → Int64} {i : Int32} (hG : G a = some (jlg D n f)) (hi : vp_in i n) (d : decode cc pc = .ok (.laload, 1)) (kk : Jg p l e R s m args below meth c Q D A nL G bc bs (pc + 1) lv (.long (f i.toNatClampNeg) :: st)) : Jg p l e R s m args below meth c Q D A nL G bc bs pc lv (.int i :: .ref a :: st) := by
  intro H locs ls cells slots hG0 hS hl hc0 hs
  have hlt : i.toNatClampNeg < n := Nat.not_le.mp fun q => hi (Or.inr q)
  exact W.lald (v := .long (f i.toNatClampNeg)) hX.1 hX.2.1 (hG0 _ _ hG).1 ((hX.K.2 5 _ rfl).1 n (fun j => .long (f j))) (fun q => by cases q) (by show ¬ (i < 0 ∨ (arrV _ _ _).slots.size ≤ _); rw [arrV_size]; exact hi) (by show (arrV _ _ _).slots[_]? = _; rw [arrV_read _ _ hlt]) rfl rfl d (kk H locs ls cells slots hG0 hS hl hc0 hs)
theorem jr_dald (hX : jX D s0 b0 A p s m args c cc nL own) {a n : Nat} {f : Nat → UInt64} {i : Int32} (hG : G a = some (jdb D n f)) (hi : vp_in i n) (d : decode cc pc = .ok (.daload, 1)) (kk : Jg p l e R s m args below meth c Q D A nL G bc bs (pc + 1) lv (.double (f i.toNatClampNeg) :: st)) : Jg p l e R s m args below meth c Q D A nL G bc bs pc lv (.int i :: .ref a :: st) := by
  intro H locs ls cells slots hG0 hS hl hc0 hs
  have hlt : i.toNatClampNeg < n := Nat.not_le.mp fun q => hi (Or.inr q)
  exact W.dald (v := .double (f i.toNatClampNeg)) hX.1 hX.2.1 (hG0 _ _ hG).1 ((hX.K.2 6 _ rfl).1 n (fun j => .double (f j))) (fun q => by cases q) (by show ¬ (i < 0 ∨ (arrV _ _ _).slots.size ≤ _); rw [arrV_size]; exact hi) (by show (arrV _ _ _).slots[_]? = _; rw [arrV_read _ _ hlt]) rfl rfl d (kk H locs ls cells slots hG0 hS hl hc0 hs)
theorem jref {k t : Nat} {ty : FieldType} (ht : (jtys D)[t]? = some (D.1 k, ty)) (h : (∃ C, ty = .object C) ∨ ∃ q, ty = .array q) : ty.isReference = true := by
  rcases h with ⟨C, rfl⟩ | ⟨q, rfl⟩ <;> rfl
theorem jr_aald (hX : jX D s0 b0 A p s m args c cc nL own) {a n k t : Nat} {ty : FieldType} {f : Nat → Option Nat} {i : Int32} (hG : G a = some (jq D k n f)) (ht : (jtys D)[t]? = some (D.1 k, ty)) (hr : ty.isReference = true) (hi : vp_in i n) {v : Value} (hv : va_rf (f i.toNatClampNeg) = v) (d : decode cc pc = .ok (.aaload, 1)) (kk : Jg p l e R s m args below meth c Q D A nL G bc bs (pc + 1) lv (v :: st)) : Jg p l e R s m args below meth c Q D A nL G bc bs pc lv (.int i :: .ref a :: st) := by
  intro H locs ls cells slots hG0 hS hl hc0 hs
  subst hv
  have hlt : i.toNatClampNeg < n := Nat.not_le.mp fun q => hi (Or.inr q)
  exact W.aald (v := va_rf (f i.toNatClampNeg)) (ty := ty) hX.1 hX.2.1 (hG0 _ _ hG).1 ((hX.K.2 t _ ht).1 n (fun j => va_rf (f j))) hr (fun q => by cases q) (by show ¬ (i < 0 ∨ (arrV _ _ _).slots.size ≤ _); rw [arrV_size]; exact hi) (by show (arrV _ _ _).slots[_]? = _; rw [arrV_read _ _ hlt]) rfl rfl d (kk H locs ls cells slots hG0 hS hl hc0 hs)
theorem jr_aast (hX : jX D s0 b0 A p s m args c cc nL own) {a n k t ci v : Nat} {C E : String} {T : u_T} {N : Nat} {vs : List Value} {f : Nat → Option Nat} {i : Int32} (hG : G a = some (jq D k n f)) (ht : (jtys D)[t]? = some (D.1 k, .object E)) (hv : G v = some (jo ci vs)) (hc : jcl[ci]? = some (C, T, N)) (hcast : C = E ∨ Cond.castable C E ∈ lw_tbl) (hi : vp_in i n) (d : decode cc pc = .ok (.aastore, 1)) (kk : Jg p l e R s m args below meth c Q D A nL (jup G a (jq D k n (va_up f i.toNatClampNeg (some v)))) bc bs (pc + 1) lv st) : Jg p l e R s m args below meth c Q D A nL G bc bs pc lv (.ref v :: .int i :: .ref a :: st) := by
  intro H locs ls cells slots hG0 hS hl hc0 hs
  have hA := (hG0 _ _ hG).2
  have hlt : i.toNatClampNeg < n := Nat.not_le.mp fun q => hi (Or.inr q)
  have h0 : ¬ i < 0 := fun q => hi (Or.inl q)
  obtain ⟨r', hr', cellV, g1, g2, g3, -⟩ := (hG0 _ _ hv).1
  have hcls := (hX.K.1 ci _ hc).2
  obtain ⟨kA, comp, k1, k2, k3, -⟩ := (hX.K.2 t _ ht).2
  obtain ⟨kC, hkC, -⟩ := hcls.2
  have hasg : s.vm.assignable (D.1 ci) comp = true := by
    rcases hcast with e | e
    · subst e
      have hcomp : comp = D.1 ci := Option.some.inj (k3.symm.trans hcls.1)
      rw [hcomp]; exact va_assign hcls
    · obtain ⟨c0, t0, f1, f2, f3⟩ := Cond.castable_spec (va_Nw.use (A := args) rfl (hX.S.cast e))
      cases hcls.1.symm.trans f1
      cases k3.symm.trans f2
      exact f3
  obtain ⟨kcomp, hkcomp⟩ : ∃ kcomp, s.vm.classes[comp]? = some kcomp := (by obtain ⟨k9, h9, -⟩ := Vm.findClass_spec k3; exact ⟨k9, h9⟩)
  refine W.aast hX.1 hX.2.1 (hG0 _ _ hG).1 (fun q h => by cases h) (fun h => by cases h) k1 k2 rfl hkcomp ⟨h0, by show _ < (arrV _ _ _).slots.size; rw [arrV_size]; exact hlt⟩ g1 (fun q h => by rw [g3] at h; cases h) (by rw [g2]; exact hkC) (by rw [g2]; exact hasg) rfl rfl d fun H1 e z oq => ?_
  refine kk H1 _ ls cells slots (hG0.set hA ?_ oq) (hS.put z oq hA) hl hc0 hs
  show H1[a]? = some (vp_cell _ _)
  rw [e]
  rw [vp_cell_q, vp_cell_q, arrV_store]
  congr 2
  funext q
  by_cases hq : q = i.toNatClampNeg
  · subst hq
    simp [updV, va_up, va_rf]
  · simp [updV, va_up, hq]
theorem jr_aastN (hX : jX D s0 b0 A p s m args c cc nL own) {a n k t : Nat} {E : String} {f : Nat → Option Nat} {i : Int32} (hG : G a = some (jq D k n f)) (ht : (jtys D)[t]? = some (D.1 k, .object E)) (hi : vp_in i n) (d : decode cc pc = .ok (.aastore, 1)) (kk : Jg p l e R s m args below meth c Q D A nL (jup G a (jq D k n (va_up f i.toNatClampNeg none))) bc bs (pc + 1) lv st) : Jg p l e R s m args below meth c Q D A nL G bc bs pc lv (.null :: .int i :: .ref a :: st) := by
  intro H locs ls cells slots hG0 hS hl hc0 hs
  have hA := (hG0 _ _ hG).2
  refine va_WaastN (C := E) hX.1 hX.2.1 (hG0 _ _ hG).1 ((hX.K.2 t _ ht).1 n (fun j => va_rf (f j))) (fun h => by cases h) (by show ¬ (i < 0 ∨ (arrV _ _ _).slots.size ≤ _); rw [arrV_size]; exact hi) rfl rfl d fun H1 e z oq => ?_
  refine kk H1 _ ls cells slots (hG0.set hA ?_ oq) (hS.put z oq hA) hl hc0 hs
  show H1[a]? = some (vp_cell _ _)
  rw [e]
  rw [vp_cell_q, vp_cell_q, arrV_store]
  congr 2
  funext q
  by_cases hq : q = i.toNatClampNeg
  · subst hq
    simp [updV, va_up, va_rf]
  · simp [updV, va_up, hq]
theorem jr_alen (hX : jX D s0 b0 A p s m args c cc nL own) {a : Nat} {k t : Nat} {x : vp_A} {ty : FieldType} (hG : G a = some (.inl (.inl (D.1 k, x)))) (ht : (jtys D)[t]? = some (D.1 k, ty)) {v : Int32} (hv : Int32.ofNat x.1 = v) (d : decode cc pc = .ok (.arraylength, 1)) (kk : Jg p l e R s m args below meth c Q D A nL G bc bs (pc + 1) lv (.int v :: st)) : Jg p l e R s m args below meth c Q D A nL G bc bs pc lv (.ref a :: st) := by
  intro H locs ls cells slots hG0 hS hl hc0 hs
  exact va_alen (D := D) (cl := jcl) (ws := [(a, .inl (D.1 k, x))]) hX.1 hX.2.1 hX.K (fun i q hq => by
    cases i with
    | zero => cases hq; exact (hG0 _ _ hG).1
    | succ i => cases hq) 0 t rfl ht hv d (kk H locs ls cells slots hG0 hS hl hc0 hs)
theorem jr_newi (hX : jX D s0 b0 A p s m args c cc nL own) {n : Int32} {N bc1 bs1 : Nat} (hw : Cond.arrayClass .int ∈ lw_all) (hn : ¬ n < 0) (hN : n.toNatClampNeg = N) (hsm : N ≤ 100000) (hbc : bc1 + 1 ≤ bc) (hbs : bs1 + N ≤ bs) (d : decode cc pc = .ok (.newarray .int, 2)) (kk : ∀ q : Nat, G q = none → A q → Jg p l e R s m args below meth c Q D A nL (jup G q (ji D N (fun _ => 0))) bc1 bs1 (pc + 2) lv (.ref q :: st)) : Jg p l e R s m args below meth c Q D A nL G bc bs pc lv (.int n :: st) := by
  intro H locs ls cells slots hG0 hS hl hc0 hs
  have hA : A H.size := hX.2.2.2.2.2.2 _ hS.1
  refine va_newaK (atype := .int) hX.1 hX.2.1 (hX.ts _ hw) rfl d rfl hn hN (by show N * 4 ≤ 536870912; omega) (by omega) (by omega) rfl fun H1 cA e1 z1 o1 hAr hNm => ?_
  have hc : D.1 100 = cA := Option.some.inj ((hX.K.2 0 _ rfl).2.symm.trans hNm)
  subst hc
  exact kk H.size hG0.fresh hA H1 locs ls (cells + 1) (slots + N) (hG0.push hA (by show H1[H.size]? = some (vp_cell _ _); rw [vp_cell_i]; exact e1) o1) (jS_push hS (by omega) o1) hl (by omega) (by omega)
theorem jr_newl (hX : jX D s0 b0 A p s m args c cc nL own) {n : Int32} {N bc1 bs1 : Nat} (hw : Cond.arrayClass .long ∈ lw_all) (hn : ¬ n < 0) (hN : n.toNatClampNeg = N) (hsm : N ≤ 1000) (hbc : bc1 + 1 ≤ bc) (hbs : bs1 + N ≤ bs) (d : decode cc pc = .ok (.newarray .long, 2)) (kk : ∀ q : Nat, G q = none → A q → Jg p l e R s m args below meth c Q D A nL (jup G q (jlg D N (fun _ => 0))) bc1 bs1 (pc + 2) lv (.ref q :: st)) : Jg p l e R s m args below meth c Q D A nL G bc bs pc lv (.int n :: st) := by
  intro H locs ls cells slots hG0 hS hl hc0 hs
  have hA : A H.size := hX.2.2.2.2.2.2 _ hS.1
  refine va_newaK (atype := .long) hX.1 hX.2.1 (hX.ts _ hw) rfl d rfl hn hN (by show N * 8 ≤ 536870912; omega) (by omega) (by omega) rfl fun H1 cA e1 z1 o1 hAr hNm => ?_
  have hc : D.1 105 = cA := Option.some.inj ((hX.K.2 5 _ rfl).2.symm.trans hNm)
  subst hc
  exact kk H.size hG0.fresh hA H1 locs ls (cells + 1) (slots + N) (hG0.push hA (by show H1[H.size]? = some (vp_cell _ _); rw [vp_cell_l]; exact e1) o1) (jS_push hS (by omega) o1) hl (by omega) (by omega)
theorem jr_newd (hX : jX D s0 b0 A p s m args c cc nL own) {n : Int32} {N bc1 bs1 : Nat} (hw : Cond.arrayClass .double ∈ lw_all) (hn : ¬ n < 0) (hN : n.toNatClampNeg = N) (hsm : N ≤ 1000) (hbc : bc1 + 1 ≤ bc) (hbs : bs1 + N ≤ bs) (d : decode cc pc = .ok (.newarray .double, 2)) (kk : ∀ q : Nat, G q = none → A q → Jg p l e R s m args below meth c Q D A nL (jup G q (jdb D N (fun _ => 0))) bc1 bs1 (pc + 2) lv (.ref q :: st)) : Jg p l e R s m args below meth c Q D A nL G bc bs pc lv (.int n :: st) := by
  intro H locs ls cells slots hG0 hS hl hc0 hs
  have hA : A H.size := hX.2.2.2.2.2.2 _ hS.1
  refine va_newaK (atype := .double) hX.1 hX.2.1 (hX.ts _ hw) rfl d rfl hn hN (by show N * 8 ≤ 536870912; omega) (by omega) (by omega) rfl fun H1 cA e1 z1 o1 hAr hNm => ?_
  have hc : D.1 106 = cA := Option.some.inj ((hX.K.2 6 _ rfl).2.symm.trans hNm)
  subst hc
  exact kk H.size hG0.fresh hA H1 locs ls (cells + 1) (slots + N) (hG0.push hA (by show H1[H.size]? = some (vp_cell _ _); rw [vp_cell_d]; exact e1) o1) (jS_push hS (by omega) o1) hl (by omega) (by omega)
theorem jr_newq (hX : jX D s0 b0 A p s m args c cc nL own) {n : Int32} {N bc1 bs1 k t index : Nat} {C : String} (hcl : Cond.classLink own index C ∈ lw_all) (hao : Cond.arrayOver (.object C) ∈ lw_tbl) (ht : (jtys D)[t]? = some (D.1 k, .object C)) (hn : ¬ n < 0) (hN : n.toNatClampNeg = N) (hsm : N ≤ 100000) (hbc : bc1 + 1 ≤ bc) (hbs : bs1 + N ≤ bs) (d : decode cc pc = .ok (.anewarray index, 3)) (kk : ∀ q : Nat, G q = none → A q → Jg p l e R s m args below meth c Q D A nL (jup G q (jq D k N (fun _ => none))) bc1 bs1 (pc + 3) lv (.ref q :: st)) : Jg p l e R s m args below meth c Q D A nL G bc bs pc lv (.int n :: st) := by
  intro H locs ls cells slots hG0 hS hl hc0 hs
  have hA : A H.size := hX.2.2.2.2.2.2 _ hS.1
  subst hN
  refine W.anew hX.1 hX.2.1 hX.2.2.2.1 (hX.ts _ hcl) (va_AO.use (hX.S.ao hao)) rfl d rfl hn (by omega) (by omega) (by omega) fun cA kA comp f1 f2 f3 f4 => ?_
  obtain ⟨kA', comp', k1, k2, k3, k4⟩ := (hX.K.2 t _ ht).2
  have hc : D.1 k = cA := Option.some.inj (k4.symm.trans f1)
  subst hc
  generalize hH1 : H.push ({ cls := D.1 k, slots := Array.replicate n.toNatClampNeg .null, vm := .none } : Cell) = H1
  have z1 : H1.size = H.size + 1 := by rw [← hH1, Array.size_push]
  have e1 : H1[H.size]? = some (arrV (D.1 k) n.toNatClampNeg (fun _ => .null)) := by rw [← hH1, Array.getElem?_push_size, ← arrV_new]
  have o1 : ∀ q : Nat, q < H.size → H1[q]? = H[q]? := fun q hq => by rw [← hH1, Array.getElem?_push, if_neg (Nat.ne_of_lt hq)]
  exact kk H.size hG0.fresh hA H1 locs ls (cells + 1) (slots + n.toNatClampNeg) (hG0.push hA (by show H1[H.size]? = some (vp_cell _ _); rw [vp_cell_q]; exact e1) o1) (jS_push hS (by omega) o1) hl (by omega) (by omega)
theorem jr_oinit (hX : jX D s0 b0 A p s m args c cc nL own) {a idx : Nat} (h1 : Cond.methodLink own idx Lib.objectInit ∈ lw_all) (h2 : Cond.instanceMethod Lib.objectInit ∈ lw_all) (h3 : Cond.code Lib.objectInit ⟨#[0xb1]⟩ 1 none ∈ lw_all) (hf : 1 ≤ R.frames) (hw : (st.map fun v => v.category).sum + 12 ≤ R.locals) (d : decode cc pc = .ok (.invokespecial idx, 3)) (kk : Jg p l e R s m args below meth c Q D A nL G bc bs (pc + 3) lv st) : Jg p l e R s m args below meth c Q D A nL G bc bs pc lv (.ref a :: st) :=
  fun H locs ls cells slots hG hS hl hc hs => W.objInit hX.1 hX.2.1 hX.2.2.2.1 (hX.ts _ h1) (hX.ts _ h2) (hX.ts _ h3) rfl (by rw [hX.2.2.1]; exact hl.1) rfl d hf (by show 2 * 0 + _ + 12 ≤ _; omega) (kk H locs ls cells slots hG hS hl hc hs)
theorem jrecv {D : va_G} {A : Nat → Prop} {U : State} {G : jG} {H : Heap} (hK : va_K D jcl (jtys D) U) (hH : jH D jcl A G H) {a ci : Nat} {fs : List Value} {C : String} {T : u_T} {N : Nat} (hG : G a = some (jo ci fs)) (hc : jcl[ci]? = some (C, T, N)) : ∃ cell : Cell, H[a]? = some cell ∧ cell.vm.isStatics = false ∧ U.vm.findClass C = some cell.cls := by
  obtain ⟨q', h1, cell, g1, g2, g3, -⟩ := (hH _ _ hG).1
  exact ⟨cell, g1, by rw [g3]; rfl, by rw [g2]; exact (hK.1 ci _ hc).2.1⟩
theorem jr_castS (hX : jX D s0 b0 A p s m args c cc nL own) {a ci index : Nat} {fs : List Value} {C : String} {T : u_T} {N : Nat} (hG : G a = some (jo ci fs)) (hc : jcl[ci]? = some (C, T, N)) (hq : Cond.classLink own index C ∈ lw_all) (d : decode cc pc = .ok (.checkcast index, 3)) (kk : Jg p l e R s m args below meth c Q D A nL G bc bs (pc + 3) lv (.ref a :: st)) : Jg p l e R s m args below meth c Q D A nL G bc bs pc lv (.ref a :: st) :=
  fun H locs ls cells slots hG0 hS hl hc0 hs => va_castS hX.1 hX.2.1 hX.2.2.2.1 (hX.ts _ hq) (hX.K.1 ci _ hc).2 (jrecv hX.K hG0 hG hc) d (kk H locs ls cells slots hG0 hS hl hc0 hs)
theorem jr_castY (hX : jX D s0 b0 A p s m args c cc nL own) {a ci index : Nat} {fs : List Value} {C nm : String} {T : u_T} {N : Nat} (hG : G a = some (jo ci fs)) (hc : jcl[ci]? = some (C, T, N)) (hq : Cond.classLink own index nm ∈ lw_all) (hz : Cond.castable C nm ∈ lw_tbl) (d : decode cc pc = .ok (.checkcast index, 3)) (kk : Jg p l e R s m args below meth c Q D A nL G bc bs (pc + 3) lv (.ref a :: st)) : Jg p l e R s m args below meth c Q D A nL G bc bs pc lv (.ref a :: st) :=
  fun H locs ls cells slots hG0 hS hl hc0 hs => va_castY hX.1 hX.2.1 hX.2.2.2.1 (hX.ts _ hq) (hX.S.cast hz) (jrecv hX.K hG0 hG hc) d (kk H locs ls cells slots hG0 hS hl hc0 hs)
theorem jr_instS (hX : jX D s0 b0 A p s m args c cc nL own) {a ci index : Nat} {fs : List Value} {C : String} {T : u_T} {N : Nat} (hG : G a = some (jo ci fs)) (hc : jcl[ci]? = some (C, T, N)) (hq : Cond.classLink own index C ∈ lw_all) (d : decode cc pc = .ok (.instanceof index, 3)) (kk : Jg p l e R s m args below meth c Q D A nL G bc bs (pc + 3) lv (.int 1 :: st)) : Jg p l e R s m args below meth c Q D A nL G bc bs pc lv (.ref a :: st) :=
  fun H locs ls cells slots hG0 hS hl hc0 hs => va_instS hX.1 hX.2.1 hX.2.2.2.1 (hX.ts _ hq) (hX.K.1 ci _ hc).2 (jrecv hX.K hG0 hG hc) d (kk H locs ls cells slots hG0 hS hl hc0 hs)
theorem jr_instY (hX : jX D s0 b0 A p s m args c cc nL own) {a ci index : Nat} {fs : List Value} {C nm : String} {T : u_T} {N : Nat} (hG : G a = some (jo ci fs)) (hc : jcl[ci]? = some (C, T, N)) (hq : Cond.classLink own index nm ∈ lw_all) (hz : Cond.castable C nm ∈ lw_tbl) (d : decode cc pc = .ok (.instanceof index, 3)) (kk : Jg p l e R s m args below meth c Q D A nL G bc bs (pc + 3) lv (.int 1 :: st)) : Jg p l e R s m args below meth c Q D A nL G bc bs pc lv (.ref a :: st) :=
  fun H locs ls cells slots hG0 hS hl hc0 hs => va_instY hX.1 hX.2.1 hX.2.2.2.1 (hX.ts _ hq) (hX.S.cast hz) (jrecv hX.K hG0 hG hc) d (kk H locs ls cells slots hG0 hS hl hc0 hs)
end JL2
/-- a method's room: d frames deep -/
abbrev jR (d mc ms : Nat) : Room := { frames := d, cells := mc, slots := ms, locals := 3200 + 40 * d }
/-- a contract's start: the heap G, the start's world -/
def jB (D : va_G) (s0 : State) (b0 : Nat) (A : Nat → Prop) (G : jG) (U : State) : Prop := jH D jcl A G U.heap ∧ jS D s0 b0 A U ∧ ∀ q : Nat, U.heap.size ≤ q → A q
/-- a contract's end -/
def jQ (D : va_G) (A : Nat → Prop) (post : Option Value → jG → Prop) : Array Value → State → Outcome → State → Prop := fun _ st oc t => (∃ (v : Option Value) (G : jG), oc = .returned v ∧ post v G ∧ jH D jcl A G t.heap) ∧ va_F A st t
/-- a contract -/
abbrev jM (l : Launch) (y : MethodName) (ws : List Cond) (rm : Room) (D : va_G) (s0 : State) (b0 : Nat) (A : Nat → Prop) (G : jG) (As : List Value) (post : Option Value → jG → Prop) : Prop := Met l y ws rm (va_Pc As (jB D s0 b0 A G)) (jQ D A post) rm.cells rm.slots A
theorem jB.blind {D : va_G} {s0 : State} {b0 : Nat} {A : Nat → Prop} {G : jG} {As : List Value} : FrameBlind (va_Pc As (jB D s0 b0 A G)) := fun a U g mk h => h
theorem jB.to {D : va_G} {s0 : State} {b0 : Nat} {A : Nat → Prop} {G : jG} {s U : State} {H : Heap} {locs : List Loc} (hG : jH D jcl A G H) (h : jS D s0 b0 A s) (hA : ∀ q : Nat, s.heap.size ≤ q → A q) (hS : va_S A s.heap H locs) (hU : U.heap = H) (hW : s.WarmedH U.vm) : jB D s0 b0 A G U :=
  ⟨by rw [hU]; exact hG, h.to hS hU hW, fun q hq => hA q (Nat.le_trans hS.1 (by rw [← hU]; exact hq))⟩
theorem jM.of {l : Launch} {y : MethodName} {cc : ByteArray} {maxL : Nat} {ret : Option FieldType} {d mc ms : Nat} {D : va_G} {s0 : State} {b0 : Nat} {A : Nat → Prop} {G : jG} {As : List Value} {post : Option Value → jG → Prop} {own : String} (hy : plainName y.cls = true) (ho : y.cls = own) (hAs : (lg_sl As).length ≤ maxL)
    (body : ∀ (p : Program) (e : Env) (s : State) (m : MethodId) (args : Array Value) (below : List Frame) (meth : Method) (c : Code), jX D s0 b0 A p s m args c cc maxL own → meth.sig.returnType = ret → meth.locks = false → meth.name = y.name →
      Jg p l e (jR d mc ms) s m args below meth c (MQ below (jQ D A post) args s mc ms A) D A maxL G mc ms 0 (lv_args 0 As) []) : jM l y (ws_ y cc maxL ret) (jR d mc ms) D s0 b0 A G As post := by
  refine Met.ofW (cc := cc) (maxL := maxL) (ret := ret) hy rfl ?_
  intro p e s m args below meth c s₁ B hml hv
  obtain ⟨rfl, hG, hS, hA⟩ := hv
  have hts := atoms_spec (ws := ws_ y cc maxL ret) B.pre
  have hts : ∀ w ∈ lw_all, w.before _ s = true := fun w h => hts w (List.mem_cons_of_mem _ h)
  have hown : s.vm.findClass own = some m.cls := by rw [← ho]; exact findClass_of_methodNamed B.named
  have hl := lv_entry As (n := maxL) hAs
  rw [lg_entry_eq]
  generalize (lg_sl As ++ List.replicate (maxL - (lg_sl As).length) Slot.unset).toArray = ls at hl ⊢
  exact body p e s m _ below meth c ⟨B.exec, B.bytes, hml, hown, hts, hS, hA⟩ B.returns B.notSynchronized (name_of_methodNamed B.named B.method).1 s.heap [] ls 0 0 hG va_S.rf hl (by show 0 + mc ≤ mc; omega) (by show 0 + ms ≤ ms; omega)
/-- a contract says less -/
theorem jM.le {l : Launch} {y : MethodName} {ws : List Cond} {rm : Room} {D : va_G} {s0 : State} {b0 : Nat} {A : Nat → Prop} {G : jG} {As : List Value} {post post' : Option Value → jG → Prop} (h : jM l y ws rm D s0 b0 A G As post) (hp : ∀ v G', post v G' → post' v G') : jM l y ws rm D s0 b0 A G As post' := by
  intro p e ha hc hk s m args below hf happ hP hK
  obtain ⟨t, o, h1, h2, h3, h4, h5⟩ := h p e ha hc hk s m args below hf happ hP hK
  refine ⟨t, o, h1, h2, h3, ?_, h5⟩
  obtain ⟨⟨v, G', e1, e2, e3⟩, e4⟩ := h4
  exact ⟨⟨v, G', e1, hp v G' e2, e3⟩, e4⟩
section JL3
variable {p : Program} {l : Launch} {e : Env} {R : Room} {s : State} {m : MethodId} {args : Array Value} {below : List Frame} {meth : Method} {c : Code} {D : va_G} {s0 : State} {b0 : Nat} {A : Nat → Prop} {cc : ByteArray} {nL : Nat} {own : String} {G : jG} {bc bs pc : Nat} {lv : List (Nat × Value)} {st : List Value} {mc ms : Nat} {post : Option Value → jG → Prop}
theorem jr_iret (hX : jX D s0 b0 A p s m args c cc nL own) {v : Int32} (hlocks : meth.locks = false) (hr : meth.sig.returnType = some .int) (hp : post (some (.int v)) G) (d : decode cc pc = .ok (.ireturn, 1)) : Jg p l e R s m args below meth c (MQ below (jQ D A post) args s R.cells R.slots A) D A nL G bc bs pc lv [.int v] := by
  intro H locs ls cells slots hG hS hl hc hs
  refine W.widen (k := R.cells) (n := R.slots) (by omega) (by omega) ?_
  exact W.iret hX.1 hX.2.1 hr (fun t ht hW => ⟨⟨_, G, rfl, hp, by rw [ht]; exact hG⟩, hS.F ht⟩) hS.2.2 d hlocks
theorem jr_zret (hX : jX D s0 b0 A p s m args c cc nL own) {v : Int32} {ty : FieldType} (hlocks : meth.locks = false) (hr : meth.sig.returnType = some ty) (hn : narrow ty (.int v) = .int v) (hp : post (some (.int v)) G) (d : decode cc pc = .ok (.ireturn, 1)) : Jg p l e R s m args below meth c (MQ below (jQ D A post) args s R.cells R.slots A) D A nL G bc bs pc lv [.int v] := by
  intro H locs ls cells slots hG hS hl hc hs
  refine W.widen (k := R.cells) (n := R.slots) (by omega) (by omega) ?_
  exact W.zret hX.1 hX.2.1 hr hn (fun t ht hW => ⟨⟨_, G, rfl, hp, by rw [ht]; exact hG⟩, hS.F ht⟩) hS.2.2 d hlocks
theorem jr_lret (hX : jX D s0 b0 A p s m args c cc nL own) {v : Int64} (hlocks : meth.locks = false) (hr : meth.sig.returnType = some .long) (hp : post (some (.long v)) G) (d : decode cc pc = .ok (.lreturn, 1)) : Jg p l e R s m args below meth c (MQ below (jQ D A post) args s R.cells R.slots A) D A nL G bc bs pc lv [.long v] := by
  intro H locs ls cells slots hG hS hl hc hs
  refine W.widen (k := R.cells) (n := R.slots) (by omega) (by omega) ?_
  exact W.lret hX.1 hX.2.1 hr (fun t ht hW => ⟨⟨_, G, rfl, hp, by rw [ht]; exact hG⟩, hS.F ht⟩) hS.2.2 d hlocks
theorem jr_fret (hX : jX D s0 b0 A p s m args c cc nL own) {v : UInt32} (hlocks : meth.locks = false) (hr : meth.sig.returnType = some .float) (hp : post (some (.float v)) G) (d : decode cc pc = .ok (.freturn, 1)) : Jg p l e R s m args below meth c (MQ below (jQ D A post) args s R.cells R.slots A) D A nL G bc bs pc lv [.float v] := by
  intro H locs ls cells slots hG hS hl hc hs
  refine W.widen (k := R.cells) (n := R.slots) (by omega) (by omega) ?_
  exact W.fret hX.1 hX.2.1 hr (fun t ht hW => ⟨⟨_, G, rfl, hp, by rw [ht]; exact hG⟩, hS.F ht⟩) hS.2.2 d hlocks
theorem jr_dret (hX : jX D s0 b0 A p s m args c cc nL own) {v : UInt64} (hlocks : meth.locks = false) (hr : meth.sig.returnType = some .double) (hp : post (some (.double v)) G) (d : decode cc pc = .ok (.dreturn, 1)) : Jg p l e R s m args below meth c (MQ below (jQ D A post) args s R.cells R.slots A) D A nL G bc bs pc lv [.double v] := by
  intro H locs ls cells slots hG hS hl hc hs
  refine W.widen (k := R.cells) (n := R.slots) (by omega) (by omega) ?_
  exact W.dret hX.1 hX.2.1 hr (fun t ht hW => ⟨⟨_, G, rfl, hp, by rw [ht]; exact hG⟩, hS.F ht⟩) hS.2.2 d hlocks
theorem jr_vret (hX : jX D s0 b0 A p s m args c cc nL own) (hlocks : meth.locks = false) (hr : meth.sig.returnType = none) (hp : post none G) (d : decode cc pc = .ok (.return_, 1)) : Jg p l e R s m args below meth c (MQ below (jQ D A post) args s R.cells R.slots A) D A nL G bc bs pc lv [] := by
  intro H locs ls cells slots hG hS hl hc hs
  refine W.widen (k := R.cells) (n := R.slots) (by omega) (by omega) ?_
  exact W.vret hX.1 hX.2.1 hr (fun t ht hW => ⟨⟨_, G, rfl, hp, by rw [ht]; exact hG⟩, hS.F ht⟩) hS.2.2 d hlocks
theorem jr_aret (hX : jX D s0 b0 A p s m args c cc nL own) {v : Value} {rt : FieldType} (hlocks : meth.locks = false) (hr : meth.sig.returnType = some rt) (hrt : (∃ n, rt = .object n) ∨ ∃ t, rt = .array t) (hv : v = .null ∨ ∃ a, v = .ref a) (hp : post (some v) G) (d : decode cc pc = .ok (.areturn, 1)) : Jg p l e R s m args below meth c (MQ below (jQ D A post) args s R.cells R.slots A) D A nL G bc bs pc lv [v] := by
  intro H locs ls cells slots hG hS hl hc hs
  refine W.widen (k := R.cells) (n := R.slots) (by omega) (by omega) ?_
  exact W.aret hX.1 hX.2.1 hr hrt hv (fun t ht hW => ⟨⟨_, G, rfl, hp, by rw [ht]; exact hG⟩, hS.F ht⟩) hS.2.2 d hlocks
end JL3
section JL4
variable {p : Program} {l : Launch} {e : Env} {R : Room} {s : State} {m : MethodId} {args : Array Value} {below : List Frame} {meth : Method} {c : Code} {Q : State → Prop} {D : va_G} {s0 : State} {b0 : Nat} {A : Nat → Prop} {cc : ByteArray} {nL : Nat} {own : String} {G : jG} {bc bs pc : Nat} {lv : List (Nat × Value)} {st : List Value} {post : Option Value → jG → Prop}
/-- behind a call that returns -/
theorem jr_back (hX : jX D s0 b0 A p s m args c cc nL own) {rest st1 : List Value} {mc ms bc1 bs1 : Nat} {a : Array Value} (hbc : bc1 + mc ≤ bc) (hbs : bs1 + ms ≤ bs)
    (hr : ∀ (H : Heap) (locs : List Loc) (ls : Array Slot) (cells slots : Nat), jH D jcl A G H → va_S A s.heap H locs → lv_has ls nL lv → cells + bc ≤ R.cells → slots + bs ≤ R.slots → va_Run p l e R s m args below meth c H locs cells slots mc ms (F0 m pc ls st1) rest (jQ D A post a) A)
    (kk : ∀ (v : Option Value) (G1 : jG), post v G1 → Jg p l e R s m args below meth c Q D A nL G1 bc1 bs1 (pc + 3) lv (v.toList ++ rest)) : Jg p l e R s m args below meth c Q D A nL G bc bs pc lv st1 := by
  intro H locs ls cells slots hG hS hl hc hs T hT X
  obtain ⟨v, st₀, t, T', L, h0, X', hL, e1, e2, ⟨⟨v', G1, hv, hp, hG1⟩, hz, hk⟩, st⟩ := hr H locs ls cells slots hG hS hl hc hs T hT X
  cases hv
  rw [h0] at hz hk
  obtain ⟨t2, a1, b1⟩ := kk v G1 hp T'.heap (locs ++ L) ls (cells + mc) (slots + ms) (by rw [e1]; exact hG1)
    ⟨Nat.le_trans hS.1 (by rw [e1]; exact hz), fun q h1 h2 => by rw [e1, hk q (Nat.lt_of_lt_of_le h1 hS.1) h2]; exact hS.2.1 q h1 h2, fun q hq => by
      rcases List.mem_append.mp hq with h | h
      · exact hS.2.2 q h
      · exact hL q h⟩ hl (by omega) (by omega) T' rfl X'
  exact ⟨t2, st t2 a1, b1⟩
theorem jr_back5 (hX : jX D s0 b0 A p s m args c cc nL own) {rest st1 : List Value} {mc ms bc1 bs1 : Nat} {a : Array Value} (hbc : bc1 + mc ≤ bc) (hbs : bs1 + ms ≤ bs)
    (hr : ∀ (H : Heap) (locs : List Loc) (ls : Array Slot) (cells slots : Nat), jH D jcl A G H → va_S A s.heap H locs → lv_has ls nL lv → cells + bc ≤ R.cells → slots + bs ≤ R.slots → va_Run5 p l e R s m args below meth c H locs cells slots mc ms (F0 m pc ls st1) rest (jQ D A post a) A)
    (kk : ∀ (v : Option Value) (G1 : jG), post v G1 → Jg p l e R s m args below meth c Q D A nL G1 bc1 bs1 (pc + 5) lv (v.toList ++ rest)) : Jg p l e R s m args below meth c Q D A nL G bc bs pc lv st1 := by
  intro H locs ls cells slots hG hS hl hc hs T hT X
  obtain ⟨v, st₀, t, T', L, h0, X', hL, e1, e2, ⟨⟨v', G1, hv, hp, hG1⟩, hz, hk⟩, st⟩ := hr H locs ls cells slots hG hS hl hc hs T hT X
  cases hv
  rw [h0] at hz hk
  obtain ⟨t2, a1, b1⟩ := kk v G1 hp T'.heap (locs ++ L) ls (cells + mc) (slots + ms) (by rw [e1]; exact hG1)
    ⟨Nat.le_trans hS.1 (by rw [e1]; exact hz), fun q h1 h2 => by rw [e1, hk q (Nat.lt_of_lt_of_le h1 hS.1) h2]; exact hS.2.1 q h1 h2, fun q hq => by
      rcases List.mem_append.mp hq with h | h
      · exact hS.2.2 q h
      · exact hL q h⟩ hl (by omega) (by omega) T' rfl X'
  exact ⟨t2, st t2 a1, b1⟩
theorem jr_callV (hX : jX D s0 b0 A p s m args c cc nL own) {y : MethodName} {bytes : ByteArray} {maxL n index bc1 bs1 : Nat} {ret : Option FieldType} {ws : List Cond} {rm : Room} {As rest st1 : List Value} {b ci : Nat} {fs : List Value} {C : String} {T : u_T} {N : Nat} (hM : jM l y ws rm D s0 b0 A G (.ref b :: As) post) (cw : CallW R s args own C index y bytes maxL ret ws rm rm.cells rm.slots n) (hb : G b = some (jo ci fs)) (hc : jcl[ci]? = some (C, T, N)) (hn : As.length = n) (hw : (rest.map fun v => v.category).sum ≤ 8) (hbc : bc1 + rm.cells ≤ bc) (hbs : bs1 + rm.slots ≤ bs) (hst : st1 = As.reverse ++ .ref b :: rest) (d : decode cc pc = .ok (.invokevirtual index, 3)) (kk : ∀ (v : Option Value) (G1 : jG), post v G1 → Jg p l e R s m args below meth c Q D A nL G1 bc1 bs1 (pc + 3) lv (v.toList ++ rest)) : Jg p l e R s m args below meth c Q D A nL G bc bs pc lv st1 :=
  jr_back hX (mc := rm.cells) (ms := rm.slots) hbc hbs (fun H locs ls cells slots hG hS hl hc0 hs => va_runV hX.fix hM cw ⟨jB.blind, jrecv hX.K hG hb hc, fun U hU hW => ⟨rfl, jB.to hG hX.S hX.2.2.2.2.2.2 hS hU hW⟩⟩ rfl hn hl.1 hst (lv_room hw) d ⟨by omega, by omega⟩) kk
theorem jr_callS (hX : jX D s0 b0 A p s m args c cc nL own) {y : MethodName} {bytes : ByteArray} {maxL n index bc1 bs1 : Nat} {ret : Option FieldType} {ws : List Cond} {rm : Room} {As rest st1 : List Value}  (hM : jM l y ws rm D s0 b0 A G As post) (cw : CallB R s args own index y bytes maxL ret ws rm rm.cells rm.slots n ∧ (Cond.static y).before args s = true)  (hn : As.length = n) (hw : (rest.map fun v => v.category).sum ≤ 8) (hbc : bc1 + rm.cells ≤ bc) (hbs : bs1 + rm.slots ≤ bs) (hst : st1 = As.reverse ++ rest) (d : decode cc pc = .ok (.invokestatic index, 3)) (kk : ∀ (v : Option Value) (G1 : jG), post v G1 → Jg p l e R s m args below meth c Q D A nL G1 bc1 bs1 (pc + 3) lv (v.toList ++ rest)) : Jg p l e R s m args below meth c Q D A nL G bc bs pc lv st1 :=
  jr_back hX (mc := rm.cells) (ms := rm.slots) hbc hbs (fun H locs ls cells slots hG hS hl hc0 hs => va_runS hX.fix hM cw ⟨jB.blind, fun U hU hW => ⟨rfl, jB.to hG hX.S hX.2.2.2.2.2.2 hS hU hW⟩⟩ rfl hn hl.1 hst (lv_room hw) d ⟨by omega, by omega⟩) kk
theorem jr_callI (hX : jX D s0 b0 A p s m args c cc nL own) {y : MethodName} {bytes : ByteArray} {maxL n index bc1 bs1 : Nat} {ret : Option FieldType} {ws : List Cond} {rm : Room} {As rest st1 : List Value} {b : Nat} (hM : jM l y ws rm D s0 b0 A G (.ref b :: As) post) (cw : CallB R s args own index y bytes maxL none ws rm rm.cells rm.slots n ∧ y.name = "<init>" ∧ (Cond.instanceMethod y).before args s = true)  (hn : As.length = n) (hw : (rest.map fun v => v.category).sum ≤ 8) (hbc : bc1 + rm.cells ≤ bc) (hbs : bs1 + rm.slots ≤ bs) (hst : st1 = As.reverse ++ .ref b :: rest) (d : decode cc pc = .ok (.invokespecial index, 3)) (kk : ∀ (v : Option Value) (G1 : jG), post v G1 → Jg p l e R s m args below meth c Q D A nL G1 bc1 bs1 (pc + 3) lv (v.toList ++ rest)) : Jg p l e R s m args below meth c Q D A nL G bc bs pc lv st1 :=
  jr_back hX (mc := rm.cells) (ms := rm.slots) hbc hbs (fun H locs ls cells slots hG hS hl hc0 hs => va_runI hX.fix hM cw ⟨jB.blind, fun U hU hW => ⟨rfl, jB.to hG hX.S hX.2.2.2.2.2.2 hS hU hW⟩⟩ rfl hn hl.1 hst (lv_room hw) d ⟨by omega, by omega⟩) kk
theorem jr_callU (hX : jX D s0 b0 A p s m args c cc nL own) {y : MethodName} {bytes : ByteArray} {maxL n index bc1 bs1 : Nat} {ret : Option FieldType} {ws : List Cond} {rm : Room} {As rest st1 : List Value} {b ci : Nat} {fs : List Value} {C : String} {T : u_T} {N : Nat} {x : MethodName} {owner : String} (hM : jM l y ws rm D s0 b0 A G (.ref b :: As) post) (cw : va_CU R s args own C owner index x y bytes maxL ret ws rm rm.cells rm.slots n) (hb : G b = some (jo ci fs)) (hc : jcl[ci]? = some (C, T, N)) (hn : As.length = n) (hw : (rest.map fun v => v.category).sum ≤ 8) (hbc : bc1 + rm.cells ≤ bc) (hbs : bs1 + rm.slots ≤ bs) (hst : st1 = As.reverse ++ .ref b :: rest) (d : decode cc pc = .ok (.invokevirtual index, 3)) (kk : ∀ (v : Option Value) (G1 : jG), post v G1 → Jg p l e R s m args below meth c Q D A nL G1 bc1 bs1 (pc + 3) lv (v.toList ++ rest)) : Jg p l e R s m args below meth c Q D A nL G bc bs pc lv st1 :=
  jr_back hX (mc := rm.cells) (ms := rm.slots) hbc hbs (fun H locs ls cells slots hG hS hl hc0 hs => va_runU hX.fix hM cw ⟨jB.blind, jrecv hX.K hG hb hc, fun U hU hW => ⟨rfl, jB.to hG hX.S hX.2.2.2.2.2.2 hS hU hW⟩⟩ rfl hn hl.1 hst (lv_room hw) d ⟨by omega, by omega⟩) kk
theorem jr_callVN (hX : jX D s0 b0 A p s m args c cc nL own) {y : MethodName} {bytes : ByteArray} {maxL n index bc1 bs1 : Nat} {ret : Option FieldType} {ws : List Cond} {rm : Room} {As rest st1 : List Value} {b ci : Nat} {fs : List Value} {C : String} {T : u_T} {N : Nat} {host : String} (hM : jM l y ws rm D s0 b0 A G (.ref b :: As) post) (cw : va_CN R s args own index y host bytes maxL ret ws rm rm.cells rm.slots n ∧ (Cond.instanceMethod y).before args s = true ∧ (Cond.selects C y y).before args s = true) (hb : G b = some (jo ci fs)) (hc : jcl[ci]? = some (C, T, N)) (hn : As.length = n) (hw : (rest.map fun v => v.category).sum ≤ 8) (hbc : bc1 + rm.cells ≤ bc) (hbs : bs1 + rm.slots ≤ bs) (hst : st1 = As.reverse ++ .ref b :: rest) (d : decode cc pc = .ok (.invokevirtual index, 3)) (kk : ∀ (v : Option Value) (G1 : jG), post v G1 → Jg p l e R s m args below meth c Q D A nL G1 bc1 bs1 (pc + 3) lv (v.toList ++ rest)) : Jg p l e R s m args below meth c Q D A nL G bc bs pc lv st1 :=
  jr_back hX (mc := rm.cells) (ms := rm.slots) hbc hbs (fun H locs ls cells slots hG hS hl hc0 hs => va_runVN hX.fix hM cw ⟨jB.blind, jrecv hX.K hG hb hc, fun U hU hW => ⟨rfl, jB.to hG hX.S hX.2.2.2.2.2.2 hS hU hW⟩⟩ rfl hn hl.1 hst (lv_room hw) d ⟨by omega, by omega⟩) kk
theorem jr_callSN (hX : jX D s0 b0 A p s m args c cc nL own) {y : MethodName} {bytes : ByteArray} {maxL n index bc1 bs1 : Nat} {ret : Option FieldType} {ws : List Cond} {rm : Room} {As rest st1 : List Value} {host : String} (hM : jM l y ws rm D s0 b0 A G As post) (cw : va_CN R s args own index y host bytes maxL ret ws rm rm.cells rm.slots n ∧ (Cond.static y).before args s = true ∧ True)  (hn : As.length = n) (hw : (rest.map fun v => v.category).sum ≤ 8) (hbc : bc1 + rm.cells ≤ bc) (hbs : bs1 + rm.slots ≤ bs) (hst : st1 = As.reverse ++ rest) (d : decode cc pc = .ok (.invokestatic index, 3)) (kk : ∀ (v : Option Value) (G1 : jG), post v G1 → Jg p l e R s m args below meth c Q D A nL G1 bc1 bs1 (pc + 3) lv (v.toList ++ rest)) : Jg p l e R s m args below meth c Q D A nL G bc bs pc lv st1 :=
  jr_back hX (mc := rm.cells) (ms := rm.slots) hbc hbs (fun H locs ls cells slots hG hS hl hc0 hs => va_runSN hX.fix hM cw ⟨jB.blind, fun U hU hW => ⟨rfl, jB.to hG hX.S hX.2.2.2.2.2.2 hS hU hW⟩⟩ rfl hn hl.1 hst (lv_room hw) d ⟨by omega, by omega⟩) kk
theorem jr_callIN (hX : jX D s0 b0 A p s m args c cc nL own) {y : MethodName} {bytes : ByteArray} {maxL n index bc1 bs1 : Nat} {ret : Option FieldType} {ws : List Cond} {rm : Room} {As rest st1 : List Value} {b : Nat} {host : String} (hM : jM l y ws rm D s0 b0 A G (.ref b :: As) post) (cw : va_CN R s args own index y host bytes maxL none ws rm rm.cells rm.slots n ∧ y.name = "<init>" ∧ (Cond.instanceMethod y).before args s = true)  (hn : As.length = n) (hw : (rest.map fun v => v.category).sum ≤ 8) (hbc : bc1 + rm.cells ≤ bc) (hbs : bs1 + rm.slots ≤ bs) (hst : st1 = As.reverse ++ .ref b :: rest) (d : decode cc pc = .ok (.invokespecial index, 3)) (kk : ∀ (v : Option Value) (G1 : jG), post v G1 → Jg p l e R s m args below meth c Q D A nL G1 bc1 bs1 (pc + 3) lv (v.toList ++ rest)) : Jg p l e R s m args below meth c Q D A nL G bc bs pc lv st1 :=
  jr_back hX (mc := rm.cells) (ms := rm.slots) hbc hbs (fun H locs ls cells slots hG hS hl hc0 hs => va_runIN hX.fix hM cw ⟨jB.blind, fun U hU hW => ⟨rfl, jB.to hG hX.S hX.2.2.2.2.2.2 hS hU hW⟩⟩ rfl hn hl.1 hst (lv_room hw) d ⟨by omega, by omega⟩) kk
theorem jr_callF (hX : jX D s0 b0 A p s m args c cc nL own) {y : MethodName} {bytes : ByteArray} {maxL n index bc1 bs1 : Nat} {ret : Option FieldType} {ws : List Cond} {rm : Room} {As rest st1 : List Value} {b ci : Nat} {fs : List Value} {C : String} {T : u_T} {N : Nat} {x : MethodName} {count : Nat} (hM : jM l y ws rm D s0 b0 A G (.ref b :: As) post) (cw : va_CI R s args own C index x y bytes maxL ret ws rm rm.cells rm.slots n) (hb : G b = some (jo ci fs)) (hc : jcl[ci]? = some (C, T, N)) (hn : As.length = n) (hw : (rest.map fun v => v.category).sum ≤ 8) (hbc : bc1 + rm.cells ≤ bc) (hbs : bs1 + rm.slots ≤ bs) (hst : st1 = As.reverse ++ .ref b :: rest) (d : decode cc pc = .ok (.invokeinterface index count, 5)) (kk : ∀ (v : Option Value) (G1 : jG), post v G1 → Jg p l e R s m args below meth c Q D A nL G1 bc1 bs1 (pc + 5) lv (v.toList ++ rest)) : Jg p l e R s m args below meth c Q D A nL G bc bs pc lv st1 :=
  jr_back5 hX (mc := rm.cells) (ms := rm.slots) hbc hbs (fun H locs ls cells slots hG hS hl hc0 hs => va_runF (hX.K.1 ci _ hc).2 hX.fix hM cw ⟨jB.blind, jrecv hX.K hG hb hc, fun U hU hW => ⟨rfl, jB.to hG hX.S hX.2.2.2.2.2.2 hS hU hW⟩⟩ rfl hn hl.1 hst (lv_room hw) d ⟨by omega, by omega⟩) kk
end JL4
