/-! the JDK's small methods; ArrayList -/
theorem jM.ofF {l : Launch} {y : MethodName} {cc : ByteArray} {maxL : Nat} {ret : Option FieldType} {d mc ms : Nat} {D : va_G} {s0 : State} {b0 : Nat} {A : Nat → Prop} {G : jG} {As : List Value} {post : Option Value → jG → Prop} {own : String} (hy : plainFor y = true) (ho : y.cls = own) (hAs : (lg_sl As).length ≤ maxL)
    (body : ∀ (p : Program) (e : Env) (s : State) (m : MethodId) (args : Array Value) (below : List Frame) (meth : Method) (c : Code), jX D s0 b0 A p s m args c cc maxL own → meth.sig.returnType = ret → meth.locks = false → meth.name = y.name →
      Jg p l e (jR d mc ms) s m args below meth c (MQ below (jQ D A post) args s mc ms A) D A maxL G mc ms 0 (lv_args 0 As) []) : jM l y (ws_ y cc maxL ret) (jR d mc ms) D s0 b0 A G As post := by
  refine va_MetF (cc := cc) (maxL := maxL) (ret := ret) hy rfl ?_
  intro p e s m args below meth c s₁ B hml hv
  obtain ⟨rfl, hG, hS, hA⟩ := hv
  have hts := atoms_spec (ws := ws_ y cc maxL ret) B.pre
  have hts : ∀ w ∈ lw_all, w.before _ s = true := fun w h => hts w (List.mem_cons_of_mem _ h)
  have hown : s.vm.findClass own = some m.cls := by rw [← ho]; exact findClass_of_methodNamed B.named
  have hl := lv_entry As (n := maxL) hAs
  rw [lg_entry_eq]
  generalize (lg_sl As ++ List.replicate (maxL - (lg_sl As).length) Slot.unset).toArray = ls at hl ⊢
  exact body p e s m _ below meth c ⟨B.exec, B.bytes, hml, hown, hts, hS, hA⟩ B.returns B.notSynchronized (name_of_methodNamed B.named B.method).1 s.heap [] ls 0 0 hG va_S.rf hl (by show 0 + mc ≤ mc; omega) (by show 0 + ms ≤ ms; omega)
theorem zb0 : narrow .boolean (.int 0) = .int 0 := by decide
theorem zb1 : narrow .boolean (.int 1) = .int 1 := by decide
/-- the answer of a method that returns a boolean -/
def jbz (b : Bool) : Int32 := if b then 1 else 0
theorem jbz_n (b : Bool) : narrow .boolean (.int (jbz b)) = .int (jbz b) := by cases b <;> decide
theorem jbz_t : jbz true = 1 := rfl
theorem jbz_f : jbz false = 0 := rfl
theorem jbz_0 {b : Bool} (h : jbz b = 0) : b = false := by cases b; rfl; exact absurd h (by decide)
theorem jbz_1 {b : Bool} (h : ¬ jbz b = 0) : b = true := by cases b; exact absurd rfl h; rfl

set_option maxHeartbeats 4000000 in
set_option maxRecDepth 100000 in
theorem met_max (l : Launch) (D : va_G) (s0 : State) (b0 : Nat) (A : Nat → Prop) (G : jG) (x y : Int32) : jM l yJ4_max (ws_ yJ4_max cJ4_max 2 (some .int)) (jR 0 0 0) D s0 b0 A G [.int x, .int y] (fun v G1 => v = some (.int (if x < y then y else x)) ∧ G1 = G) := by
  refine jM.ofF (by decide +kernel) (own := RJ4) rfl (Nat.le_of_ble_eq_true rfl) ?_
  intro p e s m args below meth c hX hr hlk hnm
  refine jr_iload_n (i := 0) hX rfl rfl dJ4_max_0 ?_
  refine jr_iload_n (i := 1) hX rfl rfl dJ4_max_1 ?_
  refine jr_icmp_lt hX (tgt := 9) (by decide) dJ4_max_2 (fun c_2 => ?_) (fun c_2 => ?_)
  · refine jr_iload_n (i := 1) hX rfl rfl dJ4_max_9 ?_
    exact jr_iret hX hlk hr ⟨by rw [if_pos c_2], rfl⟩ dJ4_max_10
  · refine jr_iload_n (i := 0) hX rfl rfl dJ4_max_5 ?_
    refine jr_goto hX (tgt := 10) (by decide) dJ4_max_6 ?_
    exact jr_iret hX hlk hr ⟨by rw [if_neg c_2], rfl⟩ dJ4_max_10

set_option maxHeartbeats 4000000 in
set_option maxRecDepth 100000 in
theorem met_min (l : Launch) (D : va_G) (s0 : State) (b0 : Nat) (A : Nat → Prop) (G : jG) (x y : Int32) : jM l yJ4_min (ws_ yJ4_min cJ4_min 2 (some .int)) (jR 0 0 0) D s0 b0 A G [.int x, .int y] (fun v G1 => v = some (.int (if y < x then y else x)) ∧ G1 = G) := by
  refine jM.ofF (by decide +kernel) (own := RJ4) rfl (Nat.le_of_ble_eq_true rfl) ?_
  intro p e s m args below meth c hX hr hlk hnm
  refine jr_iload_n (i := 0) hX rfl rfl dJ4_min_0 ?_
  refine jr_iload_n (i := 1) hX rfl rfl dJ4_min_1 ?_
  refine jr_icmp_gt hX (tgt := 9) (by decide) dJ4_min_2 (fun c_2 => ?_) (fun c_2 => ?_)
  · refine jr_iload_n (i := 1) hX rfl rfl dJ4_min_9 ?_
    exact jr_iret hX hlk hr ⟨by rw [if_pos c_2], rfl⟩ dJ4_min_10
  · refine jr_iload_n (i := 0) hX rfl rfl dJ4_min_5 ?_
    refine jr_goto hX (tgt := 10) (by decide) dJ4_min_6 ?_
    exact jr_iret hX hlk hr ⟨by rw [if_neg c_2], rfl⟩ dJ4_min_10

set_option maxHeartbeats 4000000 in
set_option maxRecDepth 100000 in
theorem met_pchk (l : Launch) (D : va_G) (s0 : State) (b0 : Nat) (A : Nat → Prop) (G : jG) (i n : Int32) (h1 : ¬ i < 0) (h2 : i < n) : jM l yJ7_checkIndex (ws_ yJ7_checkIndex cJ7_checkIndex 3 (some .int)) (jR 0 0 0) D s0 b0 A G [.int i, .int n, .null] (fun v G1 => v = some (.int i) ∧ G1 = G) := by
  refine jM.of (by decide +kernel) (own := RJ7) rfl (Nat.le_of_ble_eq_true rfl) ?_
  intro p e s m args below meth c hX hr hlk hnm
  refine jr_iload_n (i := 0) hX rfl rfl dJ7_checkIndex_0 ?_
  refine jr_if_lt hX (tgt := 9) (by decide) dJ7_checkIndex_1 (fun c_1 => absurd c_1 h1) (fun c_1 => ?_)
  refine jr_iload_n (i := 0) hX rfl rfl dJ7_checkIndex_4 ?_
  refine jr_iload_n (i := 1) hX rfl rfl dJ7_checkIndex_5 ?_
  refine jr_icmp_lt hX (tgt := 16) (by decide) dJ7_checkIndex_6 (fun c_6 => ?_) (fun c_6 => absurd h2 c_6)
  refine jr_iload_n (i := 0) hX rfl rfl dJ7_checkIndex_16 ?_
  exact jr_iret hX hlk hr ⟨rfl, rfl⟩ dJ7_checkIndex_17

set_option maxHeartbeats 4000000 in
set_option maxRecDepth 100000 in
theorem met_ochk (l : Launch) (D : va_G) (s0 : State) (b0 : Nat) (A : Nat → Prop) (G : jG) (i n : Int32) (h1 : ¬ i < 0) (h2 : i < n) : jM l yJ6_checkIndex (ws_ yJ6_checkIndex cJ6_checkIndex 2 (some .int)) (jR 1 0 0) D s0 b0 A G [.int i, .int n] (fun v G1 => v = some (.int i) ∧ G1 = G) := by
  refine jM.of (by decide +kernel) (own := RJ6) rfl (Nat.le_of_ble_eq_true rfl) ?_
  intro p e s m args below meth c hX hr hlk hnm
  refine jr_iload_n (i := 0) hX rfl rfl dJ6_checkIndex_0 ?_
  refine jr_iload_n (i := 1) hX rfl rfl dJ6_checkIndex_1 ?_
  refine jr_null hX dJ6_checkIndex_2 ?_
  refine jr_callS (As := [.int i, .int n, .null]) (bc1 := 0) (bs1 := 0) hX (met_pchk l D s0 b0 A G i n h1 h2) (va_cwS 3 hX.ts (lw_S q310 q311 q76 q312) rfl rfl rfl (by decide +kernel) ⟨Nat.le_of_ble_eq_true rfl, Nat.le_of_ble_eq_true rfl⟩) rfl (Nat.le_of_ble_eq_true rfl) (by first | omega | (dsimp only; omega) | (show _ ≤ _; simp only []; omega)) (by first | omega | (dsimp only; omega) | (show _ ≤ _; simp only []; omega)) rfl dJ6_checkIndex_3 (fun v_3 G_3 hp_3 => ?_)
  obtain ⟨rfl, e9⟩ := hp_3
  rw [e9]
  exact jr_iret hX hlk hr ⟨rfl, rfl⟩ dJ6_checkIndex_6

set_option maxHeartbeats 4000000 in
set_option maxRecDepth 100000 in
theorem met_newlen (l : Launch) (D : va_G) (s0 : State) (b0 : Nat) (A : Nat → Prop) (G : jG) (o mn pf : Nat) (ho : o ≤ 20000) (hm : mn ≤ 20000) (hp : pf ≤ 20000) (h0 : 0 < o + max mn pf) : jM l yJ3_newLength (ws_ yJ3_newLength cJ3_newLength 4 (some .int)) (jR 1 0 0) D s0 b0 A G [.int (nI o), .int (nI mn), .int (nI pf)] (fun v G1 => v = some (.int (nI (o + max mn pf))) ∧ G1 = G) := by
  refine jM.of (by decide +kernel) (own := RJ3) rfl (Nat.le_of_ble_eq_true rfl) ?_
  intro p e s m args below meth c hX hr hlk hnm
  refine jr_iload_n (i := 0) hX rfl rfl dJ3_newLength_0 ?_
  refine jr_iload_n (i := 1) hX rfl rfl dJ3_newLength_1 ?_
  refine jr_iload_n (i := 2) hX rfl rfl dJ3_newLength_2 ?_
  refine jr_callS (As := [.int (nI mn), .int (nI pf)]) (bc1 := 0) (bs1 := 0) hX (met_max l D s0 b0 A G (nI mn) (nI pf)) (va_cwS 2 hX.ts (lw_S q204 q205 q72 q206) rfl rfl rfl (by decide +kernel) ⟨Nat.le_of_ble_eq_true rfl, Nat.le_of_ble_eq_true rfl⟩) rfl (Nat.le_of_ble_eq_true rfl) (by first | omega | (dsimp only; omega) | (show _ ≤ _; simp only []; omega)) (by first | omega | (dsimp only; omega) | (show _ ≤ _; simp only []; omega)) rfl dJ3_newLength_3 (fun v_3 G_3 hp_3 => ?_)
  obtain ⟨rfl, e9⟩ := hp_3
  rw [e9]
  refine jr_iadd hX dJ3_newLength_6 ?_
  rw [show nI o + (if nI mn < nI pf then nI pf else nI mn) = nI (o + max mn pf) from by
    by_cases c : mn < pf
    · rw [if_pos (nI_lt c (by omega)), nI_add, show max mn pf = pf by omega]
    · rw [if_neg (nI_nlt (by omega) (by omega)), nI_add, show max mn pf = mn by omega]]
  refine jr_istore_n (i := 3) hX rfl (by decide) rfl dJ3_newLength_7 ?_
  refine jr_iconst (v := 0) hX rfl dJ3_newLength_8 ?_
  refine jr_iload_n (i := 3) hX rfl rfl dJ3_newLength_9 ?_
  refine jr_icmp_ge hX (tgt := 21) (by decide) dJ3_newLength_10 (fun c_10 => absurd c_10 (nI_nle h0 (by omega))) (fun c_10 => ?_)
  refine jr_iload_n (i := 3) hX rfl rfl dJ3_newLength_13 ?_
  refine jr_ldc hX q207 dJ3_newLength_14 ?_
  refine jr_icmp_gt hX (tgt := 21) (by decide) dJ3_newLength_16 (fun c_16 => absurd c_16 (nI_nlt (a := 2147483639) (b := o + max mn pf) (by omega) (by omega))) (fun c_16 => ?_)
  refine jr_iload_n (i := 3) hX rfl rfl dJ3_newLength_19 ?_
  exact jr_iret hX hlk hr ⟨rfl, rfl⟩ dJ3_newLength_20
