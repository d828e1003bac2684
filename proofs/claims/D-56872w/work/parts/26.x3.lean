/-! operands and kinds of instructions -/
def sOp (t : Nat) (x : Int32) : Bool := match t with
  | 0 => decide (0 ≤ x ∧ x ≤ 3)
  | 1 => decide (0 ≤ x ∧ x ≤ 10)
  | 2 => decide (0 ≤ x ∧ x ≤ 4)
  | 3 => decide (0 ≤ x ∧ x ≤ 3)
  | 4 => decide (0 ≤ x ∧ x ≤ 2)
  | 5 => decide (0 ≤ x ∧ (0 ≤ x / 10 ∧ x / 10 ≤ 2) ∧ x - x / 10 * 10 < 4)
  | _ => true
def sKi (x : sIns) : Int32 := if x.1 = 2 then x.2.2.1 else if x.1 = 3 ∨ x.1 = 4 then x.2.2.1 / 10 else -1
theorem jCU.of {R : Room} {s : State} {args : Array Value} {own C owner : String} {index : Nat} {x y : MethodName} {bytes : ByteArray} {maxL : Nat} {ret : Option FieldType} {rm : Room} (n : Nat) (hts : ∀ w ∈ lw_all, w.before args s = true) (h1 : Cond.methodLink own index x ∈ lw_all) (h2 : Cond.sameMethod x.cls owner x.name x.desc ∈ lw_all) (hd : va_Decl s ⟨owner, x.name, x.desc⟩) (h3 : Cond.selects C x y ∈ lw_all) (h4 : Cond.instanceMethod y ∈ lw_all) (h5 : Cond.code y bytes maxL ret ∈ lw_all) (hk : owner ≠ "java/lang/invoke/MethodHandle" ∧ owner ≠ "java/lang/invoke/VarHandle" ∧ (parseMethodDescriptor x.desc).map (fun d => d.parameters.length) = some n) (hR : rm.frames + 1 ≤ R.frames ∧ 8 + (maxL + 11) + rm.locals ≤ R.locals) : jCU R s args own C owner index x y bytes maxL ret (ws_ y bytes maxL ret) rm n := by
  refine ⟨⟨hR.1, hR.2, pay_in hts (lw_meth h5), List.mem_cons_self⟩, hts _ h5, ⟨hk.1, hk.2.1⟩, fun sig h => ?_, hts _ h1, hts _ h2, hd, hts _ h3, hts _ h4⟩
  have h2 := hk.2.2
  rw [h] at h2
  exact (Option.some.inj h2).symm

set_option maxHeartbeats 4000000 in
set_option maxRecDepth 100000 in
theorem met_op0 (l : Launch) (D : va_G) (s0 : State) (b0 : Nat) (A : Nat → Prop) (G : jG) (o : Nat) (x : Int32) : jMc l yX22_isIn (ws_ yX22_isIn cX22_isIn 2 (some .boolean)) (jR 1 0 0) D s0 b0 A G [.ref o, .int x] (fun v G1 => v = some (.int (jbz (sOp 0 x))) ∧ G1 = G) := by
  refine jMc.of (by decide +kernel) (own := RX22) rfl (Nat.le_of_ble_eq_true rfl) ?_
  intro p e s m args below meth c hX hr hlk hnm
  refine jr_iload_n (i := 1) hX rfl rfl dX22_isIn_0 ?_
  refine jr_iconst (v := 0) hX rfl dX22_isIn_1 ?_
  refine jr_iconst (v := 3) hX rfl dX22_isIn_2 ?_
  refine jr_callSN (As := [.int x, .int 0, .int 3]) (bc1 := (0)) (bs1 := (0)) hX (met_isIn l D s0 b0 A _ x 0 3) ⟨va_cnB 3 hX.ts (lw_meth q455) rfl rfl rfl (hX.S.mn q556) (hX.ts _ q65) (by decide +kernel) ⟨Nat.le_of_ble_eq_true rfl, Nat.le_of_ble_eq_true rfl⟩, hX.ts _ q454, trivial⟩ rfl (Nat.le_of_ble_eq_true rfl) (by first | omega | (dsimp only; omega) | (show _ ≤ _; simp only []; omega)) (by first | omega | (dsimp only; omega) | (show _ ≤ _; simp only []; omega)) rfl dX22_isIn_3 (fun v_3 G_3 hp_3 => ?_)
  obtain ⟨rfl, e9⟩ := hp_3
  rw [e9]
  exact jr_zret hX hlk hr (jbz_n _) ⟨rfl, rfl⟩ dX22_isIn_6

set_option maxHeartbeats 4000000 in
set_option maxRecDepth 100000 in
theorem met_op1 (l : Launch) (D : va_G) (s0 : State) (b0 : Nat) (A : Nat → Prop) (G : jG) (o : Nat) (x : Int32) : jMc l yX23_isIn (ws_ yX23_isIn cX23_isIn 2 (some .boolean)) (jR 1 0 0) D s0 b0 A G [.ref o, .int x] (fun v G1 => v = some (.int (jbz (sOp 1 x))) ∧ G1 = G) := by
  refine jMc.of (by decide +kernel) (own := RX23) rfl (Nat.le_of_ble_eq_true rfl) ?_
  intro p e s m args below meth c hX hr hlk hnm
  refine jr_iload_n (i := 1) hX rfl rfl dX23_isIn_0 ?_
  refine jr_iconst (v := 0) hX rfl dX23_isIn_1 ?_
  refine jr_bipush (v := 10) hX (by decide) dX23_isIn_2 ?_
  refine jr_callSN (As := [.int x, .int 0, .int 10]) (bc1 := (0)) (bs1 := (0)) hX (met_isIn l D s0 b0 A _ x 0 10) ⟨va_cnB 3 hX.ts (lw_meth q455) rfl rfl rfl (hX.S.mn q560) (hX.ts _ q65) (by decide +kernel) ⟨Nat.le_of_ble_eq_true rfl, Nat.le_of_ble_eq_true rfl⟩, hX.ts _ q454, trivial⟩ rfl (Nat.le_of_ble_eq_true rfl) (by first | omega | (dsimp only; omega) | (show _ ≤ _; simp only []; omega)) (by first | omega | (dsimp only; omega) | (show _ ≤ _; simp only []; omega)) rfl dX23_isIn_4 (fun v_4 G_4 hp_4 => ?_)
  obtain ⟨rfl, e9⟩ := hp_4
  rw [e9]
  exact jr_zret hX hlk hr (jbz_n _) ⟨rfl, rfl⟩ dX23_isIn_7

set_option maxHeartbeats 4000000 in
set_option maxRecDepth 100000 in
theorem met_op2 (l : Launch) (D : va_G) (s0 : State) (b0 : Nat) (A : Nat → Prop) (G : jG) (o : Nat) (x : Int32) : jMc l yX24_isIn (ws_ yX24_isIn cX24_isIn 2 (some .boolean)) (jR 1 0 0) D s0 b0 A G [.ref o, .int x] (fun v G1 => v = some (.int (jbz (sOp 2 x))) ∧ G1 = G) := by
  refine jMc.of (by decide +kernel) (own := RX24) rfl (Nat.le_of_ble_eq_true rfl) ?_
  intro p e s m args below meth c hX hr hlk hnm
  refine jr_iload_n (i := 1) hX rfl rfl dX24_isIn_0 ?_
  refine jr_iconst (v := 0) hX rfl dX24_isIn_1 ?_
  refine jr_iconst (v := 4) hX rfl dX24_isIn_2 ?_
  refine jr_callSN (As := [.int x, .int 0, .int 4]) (bc1 := (0)) (bs1 := (0)) hX (met_isIn l D s0 b0 A _ x 0 4) ⟨va_cnB 3 hX.ts (lw_meth q455) rfl rfl rfl (hX.S.mn q564) (hX.ts _ q65) (by decide +kernel) ⟨Nat.le_of_ble_eq_true rfl, Nat.le_of_ble_eq_true rfl⟩, hX.ts _ q454, trivial⟩ rfl (Nat.le_of_ble_eq_true rfl) (by first | omega | (dsimp only; omega) | (show _ ≤ _; simp only []; omega)) (by first | omega | (dsimp only; omega) | (show _ ≤ _; simp only []; omega)) rfl dX24_isIn_3 (fun v_3 G_3 hp_3 => ?_)
  obtain ⟨rfl, e9⟩ := hp_3
  rw [e9]
  exact jr_zret hX hlk hr (jbz_n _) ⟨rfl, rfl⟩ dX24_isIn_6

set_option maxHeartbeats 4000000 in
set_option maxRecDepth 100000 in
theorem met_op3 (l : Launch) (D : va_G) (s0 : State) (b0 : Nat) (A : Nat → Prop) (G : jG) (o : Nat) (x : Int32) : jMc l yX25_isIn (ws_ yX25_isIn cX25_isIn 2 (some .boolean)) (jR 1 0 0) D s0 b0 A G [.ref o, .int x] (fun v G1 => v = some (.int (jbz (sOp 3 x))) ∧ G1 = G) := by
  refine jMc.of (by decide +kernel) (own := RX25) rfl (Nat.le_of_ble_eq_true rfl) ?_
  intro p e s m args below meth c hX hr hlk hnm
  refine jr_iload_n (i := 1) hX rfl rfl dX25_isIn_0 ?_
  refine jr_iconst (v := 0) hX rfl dX25_isIn_1 ?_
  refine jr_iconst (v := 3) hX rfl dX25_isIn_2 ?_
  refine jr_callSN (As := [.int x, .int 0, .int 3]) (bc1 := (0)) (bs1 := (0)) hX (met_isIn l D s0 b0 A _ x 0 3) ⟨va_cnB 3 hX.ts (lw_meth q455) rfl rfl rfl (hX.S.mn q568) (hX.ts _ q65) (by decide +kernel) ⟨Nat.le_of_ble_eq_true rfl, Nat.le_of_ble_eq_true rfl⟩, hX.ts _ q454, trivial⟩ rfl (Nat.le_of_ble_eq_true rfl) (by first | omega | (dsimp only; omega) | (show _ ≤ _; simp only []; omega)) (by first | omega | (dsimp only; omega) | (show _ ≤ _; simp only []; omega)) rfl dX25_isIn_3 (fun v_3 G_3 hp_3 => ?_)
  obtain ⟨rfl, e9⟩ := hp_3
  rw [e9]
  exact jr_zret hX hlk hr (jbz_n _) ⟨rfl, rfl⟩ dX25_isIn_6

set_option maxHeartbeats 4000000 in
set_option maxRecDepth 100000 in
theorem met_op4 (l : Launch) (D : va_G) (s0 : State) (b0 : Nat) (A : Nat → Prop) (G : jG) (o : Nat) (x : Int32) : jMc l yX26_isIn (ws_ yX26_isIn cX26_isIn 2 (some .boolean)) (jR 1 0 0) D s0 b0 A G [.ref o, .int x] (fun v G1 => v = some (.int (jbz (sOp 4 x))) ∧ G1 = G) := by
  refine jMc.of (by decide +kernel) (own := RX26) rfl (Nat.le_of_ble_eq_true rfl) ?_
  intro p e s m args below meth c hX hr hlk hnm
  refine jr_iload_n (i := 1) hX rfl rfl dX26_isIn_0 ?_
  refine jr_iconst (v := 0) hX rfl dX26_isIn_1 ?_
  refine jr_iconst (v := 2) hX rfl dX26_isIn_2 ?_
  refine jr_callSN (As := [.int x, .int 0, .int 2]) (bc1 := (0)) (bs1 := (0)) hX (met_isIn l D s0 b0 A _ x 0 2) ⟨va_cnB 3 hX.ts (lw_meth q455) rfl rfl rfl (hX.S.mn q572) (hX.ts _ q65) (by decide +kernel) ⟨Nat.le_of_ble_eq_true rfl, Nat.le_of_ble_eq_true rfl⟩, hX.ts _ q454, trivial⟩ rfl (Nat.le_of_ble_eq_true rfl) (by first | omega | (dsimp only; omega) | (show _ ≤ _; simp only []; omega)) (by first | omega | (dsimp only; omega) | (show _ ≤ _; simp only []; omega)) rfl dX26_isIn_3 (fun v_3 G_3 hp_3 => ?_)
  obtain ⟨rfl, e9⟩ := hp_3
  rw [e9]
  exact jr_zret hX hlk hr (jbz_n _) ⟨rfl, rfl⟩ dX26_isIn_6

set_option maxHeartbeats 4000000 in
set_option maxRecDepth 100000 in
theorem met_op6 (l : Launch) (D : va_G) (s0 : State) (b0 : Nat) (A : Nat → Prop) (G : jG) (o : Nat) (x : Int32) : jMc l yX27_isIn (ws_ yX27_isIn cX27_isIn 2 (some .boolean)) (jR 1 0 0) D s0 b0 A G [.ref o, .int x] (fun v G1 => v = some (.int (jbz (sOp 6 x))) ∧ G1 = G) := by
  refine jMc.of (by decide +kernel) (own := RX27) rfl (Nat.le_of_ble_eq_true rfl) ?_
  intro p e s m args below meth c hX hr hlk hnm
  refine jr_iconst (v := 1) hX rfl dX27_isIn_0 ?_
  exact jr_zret hX hlk hr (by decide) ⟨rfl, rfl⟩ dX27_isIn_1

set_option maxHeartbeats 4000000 in
set_option maxRecDepth 100000 in
theorem met_op5 (l : Launch) (D : va_G) (s0 : State) (b0 : Nat) (A : Nat → Prop) (G : jG) (o : Nat) (x : Int32) : jMc l yX9_isIn (ws_ yX9_isIn cX9_isIn 2 (some .boolean)) (jR 2 0 0) D s0 b0 A G [.ref o, .int x] (fun v G1 => v = some (.int (jbz (sOp 5 x))) ∧ G1 = G) := by
  refine jMc.of (by decide +kernel) (own := RX9) rfl (Nat.le_of_ble_eq_true rfl) ?_
  intro p e s m args below meth c hX hr hlk hnm
  refine jr_iload_n (i := 1) hX rfl rfl dX9_isIn_0 ?_
  refine jr_if_lt hX (tgt := 29) (by decide) dX9_isIn_1 (fun c_1 => ?_) (fun c_1 => ?_)
  · refine jr_iconst (v := 0) hX rfl dX9_isIn_29 ?_
    exact jr_zret hX hlk hr (by decide) ⟨by rw [show sOp 5 x = false from decide_eq_false (fun q => absurd c_1 (Int32.not_lt.mpr q.1))]; rfl, rfl⟩ dX9_isIn_30
  · refine jr_gets hX (en_Zo hX.S (q := 4) (by omega)) q576 (u_same (hX.ts _ q577)) dX9_isIn_4 ?_
    refine jr_iload_n (i := 1) hX rfl rfl dX9_isIn_7 ?_
    refine jr_bipush (v := 10) hX (by decide) dX9_isIn_8 ?_
    refine jr_idiv hX (by decide) dX9_isIn_10 ?_
    refine jr_callKC (As := [.int (x / 10)]) (bc1 := 0) (bs1 := 0) hX (met_op4 l D s0 b0 A G _ (x / 10)) (jCU.of 1 hX.ts q579 q552 (va_Decl.abs (hX.S.decl q551)) q569 q570 q571 (by decide +kernel) ⟨Nat.le_of_ble_eq_true rfl, Nat.le_of_ble_eq_true rfl⟩) (en_op hX.S (t := 4) (by omega)).2 rfl (Nat.le_of_ble_eq_true rfl) (Nat.le_of_ble_eq_true rfl) (Nat.le_of_ble_eq_true rfl) rfl dX9_isIn_11 (fun v_11 G_11 hp_11 => ?_)
    obtain ⟨rfl, e9⟩ := hp_11
    rw [e9]
    refine jr_if_eq hX (tgt := 29) (by decide) dX9_isIn_14 (fun c_14 => ?_) (fun c_14 => ?_)
    · refine jr_iconst (v := 0) hX rfl dX9_isIn_29 ?_
      exact jr_zret hX hlk hr (by decide) ⟨by rw [show sOp 5 x = false from decide_eq_false (fun q => by have := decide_eq_false_iff_not.mp (jbz_0 c_14); exact this q.2.1)]; rfl, rfl⟩ dX9_isIn_30
    · refine jr_iload_n (i := 1) hX rfl rfl dX9_isIn_17 ?_
      refine jr_bipush (v := 10) hX (by decide) dX9_isIn_18 ?_
      refine jr_irem hX (by decide) dX9_isIn_20 ?_
      refine jr_iconst (v := 4) hX rfl dX9_isIn_21 ?_
      refine jr_icmp_ge hX (tgt := 29) (by decide) dX9_isIn_22 (fun c_22 => ?_) (fun c_22 => ?_)
      · refine jr_iconst (v := 0) hX rfl dX9_isIn_29 ?_
        exact jr_zret hX hlk hr (by decide) ⟨by rw [show sOp 5 x = false from decide_eq_false (fun q => absurd c_22 (Int32.not_le.mpr q.2.2))]; rfl, rfl⟩ dX9_isIn_30
      · refine jr_iconst (v := 1) hX rfl dX9_isIn_25 ?_
        refine jr_goto hX (tgt := 30) (by decide) dX9_isIn_26 ?_
        exact jr_zret hX hlk hr (by decide) ⟨by rw [show sOp 5 x = true from decide_eq_true ⟨Int32.not_lt.mp c_1, of_decide_eq_true (jbz_1 c_14), Int32.not_le.mp c_22⟩]; rfl, rfl⟩ dX9_isIn_30

section JOP
variable {p : Program} {l : Launch} {e : Env} {R : Room} {s : State} {m : MethodId} {args : Array Value} {below : List Frame} {meth : Method} {c : Code} {Q : State → Prop} {D : va_G} {s0 : State} {b0 : Nat} {A : Nat → Prop} {cc : ByteArray} {nL : Nat} {own : String} {G : jG} {bc bs pc : Nat} {lv : List (Nat × Value)} {st : List Value} {post : Option Value → jG → Prop}
theorem jr_op {mc ms : Nat} (hX : jX D s0 b0 A p s m args c cc nL RX8) {t : Nat} (ht : t < 7) {x : Int32} {rest : List Value} (hw : (rest.map fun v => v.category).sum ≤ 8) (d : decode cc pc = .ok (.invokevirtual 75, 3)) (kk : Jg p l e (jR 3 mc ms) s m args below meth c Q D A nL G bc bs (pc + 3) lv (.int (jbz (sOp t x)) :: rest)) : Jg p l e (jR 3 mc ms) s m args below meth c Q D A nL G bc bs pc lv (.int x :: .ref (jOp s0 b0 t) :: rest) := by
  obtain rfl | rfl | rfl | rfl | rfl | rfl | rfl : t = 0 ∨ t = 1 ∨ t = 2 ∨ t = 3 ∨ t = 4 ∨ t = 5 ∨ t = 6 := by omega
  · refine jr_callKC (As := [.int x]) (bc1 := bc) (bs1 := bs) hX (met_op0 l D s0 b0 A G _ x) (jCU.of 1 hX.ts q550 q552 (va_Decl.abs (hX.S.decl q551)) q553 q554 q555 (by decide +kernel) ⟨Nat.le_of_ble_eq_true rfl, Nat.le_of_ble_eq_true rfl⟩) (en_op hX.S (t := 0) (by omega)).2 rfl hw (Nat.le_refl _) (Nat.le_refl _) rfl d (fun v G1 hp => ?_)
    obtain ⟨rfl, e9⟩ := hp
    rw [e9]; exact kk
  · refine jr_callKC (As := [.int x]) (bc1 := bc) (bs1 := bs) hX (met_op1 l D s0 b0 A G _ x) (jCU.of 1 hX.ts q550 q552 (va_Decl.abs (hX.S.decl q551)) q557 q558 q559 (by decide +kernel) ⟨Nat.le_of_ble_eq_true rfl, Nat.le_of_ble_eq_true rfl⟩) (en_op hX.S (t := 1) (by omega)).2 rfl hw (Nat.le_refl _) (Nat.le_refl _) rfl d (fun v G1 hp => ?_)
    obtain ⟨rfl, e9⟩ := hp
    rw [e9]; exact kk
  · refine jr_callKC (As := [.int x]) (bc1 := bc) (bs1 := bs) hX (met_op2 l D s0 b0 A G _ x) (jCU.of 1 hX.ts q550 q552 (va_Decl.abs (hX.S.decl q551)) q561 q562 q563 (by decide +kernel) ⟨Nat.le_of_ble_eq_true rfl, Nat.le_of_ble_eq_true rfl⟩) (en_op hX.S (t := 2) (by omega)).2 rfl hw (Nat.le_refl _) (Nat.le_refl _) rfl d (fun v G1 hp => ?_)
    obtain ⟨rfl, e9⟩ := hp
    rw [e9]; exact kk
  · refine jr_callKC (As := [.int x]) (bc1 := bc) (bs1 := bs) hX (met_op3 l D s0 b0 A G _ x) (jCU.of 1 hX.ts q550 q552 (va_Decl.abs (hX.S.decl q551)) q565 q566 q567 (by decide +kernel) ⟨Nat.le_of_ble_eq_true rfl, Nat.le_of_ble_eq_true rfl⟩) (en_op hX.S (t := 3) (by omega)).2 rfl hw (Nat.le_refl _) (Nat.le_refl _) rfl d (fun v G1 hp => ?_)
    obtain ⟨rfl, e9⟩ := hp
    rw [e9]; exact kk
  · refine jr_callKC (As := [.int x]) (bc1 := bc) (bs1 := bs) hX (met_op4 l D s0 b0 A G _ x) (jCU.of 1 hX.ts q550 q552 (va_Decl.abs (hX.S.decl q551)) q569 q570 q571 (by decide +kernel) ⟨Nat.le_of_ble_eq_true rfl, Nat.le_of_ble_eq_true rfl⟩) (en_op hX.S (t := 4) (by omega)).2 rfl hw (Nat.le_refl _) (Nat.le_refl _) rfl d (fun v G1 hp => ?_)
    obtain ⟨rfl, e9⟩ := hp
    rw [e9]; exact kk
  · refine jr_callKC (As := [.int x]) (bc1 := bc) (bs1 := bs) hX (met_op5 l D s0 b0 A G _ x) (jCU.of 1 hX.ts q550 q552 (va_Decl.abs (hX.S.decl q551)) q573 q574 q575 (by decide +kernel) ⟨Nat.le_of_ble_eq_true rfl, Nat.le_of_ble_eq_true rfl⟩) (en_op hX.S (t := 5) (by omega)).2 rfl hw (Nat.le_refl _) (Nat.le_refl _) rfl d (fun v G1 hp => ?_)
    obtain ⟨rfl, e9⟩ := hp
    rw [e9]; exact kk
  · refine jr_callKC (As := [.int x]) (bc1 := bc) (bs1 := bs) hX (met_op6 l D s0 b0 A G _ x) (jCU.of 1 hX.ts q550 q552 (va_Decl.abs (hX.S.decl q551)) q582 q580 q581 (by decide +kernel) ⟨Nat.le_of_ble_eq_true rfl, Nat.le_of_ble_eq_true rfl⟩) (en_op hX.S (t := 6) (by omega)).2 rfl hw (Nat.le_refl _) (Nat.le_refl _) rfl d (fun v G1 hp => ?_)
    obtain ⟨rfl, e9⟩ := hp
    rw [e9]; exact kk
end JOP

set_option maxHeartbeats 4000000 in
set_option maxRecDepth 100000 in
theorem met_areIn (l : Launch) (D : va_G) (s0 : State) (b0 : Nat) (A : Nat → Prop) (G : jG) (q : Nat) (hq : q < 12) (x y z : Int32) : jM l yX8_areIn (ws_ yX8_areIn cX8_areIn 4 (some .boolean)) (jR 3 0 0) D s0 b0 A G [.ref (jCd s0 b0 q), .int x, .int y, .int z] (fun v G1 => v = some (.int (jbz (sOp (sO1.getD q 0) x && sOp (sO2.getD q 0) y && sOp (sO3.getD q 0) z))) ∧ G1 = G) := by
  refine jM.of (by decide +kernel) (own := RX8) rfl (Nat.le_of_ble_eq_true rfl) ?_
  intro p e s m args below meth c hX hr hlk hnm
  refine jr_aload_n (i := 0) hX rfl rfl dX8_areIn_0 ?_
  refine jr_getK hX (en_f hX.S hq).2.2.1 q2268 (fun x h => h) dX8_areIn_1 ?_
  refine jr_iload_n (i := 1) hX rfl rfl dX8_areIn_4 ?_
  refine jr_op hX (en_sO q hq).1 (Nat.le_of_ble_eq_true rfl) dX8_areIn_5 ?_
  refine jr_if_eq hX (tgt := 37) (by decide) dX8_areIn_8 (fun c_8 => ?_) (fun c_8 => ?_)
  · refine jr_iconst (v := 0) hX rfl dX8_areIn_37 ?_
    exact jr_zret hX hlk hr (by decide) ⟨by rw [jbz_0 c_8, Bool.false_and, Bool.false_and]; rfl, rfl⟩ dX8_areIn_38
  · refine jr_aload_n (i := 0) hX rfl rfl dX8_areIn_11 ?_
    refine jr_getK hX (en_f hX.S hq).2.2.2.1 q2269 (fun x h => h) dX8_areIn_12 ?_
    refine jr_iload_n (i := 2) hX rfl rfl dX8_areIn_15 ?_
    refine jr_op hX (en_sO q hq).2.1 (Nat.le_of_ble_eq_true rfl) dX8_areIn_16 ?_
    refine jr_if_eq hX (tgt := 37) (by decide) dX8_areIn_19 (fun c_19 => ?_) (fun c_19 => ?_)
    · refine jr_iconst (v := 0) hX rfl dX8_areIn_37 ?_
      exact jr_zret hX hlk hr (by decide) ⟨by rw [jbz_0 c_19, Bool.and_false, Bool.false_and]; rfl, rfl⟩ dX8_areIn_38
    · refine jr_aload_n (i := 0) hX rfl rfl dX8_areIn_22 ?_
      refine jr_getK hX (en_f hX.S hq).2.2.2.2 q2270 (fun x h => h) dX8_areIn_23 ?_
      refine jr_iload_n (i := 3) hX rfl rfl dX8_areIn_26 ?_
      refine jr_op hX (en_sO q hq).2.2 (Nat.le_of_ble_eq_true rfl) dX8_areIn_27 ?_
      refine jr_if_eq hX (tgt := 37) (by decide) dX8_areIn_30 (fun c_30 => ?_) (fun c_30 => ?_)
      · refine jr_iconst (v := 0) hX rfl dX8_areIn_37 ?_
        exact jr_zret hX hlk hr (by decide) ⟨by rw [jbz_0 c_30, Bool.and_false]; rfl, rfl⟩ dX8_areIn_38
      · refine jr_iconst (v := 1) hX rfl dX8_areIn_33 ?_
        refine jr_goto hX (tgt := 38) (by decide) dX8_areIn_34 ?_
        exact jr_zret hX hlk hr (by decide) ⟨by rw [jbz_1 c_8, jbz_1 c_19, jbz_1 c_30]; rfl, rfl⟩ dX8_areIn_38

set_option maxHeartbeats 4000000 in
set_option maxRecDepth 100000 in
theorem met_kind_n (l : Launch) (D : va_G) (s0 : State) (b0 : Nat) (A : Nat → Prop) (G : jG) (o b : Nat) (x : sIns) (hb : G b = some (jIn s0 b0 x)) (hx : x.1 = 2) : jMc l yX19_kindOf (ws_ yX19_kindOf cX19_kindOf 2 (some .int)) (jR 0 0 0) D s0 b0 A G [.ref o, .ref b] (fun v G1 => v = some (.int (sKi x)) ∧ G1 = G) := by
  refine jMc.of (by decide +kernel) (own := RX19) rfl (Nat.le_of_ble_eq_true rfl) ?_
  intro p e s m args below meth c hX hr hlk hnm
  refine jr_aload_n (i := 1) hX rfl rfl dX19_kindOf_0 ?_
  refine jr_getN (ci := 9) (k := 2) hX (by first | assumption | exact jup_s) rfl in_X10 (by decide) q618 rfl dX19_kindOf_1 ?_
  exact jr_iret hX hlk hr ⟨by simp [sKi, s_nb, hx], rfl⟩ dX19_kindOf_4

set_option maxHeartbeats 4000000 in
set_option maxRecDepth 100000 in
theorem met_kind_g (l : Launch) (D : va_G) (s0 : State) (b0 : Nat) (A : Nat → Prop) (G : jG) (o b : Nat) (x : sIns) (hb : G b = some (jIn s0 b0 x)) (hx : x.1 = 3) : jMc l yX20_kindOf (ws_ yX20_kindOf cX20_kindOf 2 (some .int)) (jR 0 0 0) D s0 b0 A G [.ref o, .ref b] (fun v G1 => v = some (.int (sKi x)) ∧ G1 = G) := by
  refine jMc.of (by decide +kernel) (own := RX20) rfl (Nat.le_of_ble_eq_true rfl) ?_
  intro p e s m args below meth c hX hr hlk hnm
  refine jr_aload_n (i := 1) hX rfl rfl dX20_kindOf_0 ?_
  refine jr_getN (ci := 9) (k := 2) hX (by first | assumption | exact jup_s) rfl in_X10 (by decide) q619 rfl dX20_kindOf_1 ?_
  refine jr_bipush (v := 10) hX (by decide) dX20_kindOf_4 ?_
  refine jr_idiv hX (by decide) dX20_kindOf_6 ?_
  exact jr_iret hX hlk hr ⟨by simp [sKi, s_nb, hx], rfl⟩ dX20_kindOf_7

set_option maxHeartbeats 4000000 in
set_option maxRecDepth 100000 in
theorem met_kind_p (l : Launch) (D : va_G) (s0 : State) (b0 : Nat) (A : Nat → Prop) (G : jG) (o b : Nat) (x : sIns) (hb : G b = some (jIn s0 b0 x)) (hx : x.1 = 4) : jMc l yX21_kindOf (ws_ yX21_kindOf cX21_kindOf 2 (some .int)) (jR 0 0 0) D s0 b0 A G [.ref o, .ref b] (fun v G1 => v = some (.int (sKi x)) ∧ G1 = G) := by
  refine jMc.of (by decide +kernel) (own := RX21) rfl (Nat.le_of_ble_eq_true rfl) ?_
  intro p e s m args below meth c hX hr hlk hnm
  refine jr_aload_n (i := 1) hX rfl rfl dX21_kindOf_0 ?_
  refine jr_getN (ci := 9) (k := 2) hX (by first | assumption | exact jup_s) rfl in_X10 (by decide) q620 rfl dX21_kindOf_1 ?_
  refine jr_bipush (v := 10) hX (by decide) dX21_kindOf_4 ?_
  refine jr_idiv hX (by decide) dX21_kindOf_6 ?_
  exact jr_iret hX hlk hr ⟨by simp [sKi, s_nb, hx], rfl⟩ dX21_kindOf_7

set_option maxHeartbeats 4000000 in
set_option maxRecDepth 100000 in
theorem met_kind_o (l : Launch) (D : va_G) (s0 : State) (b0 : Nat) (A : Nat → Prop) (G : jG) (o b : Nat) (x : sIns) (hx : ¬ x.1 = 2 ∧ ¬ x.1 = 3 ∧ ¬ x.1 = 4) : jMc l yX8_kindOf (ws_ yX8_kindOf cX8_kindOf 2 (some .int)) (jR 0 0 0) D s0 b0 A G [.ref o, .ref b] (fun v G1 => v = some (.int (sKi x)) ∧ G1 = G) := by
  refine jMc.of (by decide +kernel) (own := RX8) rfl (Nat.le_of_ble_eq_true rfl) ?_
  intro p e s m args below meth c hX hr hlk hnm
  refine jr_iconst (v := -1) hX rfl dX8_kindOf_0 ?_
  exact jr_iret hX hlk hr ⟨by simp [sKi, hx], rfl⟩ dX8_kindOf_1

section JKD
variable {p : Program} {l : Launch} {e : Env} {R : Room} {s : State} {m : MethodId} {args : Array Value} {below : List Frame} {meth : Method} {c : Code} {Q : State → Prop} {D : va_G} {s0 : State} {b0 : Nat} {A : Nat → Prop} {cc : ByteArray} {nL : Nat} {own : String} {G : jG} {bc bs pc : Nat} {lv : List (Nat × Value)} {st : List Value} {post : Option Value → jG → Prop}
theorem jr_kind {d0 mc ms : Nat} (hX : jX D s0 b0 A p s m args c cc nL RX3) {b : Nat} {x : sIns} (hb : G b = some (jIn s0 b0 x)) (hq : x.1 < 12) {rest : List Value} (hw : (rest.map fun v => v.category).sum ≤ 8) (d : decode cc pc = .ok (.invokevirtual 89, 3)) (kk : Jg p l e (jR (d0 + 1) mc ms) s m args below meth c Q D A nL G bc bs (pc + 3) lv (.int (sKi x) :: rest)) : Jg p l e (jR (d0 + 1) mc ms) s m args below meth c Q D A nL G bc bs pc lv (.ref b :: .ref (jCd s0 b0 x.1) :: rest) := by
  by_cases h2 : x.1 = 2
  · refine jr_callKC (As := [.ref b]) (bc1 := bc) (bs1 := bs) (C := "SwapWhile$Code$1") hX (met_kind_n l D s0 b0 A G _ b x hb h2) (jCU.of 1 hX.ts q922 q925 (va_Decl.of (hX.ts _ q923) (hX.ts _ q935)) q926 q927 q928 (by decide +kernel) ⟨by show 0 + 1 ≤ d0 + 1; omega, by show 8 + (_ + 11) + 3200 ≤ 3200 + 40 * (d0 + 1); omega⟩) (by have h9 := (en_cd hX.S hq).2; rw [show jCC x.1 = "SwapWhile$Code$1" by simp [jCC, h2]] at h9; exact h9) rfl hw (Nat.le_refl _) (Nat.le_refl _) rfl d (fun v G1 hp => ?_)
    obtain ⟨rfl, e9⟩ := hp
    rw [e9]; exact kk
  by_cases h3 : x.1 = 3
  · refine jr_callKC (As := [.ref b]) (bc1 := bc) (bs1 := bs) (C := "SwapWhile$Code$2") hX (met_kind_g l D s0 b0 A G _ b x hb h3) (jCU.of 1 hX.ts q922 q925 (va_Decl.of (hX.ts _ q923) (hX.ts _ q935)) q929 q930 q931 (by decide +kernel) ⟨by show 0 + 1 ≤ d0 + 1; omega, by show 8 + (_ + 11) + 3200 ≤ 3200 + 40 * (d0 + 1); omega⟩) (by have h9 := (en_cd hX.S hq).2; rw [show jCC x.1 = "SwapWhile$Code$2" by simp [jCC, h3]] at h9; exact h9) rfl hw (Nat.le_refl _) (Nat.le_refl _) rfl d (fun v G1 hp => ?_)
    obtain ⟨rfl, e9⟩ := hp
    rw [e9]; exact kk
  by_cases h4 : x.1 = 4
  · refine jr_callKC (As := [.ref b]) (bc1 := bc) (bs1 := bs) (C := "SwapWhile$Code$3") hX (met_kind_p l D s0 b0 A G _ b x hb h4) (jCU.of 1 hX.ts q922 q925 (va_Decl.of (hX.ts _ q923) (hX.ts _ q935)) q932 q933 q934 (by decide +kernel) ⟨by show 0 + 1 ≤ d0 + 1; omega, by show 8 + (_ + 11) + 3200 ≤ 3200 + 40 * (d0 + 1); omega⟩) (by have h9 := (en_cd hX.S hq).2; rw [show jCC x.1 = "SwapWhile$Code$3" by simp [jCC, h4]] at h9; exact h9) rfl hw (Nat.le_refl _) (Nat.le_refl _) rfl d (fun v G1 hp => ?_)
    obtain ⟨rfl, e9⟩ := hp
    rw [e9]; exact kk
  · refine jr_callKC (As := [.ref b]) (bc1 := bc) (bs1 := bs) (C := "SwapWhile$Code") hX (met_kind_o l D s0 b0 A G _ b x ⟨h2, h3, h4⟩) (jCU.of 1 hX.ts q922 q925 (va_Decl.of (hX.ts _ q923) (hX.ts _ q935)) q924 q923 q935 (by decide +kernel) ⟨by show 0 + 1 ≤ d0 + 1; omega, by show 8 + (_ + 11) + 3200 ≤ 3200 + 40 * (d0 + 1); omega⟩) (by have h9 := (en_cd hX.S hq).2; rw [show jCC x.1 = "SwapWhile$Code" by simp [jCC, h2, h3, h4]] at h9; exact h9) rfl hw (Nat.le_refl _) (Nat.le_refl _) rfl d (fun v G1 hp => ?_)
    obtain ⟨rfl, e9⟩ := hp
    rw [e9]; exact kk
end JKD
