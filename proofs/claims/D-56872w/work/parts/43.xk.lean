/-! the ordinal; plain instructions -/
set_option maxHeartbeats 4000000 in
set_option maxRecDepth 100000 in
theorem met_ord (l : Launch) (D : va_G) (s0 : State) (b0 : Nat) (A : Nat → Prop) (G : jG) (q : Nat) (hq : q < 12) : jM l yJ12_ordinal (ws_ yJ12_ordinal cJ12_ordinal 1 (some .int)) (jR 0 0 0) D s0 b0 A G [.ref (jCd s0 b0 q)] (fun w G1 => w = some (.int (nI q)) ∧ G1 = G) := by
  refine jM.ofF (by decide +kernel) (own := RJ12) rfl (Nat.le_of_ble_eq_true rfl) ?_
  intro p e s m args below meth c hX hr hlk hnm
  refine jr_aload_n (i := 0) hX rfl rfl dJ12_ordinal_0 ?_
  refine jr_getK hX (en_f hX.S hq).1 q2273 (fun x h => h) dJ12_ordinal_1 ?_
  exact jr_iret hX hlk hr ⟨rfl, rfl⟩ dJ12_ordinal_4

section JOR
variable {p : Program} {l : Launch} {e : Env} {R : Room} {s : State} {m : MethodId} {args : Array Value} {below : List Frame} {meth : Method} {c : Code} {Q : State → Prop} {D : va_G} {s0 : State} {b0 : Nat} {A : Nat → Prop} {cc : ByteArray} {nL : Nat} {own : String} {G : jG} {bc bs pc : Nat} {lv : List (Nat × Value)} {st : List Value} {post : Option Value → jG → Prop}
theorem jr_ord {d0 mc ms : Nat} (hX : jX D s0 b0 A p s m args c cc nL RX1) {q : Nat} (hq : q < 12) {rest : List Value} (hw : (rest.map fun v => v.category).sum ≤ 8) (d : decode cc pc = .ok (.invokevirtual 365, 3)) (kk : Jg p l e (jR (d0 + 1) mc ms) s m args below meth c Q D A nL G bc bs (pc + 3) lv (.int (nI q) :: rest)) : Jg p l e (jR (d0 + 1) mc ms) s m args below meth c Q D A nL G bc bs pc lv (.ref (jCd s0 b0 q) :: rest) := by
  by_cases h2 : q = 2
  · refine jr_callKU (As := []) (bc1 := bc) (bs1 := bs) (C := "SwapWhile$Code$1") (owner := "java/lang/Enum") hX (met_ord l D s0 b0 A G q hq) (va_cwU 0 hX.ts (lw_U q1158 q1159 q1162 q1165 q85 q1166) rfl rfl rfl rfl (by decide +kernel) ⟨by show 0 + 1 ≤ d0 + 1; omega, by show 8 + (_ + 11) + 3200 ≤ 3200 + 40 * (d0 + 1); omega⟩) (by have h9 := (en_cd hX.S hq).2; rw [show jCC q = "SwapWhile$Code$1" by simp [jCC, h2]] at h9; exact h9) rfl hw (Nat.le_refl _) (Nat.le_refl _) rfl d (fun v G1 hp => ?_)
    obtain ⟨rfl, e9⟩ := hp
    rw [e9]; exact kk
  by_cases h3 : q = 3
  · refine jr_callKU (As := []) (bc1 := bc) (bs1 := bs) (C := "SwapWhile$Code$2") (owner := "java/lang/Enum") hX (met_ord l D s0 b0 A G q hq) (va_cwU 0 hX.ts (lw_U q1158 q1159 q1163 q1165 q85 q1166) rfl rfl rfl rfl (by decide +kernel) ⟨by show 0 + 1 ≤ d0 + 1; omega, by show 8 + (_ + 11) + 3200 ≤ 3200 + 40 * (d0 + 1); omega⟩) (by have h9 := (en_cd hX.S hq).2; rw [show jCC q = "SwapWhile$Code$2" by simp [jCC, h3]] at h9; exact h9) rfl hw (Nat.le_refl _) (Nat.le_refl _) rfl d (fun v G1 hp => ?_)
    obtain ⟨rfl, e9⟩ := hp
    rw [e9]; exact kk
  by_cases h4 : q = 4
  · refine jr_callKU (As := []) (bc1 := bc) (bs1 := bs) (C := "SwapWhile$Code$3") (owner := "java/lang/Enum") hX (met_ord l D s0 b0 A G q hq) (va_cwU 0 hX.ts (lw_U q1158 q1159 q1164 q1165 q85 q1166) rfl rfl rfl rfl (by decide +kernel) ⟨by show 0 + 1 ≤ d0 + 1; omega, by show 8 + (_ + 11) + 3200 ≤ 3200 + 40 * (d0 + 1); omega⟩) (by have h9 := (en_cd hX.S hq).2; rw [show jCC q = "SwapWhile$Code$3" by simp [jCC, h4]] at h9; exact h9) rfl hw (Nat.le_refl _) (Nat.le_refl _) rfl d (fun v G1 hp => ?_)
    obtain ⟨rfl, e9⟩ := hp
    rw [e9]; exact kk
  · refine jr_callKU (As := []) (bc1 := bc) (bs1 := bs) (C := "SwapWhile$Code") (owner := "java/lang/Enum") hX (met_ord l D s0 b0 A G q hq) (va_cwU 0 hX.ts (lw_U q1158 q1159 q1161 q1165 q85 q1166) rfl rfl rfl rfl (by decide +kernel) ⟨by show 0 + 1 ≤ d0 + 1; omega, by show 8 + (_ + 11) + 3200 ≤ 3200 + 40 * (d0 + 1); omega⟩) (by have h9 := (en_cd hX.S hq).2; rw [show jCC q = "SwapWhile$Code" by simp [jCC, h2, h3, h4]] at h9; exact h9) rfl hw (Nat.le_refl _) (Nat.le_refl _) rfl d (fun v G1 hp => ?_)
    obtain ⟨rfl, e9⟩ := hp
    rw [e9]; exact kk
end JOR

set_option maxHeartbeats 4000000 in
set_option maxRecDepth 100000 in
theorem met_act0 (l : Launch) (D : va_G) (s0 : State) (b0 : Nat) (A : Nat → Prop) (G : jG) (S : sSt) (ad : jN) (T : jT) (hR : jCo D s0 b0 S ad T G) (i j : Nat) (x : sFr) (hi3 : i < 3) (hx : (s_s S i).2[j]? = some x) (q : Nat) (hq : q < (s_i S).length) (hcode : (s_ins S q).1 = 0) (aa : Nat) (haa : (s_ins S q).2.1 = nI aa) (ha4 : aa < 4) : jM l yX1_act (ws_ yX1_act cX1_act 5 none) (jR 1 0 0) D s0 b0 A G [.ref (ad 1 0 0), .ref (ad 5 i 0), .ref (ad 8 i j), .ref (ad 20 q 0)] (fun w G1 => w = none ∧ jCo D s0 b0 (s_lw S i j x (upd x.2.2.2.1 aa (s_ins S q).2.2.1)) ad T G1 ∧ jFm 1 30 T G T G1) := by
  have hxx := co_x hR
  have hF := co_fr hR hi3 hx
  have hLo := co_loc hR hi3 hx
  have hst := co_str hR hi3
  have hI : G (ad 20 q 0) = some (jo 9 [.ref (jCd s0 b0 0), .int (nI aa), .int (s_ins S q).2.2.1, .int (s_nc (s_ins S q).1 (s_ins S q).2.2.2)]) := by
    rw [co_ins hR hq]
    unfold jIn
    rw [haa, show s_nb (s_ins S q).1 (s_ins S q).2.2.1 = (s_ins S q).2.2.1 by rw [hcode]; rfl, hcode]
  refine jM.of (by decide +kernel) (own := RX1) rfl (Nat.le_of_ble_eq_true rfl) ?_
  intro p e s m args below meth c hX hr hlk hnm
  refine jr_aload_n (i := 2) hX rfl rfl dX1_act_0 ?_
  refine jr_getN (ci := 6) (k := 3) hX hF rfl in_X13 (by decide) q971 rfl dX1_act_1 ?_
  refine jr_astore hX (by decide) rfl dX1_act_4 ?_
  refine jr_aload_n (i := 3) hX rfl rfl dX1_act_6 ?_
  refine jr_getN (ci := 9) (k := 0) hX hI rfl in_X10 (by decide) q614 rfl dX1_act_7 ?_
  refine jr_ord hX (q := 0) (by omega) (by decide) dX1_act_10 ?_
  refine jr_tableIn (off := 39) (tgt := 52) hX (by decide) (by decide) rfl (by decide) dX1_act_13 ?_
  refine jr_aload hX rfl dX1_act_52 ?_
  refine jr_aload_n (i := 3) hX rfl rfl dX1_act_54 ?_
  refine jr_getN (ci := 9) (k := 1) hX hI rfl in_X10 (by decide) q616 rfl dX1_act_55 ?_
  refine jr_aload_n (i := 3) hX rfl rfl dX1_act_58 ?_
  refine jr_getN (ci := 9) (k := 2) hX hI rfl in_X10 (by decide) q621 rfl dX1_act_59 ?_
  refine jr_iast hX hLo (vp_in_nI ha4 (by omega)) dX1_act_62 ?_
  rw [nI_clamp (by omega)]
  refine jr_goto hX (tgt := 141) (by decide) dX1_act_63 ?_
  exact jr_vret hX hlk hr ⟨rfl, co_wloc hR hi3 hx _, jFm.put (by rw [hR.t (k := 9) (i := i) (j := j) (s := .inl _) (by show (if i < 3 then Option.map _ ((s_s S i).2[j]?) else none) = _; rw [if_pos hi3, hx]; rfl)]; exact ⟨(by show 1 ≤ 9 % 100; omega), (by show 9 % 100 < 30; omega)⟩)⟩ dX1_act_141

set_option maxHeartbeats 4000000 in
set_option maxRecDepth 100000 in
theorem met_act1 (l : Launch) (D : va_G) (s0 : State) (b0 : Nat) (A : Nat → Prop) (G : jG) (S : sSt) (ad : jN) (T : jT) (hR : jCo D s0 b0 S ad T G) (i j : Nat) (x : sFr) (hi3 : i < 3) (hx : (s_s S i).2[j]? = some x) (q : Nat) (hq : q < (s_i S).length) (hcode : (s_ins S q).1 = 1) (aa : Nat) (haa : (s_ins S q).2.1 = nI aa) (ha4 : aa < 4) (bb : Nat) (hbb : (s_ins S q).2.2.1 = nI bb) (hb4 : bb < 4) : jM l yX1_act (ws_ yX1_act cX1_act 5 none) (jR 1 0 0) D s0 b0 A G [.ref (ad 1 0 0), .ref (ad 5 i 0), .ref (ad 8 i j), .ref (ad 20 q 0)] (fun w G1 => w = none ∧ jCo D s0 b0 (s_lw S i j x (upd x.2.2.2.1 aa (x.2.2.2.1 aa + x.2.2.2.1 bb))) ad T G1 ∧ jFm 1 30 T G T G1) := by
  have hxx := co_x hR
  have hF := co_fr hR hi3 hx
  have hLo := co_loc hR hi3 hx
  have hst := co_str hR hi3
  have hI : G (ad 20 q 0) = some (jo 9 [.ref (jCd s0 b0 1), .int (nI aa), .int (nI bb), .int (s_nc (s_ins S q).1 (s_ins S q).2.2.2)]) := by
    rw [co_ins hR hq]
    unfold jIn
    rw [haa, show s_nb (s_ins S q).1 (s_ins S q).2.2.1 = nI bb by rw [hcode]; rw [hbb]; rfl, hcode]
  refine jM.of (by decide +kernel) (own := RX1) rfl (Nat.le_of_ble_eq_true rfl) ?_
  intro p e s m args below meth c hX hr hlk hnm
  refine jr_aload_n (i := 2) hX rfl rfl dX1_act_0 ?_
  refine jr_getN (ci := 6) (k := 3) hX hF rfl in_X13 (by decide) q971 rfl dX1_act_1 ?_
  refine jr_astore hX (by decide) rfl dX1_act_4 ?_
  refine jr_aload_n (i := 3) hX rfl rfl dX1_act_6 ?_
  refine jr_getN (ci := 9) (k := 0) hX hI rfl in_X10 (by decide) q614 rfl dX1_act_7 ?_
  refine jr_ord hX (q := 1) (by omega) (by decide) dX1_act_10 ?_
  refine jr_tableIn (off := 53) (tgt := 66) hX (by decide) (by decide) rfl (by decide) dX1_act_13 ?_
  refine jr_aload hX rfl dX1_act_66 ?_
  refine jr_aload_n (i := 3) hX rfl rfl dX1_act_68 ?_
  refine jr_getN (ci := 9) (k := 1) hX hI rfl in_X10 (by decide) q616 rfl dX1_act_69 ?_
  refine jr_dup2 hX rfl rfl dX1_act_72 ?_
  refine jr_iald hX hLo (vp_in_nI ha4 (by omega)) dX1_act_73 ?_
  rw [nI_clamp (by omega)]
  refine jr_aload hX rfl dX1_act_74 ?_
  refine jr_aload_n (i := 3) hX rfl rfl dX1_act_76 ?_
  refine jr_getN (ci := 9) (k := 2) hX hI rfl in_X10 (by decide) q621 rfl dX1_act_77 ?_
  refine jr_iald hX hLo (vp_in_nI hb4 (by omega)) dX1_act_80 ?_
  rw [nI_clamp (by omega)]
  refine jr_iadd hX dX1_act_81 ?_
  refine jr_iast hX hLo (vp_in_nI ha4 (by omega)) dX1_act_82 ?_
  rw [nI_clamp (by omega)]
  refine jr_goto hX (tgt := 141) (by decide) dX1_act_83 ?_
  exact jr_vret hX hlk hr ⟨rfl, co_wloc hR hi3 hx _, jFm.put (by rw [hR.t (k := 9) (i := i) (j := j) (s := .inl _) (by show (if i < 3 then Option.map _ ((s_s S i).2[j]?) else none) = _; rw [if_pos hi3, hx]; rfl)]; exact ⟨(by show 1 ≤ 9 % 100; omega), (by show 9 % 100 < 30; omega)⟩)⟩ dX1_act_141

set_option maxHeartbeats 4000000 in
set_option maxRecDepth 100000 in
theorem met_act5 (l : Launch) (D : va_G) (s0 : State) (b0 : Nat) (A : Nat → Prop) (G : jG) (S : sSt) (ad : jN) (T : jT) (hR : jCo D s0 b0 S ad T G) (i j : Nat) (x : sFr) (hi3 : i < 3) (hx : (s_s S i).2[j]? = some x) (q : Nat) (hq : q < (s_i S).length) (hcode : (s_ins S q).1 = 5) (aa : Nat) (haa : (s_ins S q).2.1 = nI aa) (ha4 : aa < 4) (bb : Nat) (hbb : (s_ins S q).2.2.1 = nI bb) (hb4 : bb < 11) : jM l yX1_act (ws_ yX1_act cX1_act 5 none) (jR 1 0 0) D s0 b0 A G [.ref (ad 1 0 0), .ref (ad 5 i 0), .ref (ad 8 i j), .ref (ad 20 q 0)] (fun w G1 => w = none ∧ jCo D s0 b0 (s_fw S i j (x.1, x.2.1, x.2.2.1, x.2.2.2.1, if 0 < x.2.2.2.1 aa then bb else x.2.2.2.2)) ad T G1 ∧ jFm 1 30 T G T G1) := by
  have hxx := co_x hR
  have hF := co_fr hR hi3 hx
  have hLo := co_loc hR hi3 hx
  have hst := co_str hR hi3
  have hI : G (ad 20 q 0) = some (jo 9 [.ref (jCd s0 b0 5), .int (nI aa), .int (nI bb), .int (s_nc (s_ins S q).1 (s_ins S q).2.2.2)]) := by
    rw [co_ins hR hq]
    unfold jIn
    rw [haa, show s_nb (s_ins S q).1 (s_ins S q).2.2.1 = nI bb by rw [hcode]; rw [hbb]; rfl, hcode]
  refine jM.of (by decide +kernel) (own := RX1) rfl (Nat.le_of_ble_eq_true rfl) ?_
  intro p e s m args below meth c hX hr hlk hnm
  refine jr_aload_n (i := 2) hX rfl rfl dX1_act_0 ?_
  refine jr_getN (ci := 6) (k := 3) hX hF rfl in_X13 (by decide) q971 rfl dX1_act_1 ?_
  refine jr_astore hX (by decide) rfl dX1_act_4 ?_
  refine jr_aload_n (i := 3) hX rfl rfl dX1_act_6 ?_
  refine jr_getN (ci := 9) (k := 0) hX hI rfl in_X10 (by decide) q614 rfl dX1_act_7 ?_
  refine jr_ord hX (q := 5) (by omega) (by decide) dX1_act_10 ?_
  refine jr_tableIn (off := 93) (tgt := 106) hX (by decide) (by decide) rfl (by decide) dX1_act_13 ?_
  refine jr_aload_n (i := 2) hX rfl rfl dX1_act_106 ?_
  refine jr_aload hX rfl dX1_act_107 ?_
  refine jr_aload_n (i := 3) hX rfl rfl dX1_act_109 ?_
  refine jr_getN (ci := 9) (k := 1) hX hI rfl in_X10 (by decide) q616 rfl dX1_act_110 ?_
  refine jr_iald hX hLo (vp_in_nI ha4 (by omega)) dX1_act_113 ?_
  rw [nI_clamp (by omega)]
  refine jr_if_le hX (tgt := 124) (by decide) dX1_act_114 (fun c_114 => ?_) (fun c_114 => ?_)
  · refine jr_aload_n (i := 2) hX rfl rfl dX1_act_124 ?_
    refine jr_getN (ci := 6) (k := 4) hX hF rfl in_X13 (by decide) q973 rfl dX1_act_125 ?_
    refine jr_putN (ci := 6) (k := 4) hX hF rfl in_X13 (by decide) tyX13 tyX13_ok nmX13 q973 rfl (by first | rfl | assumption) (by first | rfl | assumption) (Nat.le_of_ble_eq_true rfl) dX1_act_128 ?_
    refine jr_goto hX (tgt := 141) (by decide) dX1_act_131 ?_
    exact jr_vret hX hlk hr ⟨rfl, by have h9 := co_wfr (y := (x.1, x.2.1, x.2.2.1, x.2.2.2.1, x.2.2.2.2)) hR hi3 hx rfl; rw [if_neg (Int32.not_lt.mpr c_114)]; exact h9, jFm.put (by rw [hR.t (k := 8) (i := i) (j := j) (s := .inl _) (by show (if i < 3 then Option.map _ ((s_s S i).2[j]?) else none) = _; rw [if_pos hi3, hx]; rfl)]; exact ⟨(by show 1 ≤ 8 % 100; omega), (by show 8 % 100 < 30; omega)⟩)⟩ dX1_act_141
  · refine jr_aload_n (i := 3) hX rfl rfl dX1_act_117 ?_
    refine jr_getN (ci := 9) (k := 2) hX hI rfl in_X10 (by decide) q621 rfl dX1_act_118 ?_
    refine jr_goto hX (tgt := 128) (by decide) dX1_act_121 ?_
    refine jr_putN (ci := 6) (k := 4) hX hF rfl in_X13 (by decide) tyX13 tyX13_ok nmX13 q973 rfl (by first | rfl | assumption) (by first | rfl | assumption) (Nat.le_of_ble_eq_true rfl) dX1_act_128 ?_
    refine jr_goto hX (tgt := 141) (by decide) dX1_act_131 ?_
    exact jr_vret hX hlk hr ⟨rfl, by have h9 := co_wfr (y := (x.1, x.2.1, x.2.2.1, x.2.2.2.1, bb)) hR hi3 hx rfl; rw [if_pos (Int32.not_le.mp c_114)]; exact h9, jFm.put (by rw [hR.t (k := 8) (i := i) (j := j) (s := .inl _) (by show (if i < 3 then Option.map _ ((s_s S i).2[j]?) else none) = _; rw [if_pos hi3, hx]; rfl)]; exact ⟨(by show 1 ≤ 8 % 100; omega), (by show 8 % 100 < 30; omega)⟩)⟩ dX1_act_141
