/-! the model's codes -/
def s_mng (q : Nat) : Nat := [2, 2, 2, 3, 3, 2, 3, 3, 2, 1, 1, 0].getD q 0
theorem jcl_inj : ∀ q, q < 12 → ∀ r, r < 12 → jCL.getD q 0 = jCL.getD r 0 → q = r := by decide +kernel
theorem lt12 {q : Nat} (h : q < 12) : q = 0 ∨ q = 1 ∨ q = 2 ∨ q = 3 ∨ q = 4 ∨ q = 5 ∨ q = 6 ∨ q = 7 ∨ q = 8 ∨ q = 9 ∨ q = 10 ∨ q = 11 := by omega

set_option maxHeartbeats 4000000 in
set_option maxRecDepth 100000 in
theorem mm_meanings (l : Launch) (D : va_G) (s0 : State) (b0 : Nat) (A : Nat → Prop) (G : jG) (a : Nat) (q : Nat) (hq : q < 12) (xa xb xc : Int32) (ha : G a = some (jo 14 [.int (jCL.getD q 0), .int xa, .int xb, .int xc])) : jM l yX11_meanings (ws_ yX11_meanings cX11_meanings 1 (some .int)) (jR 0 0 0) D s0 b0 A G [.ref a] (fun w G1 => w = some (.int (nI (s_mng q))) ∧ G1 = G) := by
  refine jM.of (by decide +kernel) (own := RX11) rfl (Nat.le_of_ble_eq_true rfl) ?_
  intro p e s m args below meth c hX hr hlk hnm
  refine jr_aload_n (i := 0) hX rfl rfl dX11_meanings_0 ?_
  refine jr_get (ci := 14) (k := 0) hX ha rfl in_X11 (by decide) q1804 rfl dX11_meanings_1 ?_
  rcases lt12 hq with rfl | rfl | rfl | rfl | rfl | rfl | rfl | rfl | rfl | rfl | rfl | rfl
  · refine jr_tableIn hX (off := 112) (tgt := 116) (by decide +kernel) (by decide +kernel) (by decide +kernel) (by decide) dX11_meanings_4 ?_
    refine jr_iconst (v := 2) hX rfl dX11_meanings_116 ?_
    exact jr_iret hX hlk hr ⟨rfl, rfl⟩ dX11_meanings_117
  · refine jr_tableIn hX (off := 112) (tgt := 116) (by decide +kernel) (by decide +kernel) (by decide +kernel) (by decide) dX11_meanings_4 ?_
    refine jr_iconst (v := 2) hX rfl dX11_meanings_116 ?_
    exact jr_iret hX hlk hr ⟨rfl, rfl⟩ dX11_meanings_117
  · refine jr_tableIn hX (off := 112) (tgt := 116) (by decide +kernel) (by decide +kernel) (by decide +kernel) (by decide) dX11_meanings_4 ?_
    refine jr_iconst (v := 2) hX rfl dX11_meanings_116 ?_
    exact jr_iret hX hlk hr ⟨rfl, rfl⟩ dX11_meanings_117
  · refine jr_tableIn hX (off := 114) (tgt := 118) (by decide +kernel) (by decide +kernel) (by decide +kernel) (by decide) dX11_meanings_4 ?_
    refine jr_iconst (v := 3) hX rfl dX11_meanings_118 ?_
    exact jr_iret hX hlk hr ⟨rfl, rfl⟩ dX11_meanings_119
  · refine jr_tableIn hX (off := 114) (tgt := 118) (by decide +kernel) (by decide +kernel) (by decide +kernel) (by decide) dX11_meanings_4 ?_
    refine jr_iconst (v := 3) hX rfl dX11_meanings_118 ?_
    exact jr_iret hX hlk hr ⟨rfl, rfl⟩ dX11_meanings_119
  · refine jr_tableIn hX (off := 112) (tgt := 116) (by decide +kernel) (by decide +kernel) (by decide +kernel) (by decide) dX11_meanings_4 ?_
    refine jr_iconst (v := 2) hX rfl dX11_meanings_116 ?_
    exact jr_iret hX hlk hr ⟨rfl, rfl⟩ dX11_meanings_117
  · refine jr_tableIn hX (off := 114) (tgt := 118) (by decide +kernel) (by decide +kernel) (by decide +kernel) (by decide) dX11_meanings_4 ?_
    refine jr_iconst (v := 3) hX rfl dX11_meanings_118 ?_
    exact jr_iret hX hlk hr ⟨rfl, rfl⟩ dX11_meanings_119
  · refine jr_tableIn hX (off := 114) (tgt := 118) (by decide +kernel) (by decide +kernel) (by decide +kernel) (by decide) dX11_meanings_4 ?_
    refine jr_iconst (v := 3) hX rfl dX11_meanings_118 ?_
    exact jr_iret hX hlk hr ⟨rfl, rfl⟩ dX11_meanings_119
  · refine jr_tableIn hX (off := 112) (tgt := 116) (by decide +kernel) (by decide +kernel) (by decide +kernel) (by decide) dX11_meanings_4 ?_
    refine jr_iconst (v := 2) hX rfl dX11_meanings_116 ?_
    exact jr_iret hX hlk hr ⟨rfl, rfl⟩ dX11_meanings_117
  · refine jr_tableIn hX (off := 110) (tgt := 114) (by decide +kernel) (by decide +kernel) (by decide +kernel) (by decide) dX11_meanings_4 ?_
    refine jr_iconst (v := 1) hX rfl dX11_meanings_114 ?_
    exact jr_iret hX hlk hr ⟨rfl, rfl⟩ dX11_meanings_115
  · refine jr_tableIn hX (off := 110) (tgt := 114) (by decide +kernel) (by decide +kernel) (by decide +kernel) (by decide) dX11_meanings_4 ?_
    refine jr_iconst (v := 1) hX rfl dX11_meanings_114 ?_
    exact jr_iret hX hlk hr ⟨rfl, rfl⟩ dX11_meanings_115
  · refine jr_tableIn hX (off := 108) (tgt := 112) (by decide +kernel) (by decide +kernel) (by decide +kernel) (by decide) dX11_meanings_4 ?_
    refine jr_iconst (v := 0) hX rfl dX11_meanings_112 ?_
    exact jr_iret hX hlk hr ⟨rfl, rfl⟩ dX11_meanings_113

set_option maxHeartbeats 4000000 in
set_option maxRecDepth 100000 in
theorem mm_objs (l : Launch) (D : va_G) (s0 : State) (b0 : Nat) (A : Nat → Prop) (G : jG) (a : Nat) (q : Nat) (hq : q < 12) (xa xb xc : Int32) (ha : G a = some (jo 14 [.int (jCL.getD q 0), .int xa, .int xb, .int xc])) : jM l yX11_objects (ws_ yX11_objects cX11_objects 1 (some .int)) (jR 0 0 0) D s0 b0 A G [.ref a] (fun w G1 => w = some (.int (sKi (q, xa, xb, xc))) ∧ G1 = G) := by
  refine jM.of (by decide +kernel) (own := RX11) rfl (Nat.le_of_ble_eq_true rfl) ?_
  intro p e s m args below meth c hX hr hlk hnm
  refine jr_aload_n (i := 0) hX rfl rfl dX11_objects_0 ?_
  refine jr_get (ci := 14) (k := 0) hX ha rfl in_X11 (by decide) q1804 rfl dX11_objects_1 ?_
  rcases lt12 hq with rfl | rfl | rfl | rfl | rfl | rfl | rfl | rfl | rfl | rfl | rfl | rfl
  · refine jr_bipush (v := 110) hX (by decide) dX11_objects_4 ?_
    refine jr_icmp_ne hX (tgt := 16) (by decide) dX11_objects_6 (fun c_6 => ?_) (fun c_6 => absurd c_6 (by decide +kernel))
    refine jr_aload_n (i := 0) hX rfl rfl dX11_objects_16 ?_
    refine jr_get (ci := 14) (k := 0) hX ha rfl in_X11 (by decide) q1804 rfl dX11_objects_17 ?_
    refine jr_bipush (v := 103) hX (by decide) dX11_objects_20 ?_
    refine jr_icmp_eq hX (tgt := 34) (by decide) dX11_objects_22 (fun c_22 => absurd c_22 (by decide +kernel)) (fun c_22 => ?_)
    refine jr_aload_n (i := 0) hX rfl rfl dX11_objects_25 ?_
    refine jr_get (ci := 14) (k := 0) hX ha rfl in_X11 (by decide) q1804 rfl dX11_objects_26 ?_
    refine jr_bipush (v := 112) hX (by decide) dX11_objects_29 ?_
    refine jr_icmp_ne hX (tgt := 44) (by decide) dX11_objects_31 (fun c_31 => ?_) (fun c_31 => absurd c_31 (by decide +kernel))
    refine jr_iconst (v := -1) hX rfl dX11_objects_44 ?_
    exact jr_iret hX hlk hr ⟨rfl, rfl⟩ dX11_objects_45
  · refine jr_bipush (v := 110) hX (by decide) dX11_objects_4 ?_
    refine jr_icmp_ne hX (tgt := 16) (by decide) dX11_objects_6 (fun c_6 => ?_) (fun c_6 => absurd c_6 (by decide +kernel))
    refine jr_aload_n (i := 0) hX rfl rfl dX11_objects_16 ?_
    refine jr_get (ci := 14) (k := 0) hX ha rfl in_X11 (by decide) q1804 rfl dX11_objects_17 ?_
    refine jr_bipush (v := 103) hX (by decide) dX11_objects_20 ?_
    refine jr_icmp_eq hX (tgt := 34) (by decide) dX11_objects_22 (fun c_22 => absurd c_22 (by decide +kernel)) (fun c_22 => ?_)
    refine jr_aload_n (i := 0) hX rfl rfl dX11_objects_25 ?_
    refine jr_get (ci := 14) (k := 0) hX ha rfl in_X11 (by decide) q1804 rfl dX11_objects_26 ?_
    refine jr_bipush (v := 112) hX (by decide) dX11_objects_29 ?_
    refine jr_icmp_ne hX (tgt := 44) (by decide) dX11_objects_31 (fun c_31 => ?_) (fun c_31 => absurd c_31 (by decide +kernel))
    refine jr_iconst (v := -1) hX rfl dX11_objects_44 ?_
    exact jr_iret hX hlk hr ⟨rfl, rfl⟩ dX11_objects_45
  · refine jr_bipush (v := 110) hX (by decide) dX11_objects_4 ?_
    refine jr_icmp_ne hX (tgt := 16) (by decide) dX11_objects_6 (fun c_6 => absurd c_6 (fun h => h (by decide +kernel))) (fun c_6 => ?_)
    refine jr_aload_n (i := 0) hX rfl rfl dX11_objects_9 ?_
    refine jr_get (ci := 14) (k := 2) hX ha rfl in_X11 (by decide) q1808 rfl dX11_objects_10 ?_
    refine jr_goto hX (tgt := 45) (by decide) dX11_objects_13 ?_
    exact jr_iret hX hlk hr ⟨rfl, rfl⟩ dX11_objects_45
  · refine jr_bipush (v := 110) hX (by decide) dX11_objects_4 ?_
    refine jr_icmp_ne hX (tgt := 16) (by decide) dX11_objects_6 (fun c_6 => ?_) (fun c_6 => absurd c_6 (by decide +kernel))
    refine jr_aload_n (i := 0) hX rfl rfl dX11_objects_16 ?_
    refine jr_get (ci := 14) (k := 0) hX ha rfl in_X11 (by decide) q1804 rfl dX11_objects_17 ?_
    refine jr_bipush (v := 103) hX (by decide) dX11_objects_20 ?_
    refine jr_icmp_eq hX (tgt := 34) (by decide) dX11_objects_22 (fun c_22 => ?_) (fun c_22 => absurd (by decide +kernel) c_22)
    refine jr_aload_n (i := 0) hX rfl rfl dX11_objects_34 ?_
    refine jr_get (ci := 14) (k := 2) hX ha rfl in_X11 (by decide) q1808 rfl dX11_objects_35 ?_
    refine jr_bipush (v := 10) hX (by decide) dX11_objects_38 ?_
    refine jr_idiv hX (by decide) dX11_objects_40 ?_
    refine jr_goto hX (tgt := 45) (by decide) dX11_objects_41 ?_
    exact jr_iret hX hlk hr ⟨rfl, rfl⟩ dX11_objects_45
  · refine jr_bipush (v := 110) hX (by decide) dX11_objects_4 ?_
    refine jr_icmp_ne hX (tgt := 16) (by decide) dX11_objects_6 (fun c_6 => ?_) (fun c_6 => absurd c_6 (by decide +kernel))
    refine jr_aload_n (i := 0) hX rfl rfl dX11_objects_16 ?_
    refine jr_get (ci := 14) (k := 0) hX ha rfl in_X11 (by decide) q1804 rfl dX11_objects_17 ?_
    refine jr_bipush (v := 103) hX (by decide) dX11_objects_20 ?_
    refine jr_icmp_eq hX (tgt := 34) (by decide) dX11_objects_22 (fun c_22 => absurd c_22 (by decide +kernel)) (fun c_22 => ?_)
    refine jr_aload_n (i := 0) hX rfl rfl dX11_objects_25 ?_
    refine jr_get (ci := 14) (k := 0) hX ha rfl in_X11 (by decide) q1804 rfl dX11_objects_26 ?_
    refine jr_bipush (v := 112) hX (by decide) dX11_objects_29 ?_
    refine jr_icmp_ne hX (tgt := 44) (by decide) dX11_objects_31 (fun c_31 => absurd c_31 (fun h => h (by decide +kernel))) (fun c_31 => ?_)
    refine jr_aload_n (i := 0) hX rfl rfl dX11_objects_34 ?_
    refine jr_get (ci := 14) (k := 2) hX ha rfl in_X11 (by decide) q1808 rfl dX11_objects_35 ?_
    refine jr_bipush (v := 10) hX (by decide) dX11_objects_38 ?_
    refine jr_idiv hX (by decide) dX11_objects_40 ?_
    refine jr_goto hX (tgt := 45) (by decide) dX11_objects_41 ?_
    exact jr_iret hX hlk hr ⟨rfl, rfl⟩ dX11_objects_45
  · refine jr_bipush (v := 110) hX (by decide) dX11_objects_4 ?_
    refine jr_icmp_ne hX (tgt := 16) (by decide) dX11_objects_6 (fun c_6 => ?_) (fun c_6 => absurd c_6 (by decide +kernel))
    refine jr_aload_n (i := 0) hX rfl rfl dX11_objects_16 ?_
    refine jr_get (ci := 14) (k := 0) hX ha rfl in_X11 (by decide) q1804 rfl dX11_objects_17 ?_
    refine jr_bipush (v := 103) hX (by decide) dX11_objects_20 ?_
    refine jr_icmp_eq hX (tgt := 34) (by decide) dX11_objects_22 (fun c_22 => absurd c_22 (by decide +kernel)) (fun c_22 => ?_)
    refine jr_aload_n (i := 0) hX rfl rfl dX11_objects_25 ?_
    refine jr_get (ci := 14) (k := 0) hX ha rfl in_X11 (by decide) q1804 rfl dX11_objects_26 ?_
    refine jr_bipush (v := 112) hX (by decide) dX11_objects_29 ?_
    refine jr_icmp_ne hX (tgt := 44) (by decide) dX11_objects_31 (fun c_31 => ?_) (fun c_31 => absurd c_31 (by decide +kernel))
    refine jr_iconst (v := -1) hX rfl dX11_objects_44 ?_
    exact jr_iret hX hlk hr ⟨rfl, rfl⟩ dX11_objects_45
  · refine jr_bipush (v := 110) hX (by decide) dX11_objects_4 ?_
    refine jr_icmp_ne hX (tgt := 16) (by decide) dX11_objects_6 (fun c_6 => ?_) (fun c_6 => absurd c_6 (by decide +kernel))
    refine jr_aload_n (i := 0) hX rfl rfl dX11_objects_16 ?_
    refine jr_get (ci := 14) (k := 0) hX ha rfl in_X11 (by decide) q1804 rfl dX11_objects_17 ?_
    refine jr_bipush (v := 103) hX (by decide) dX11_objects_20 ?_
    refine jr_icmp_eq hX (tgt := 34) (by decide) dX11_objects_22 (fun c_22 => absurd c_22 (by decide +kernel)) (fun c_22 => ?_)
    refine jr_aload_n (i := 0) hX rfl rfl dX11_objects_25 ?_
    refine jr_get (ci := 14) (k := 0) hX ha rfl in_X11 (by decide) q1804 rfl dX11_objects_26 ?_
    refine jr_bipush (v := 112) hX (by decide) dX11_objects_29 ?_
    refine jr_icmp_ne hX (tgt := 44) (by decide) dX11_objects_31 (fun c_31 => ?_) (fun c_31 => absurd c_31 (by decide +kernel))
    refine jr_iconst (v := -1) hX rfl dX11_objects_44 ?_
    exact jr_iret hX hlk hr ⟨rfl, rfl⟩ dX11_objects_45
  · refine jr_bipush (v := 110) hX (by decide) dX11_objects_4 ?_
    refine jr_icmp_ne hX (tgt := 16) (by decide) dX11_objects_6 (fun c_6 => ?_) (fun c_6 => absurd c_6 (by decide +kernel))
    refine jr_aload_n (i := 0) hX rfl rfl dX11_objects_16 ?_
    refine jr_get (ci := 14) (k := 0) hX ha rfl in_X11 (by decide) q1804 rfl dX11_objects_17 ?_
    refine jr_bipush (v := 103) hX (by decide) dX11_objects_20 ?_
    refine jr_icmp_eq hX (tgt := 34) (by decide) dX11_objects_22 (fun c_22 => absurd c_22 (by decide +kernel)) (fun c_22 => ?_)
    refine jr_aload_n (i := 0) hX rfl rfl dX11_objects_25 ?_
    refine jr_get (ci := 14) (k := 0) hX ha rfl in_X11 (by decide) q1804 rfl dX11_objects_26 ?_
    refine jr_bipush (v := 112) hX (by decide) dX11_objects_29 ?_
    refine jr_icmp_ne hX (tgt := 44) (by decide) dX11_objects_31 (fun c_31 => ?_) (fun c_31 => absurd c_31 (by decide +kernel))
    refine jr_iconst (v := -1) hX rfl dX11_objects_44 ?_
    exact jr_iret hX hlk hr ⟨rfl, rfl⟩ dX11_objects_45
  · refine jr_bipush (v := 110) hX (by decide) dX11_objects_4 ?_
    refine jr_icmp_ne hX (tgt := 16) (by decide) dX11_objects_6 (fun c_6 => ?_) (fun c_6 => absurd c_6 (by decide +kernel))
    refine jr_aload_n (i := 0) hX rfl rfl dX11_objects_16 ?_
    refine jr_get (ci := 14) (k := 0) hX ha rfl in_X11 (by decide) q1804 rfl dX11_objects_17 ?_
    refine jr_bipush (v := 103) hX (by decide) dX11_objects_20 ?_
    refine jr_icmp_eq hX (tgt := 34) (by decide) dX11_objects_22 (fun c_22 => absurd c_22 (by decide +kernel)) (fun c_22 => ?_)
    refine jr_aload_n (i := 0) hX rfl rfl dX11_objects_25 ?_
    refine jr_get (ci := 14) (k := 0) hX ha rfl in_X11 (by decide) q1804 rfl dX11_objects_26 ?_
    refine jr_bipush (v := 112) hX (by decide) dX11_objects_29 ?_
    refine jr_icmp_ne hX (tgt := 44) (by decide) dX11_objects_31 (fun c_31 => ?_) (fun c_31 => absurd c_31 (by decide +kernel))
    refine jr_iconst (v := -1) hX rfl dX11_objects_44 ?_
    exact jr_iret hX hlk hr ⟨rfl, rfl⟩ dX11_objects_45
  · refine jr_bipush (v := 110) hX (by decide) dX11_objects_4 ?_
    refine jr_icmp_ne hX (tgt := 16) (by decide) dX11_objects_6 (fun c_6 => ?_) (fun c_6 => absurd c_6 (by decide +kernel))
    refine jr_aload_n (i := 0) hX rfl rfl dX11_objects_16 ?_
    refine jr_get (ci := 14) (k := 0) hX ha rfl in_X11 (by decide) q1804 rfl dX11_objects_17 ?_
    refine jr_bipush (v := 103) hX (by decide) dX11_objects_20 ?_
    refine jr_icmp_eq hX (tgt := 34) (by decide) dX11_objects_22 (fun c_22 => absurd c_22 (by decide +kernel)) (fun c_22 => ?_)
    refine jr_aload_n (i := 0) hX rfl rfl dX11_objects_25 ?_
    refine jr_get (ci := 14) (k := 0) hX ha rfl in_X11 (by decide) q1804 rfl dX11_objects_26 ?_
    refine jr_bipush (v := 112) hX (by decide) dX11_objects_29 ?_
    refine jr_icmp_ne hX (tgt := 44) (by decide) dX11_objects_31 (fun c_31 => ?_) (fun c_31 => absurd c_31 (by decide +kernel))
    refine jr_iconst (v := -1) hX rfl dX11_objects_44 ?_
    exact jr_iret hX hlk hr ⟨rfl, rfl⟩ dX11_objects_45
  · refine jr_bipush (v := 110) hX (by decide) dX11_objects_4 ?_
    refine jr_icmp_ne hX (tgt := 16) (by decide) dX11_objects_6 (fun c_6 => ?_) (fun c_6 => absurd c_6 (by decide +kernel))
    refine jr_aload_n (i := 0) hX rfl rfl dX11_objects_16 ?_
    refine jr_get (ci := 14) (k := 0) hX ha rfl in_X11 (by decide) q1804 rfl dX11_objects_17 ?_
    refine jr_bipush (v := 103) hX (by decide) dX11_objects_20 ?_
    refine jr_icmp_eq hX (tgt := 34) (by decide) dX11_objects_22 (fun c_22 => absurd c_22 (by decide +kernel)) (fun c_22 => ?_)
    refine jr_aload_n (i := 0) hX rfl rfl dX11_objects_25 ?_
    refine jr_get (ci := 14) (k := 0) hX ha rfl in_X11 (by decide) q1804 rfl dX11_objects_26 ?_
    refine jr_bipush (v := 112) hX (by decide) dX11_objects_29 ?_
    refine jr_icmp_ne hX (tgt := 44) (by decide) dX11_objects_31 (fun c_31 => ?_) (fun c_31 => absurd c_31 (by decide +kernel))
    refine jr_iconst (v := -1) hX rfl dX11_objects_44 ?_
    exact jr_iret hX hlk hr ⟨rfl, rfl⟩ dX11_objects_45
  · refine jr_bipush (v := 110) hX (by decide) dX11_objects_4 ?_
    refine jr_icmp_ne hX (tgt := 16) (by decide) dX11_objects_6 (fun c_6 => ?_) (fun c_6 => absurd c_6 (by decide +kernel))
    refine jr_aload_n (i := 0) hX rfl rfl dX11_objects_16 ?_
    refine jr_get (ci := 14) (k := 0) hX ha rfl in_X11 (by decide) q1804 rfl dX11_objects_17 ?_
    refine jr_bipush (v := 103) hX (by decide) dX11_objects_20 ?_
    refine jr_icmp_eq hX (tgt := 34) (by decide) dX11_objects_22 (fun c_22 => absurd c_22 (by decide +kernel)) (fun c_22 => ?_)
    refine jr_aload_n (i := 0) hX rfl rfl dX11_objects_25 ?_
    refine jr_get (ci := 14) (k := 0) hX ha rfl in_X11 (by decide) q1804 rfl dX11_objects_26 ?_
    refine jr_bipush (v := 112) hX (by decide) dX11_objects_29 ?_
    refine jr_icmp_ne hX (tgt := 44) (by decide) dX11_objects_31 (fun c_31 => ?_) (fun c_31 => absurd c_31 (by decide +kernel))
    refine jr_iconst (v := -1) hX rfl dX11_objects_44 ?_
    exact jr_iret hX hlk hr ⟨rfl, rfl⟩ dX11_objects_45

set_option maxHeartbeats 4000000 in
set_option maxRecDepth 100000 in
theorem mm_isSame (l : Launch) (D : va_G) (s0 : State) (b0 : Nat) (A : Nat → Prop) (G : jG) (a : Nat) (q : Nat) (hq : q < 12) (xa xb xc : Int32) (ha : G a = some (jo 14 [.int (jCL.getD q 0), .int xa, .int xb, .int xc])) (b : Nat) (r : Nat) (hr9 : r < 12) (ya yb yc : Int32) (hb : G b = some (jo 14 [.int (jCL.getD r 0), .int ya, .int yb, .int yc])) : jM l yX11_isSame (ws_ yX11_isSame cX11_isSame 3 (some .boolean)) (jR 1 0 0) D s0 b0 A G [.ref a, .ref b] (fun w G1 => w = some (.int (jbz (sLk (q, xa, xb, xc) (r, ya, yb, yc)))) ∧ G1 = G) := by
  refine jM.of (by decide +kernel) (own := RX11) rfl (Nat.le_of_ble_eq_true rfl) ?_
  intro p e s m args below meth c hX hr hlk hnm
  refine jr_aload_n (i := 0) hX rfl rfl dX11_isSame_0 ?_
  refine jr_callV (As := []) (bc1 := (0)) (bs1 := (0)) hX (mm_meanings l D s0 b0 A _ a q hq xa xb xc ha) (cwV 0 hX.ts (lw_V q1864 q1865 q1866 q91 q1867) rfl rfl rfl (by decide +kernel) ⟨Nat.le_of_ble_eq_true rfl, Nat.le_of_ble_eq_true rfl⟩) ha rfl rfl (Nat.le_of_ble_eq_true rfl) (by first | omega | (dsimp only; omega) | (show _ ≤ _; simp only []; omega)) (by first | omega | (dsimp only; omega) | (show _ ≤ _; simp only []; omega)) rfl dX11_isSame_1 (fun v_1 G_1 hp_1 => ?_)
  obtain ⟨rfl, e9⟩ := hp_1
  rw [e9]
  rcases lt12 hq with rfl | rfl | rfl | rfl | rfl | rfl | rfl | rfl | rfl | rfl | rfl | rfl
  · refine jr_istore_n (i := 2) hX rfl (by decide) rfl dX11_isSame_4 ?_
    refine jr_aload_n (i := 0) hX rfl rfl dX11_isSame_5 ?_
    refine jr_get (ci := 14) (k := 0) hX ha rfl in_X11 (by decide) q1804 rfl dX11_isSame_6 ?_
    refine jr_aload_n (i := 1) hX rfl rfl dX11_isSame_9 ?_
    refine jr_get (ci := 14) (k := 0) hX hb rfl in_X11 (by decide) q1804 rfl dX11_isSame_10 ?_
    refine jr_icmp_ne hX (tgt := 68) (by decide) dX11_isSame_13 (fun c_13 => ?_) (fun c_13 => ?_)
    · refine jr_iconst (v := 0) hX rfl dX11_isSame_68 ?_
      exact jr_zret hX hlk hr (by decide) ⟨by rw [sLk_f (fun z => c_13 (by rw [show r = 0 from z.1.symm]))]; rfl, rfl⟩ dX11_isSame_69
    · have hrc : r = 0 := (jcl_inj _ (by decide) r hr9 c_13).symm
      refine jr_iload_n (i := 2) hX rfl rfl dX11_isSame_16 ?_
      refine jr_iconst (v := 1) hX rfl dX11_isSame_17 ?_
      refine jr_icmp_lt hX (tgt := 32) (by decide) dX11_isSame_18 (fun c_18 => absurd c_18 (by decide)) (fun c_18 => ?_)
      refine jr_aload_n (i := 0) hX rfl rfl dX11_isSame_21 ?_
      refine jr_get (ci := 14) (k := 1) hX ha rfl in_X11 (by decide) q1806 rfl dX11_isSame_22 ?_
      refine jr_aload_n (i := 1) hX rfl rfl dX11_isSame_25 ?_
      refine jr_get (ci := 14) (k := 1) hX hb rfl in_X11 (by decide) q1806 rfl dX11_isSame_26 ?_
      refine jr_icmp_ne hX (tgt := 68) (by decide) dX11_isSame_29 (fun c_29 => ?_) (fun c_29 => ?_)
      · refine jr_iconst (v := 0) hX rfl dX11_isSame_68 ?_
        exact jr_zret hX hlk hr (by decide) ⟨by rw [sLk_f (fun z => z.2.1.elim c_29 (fun w => absurd (show (0 : Nat) = 11 from w) (by decide)))]; rfl, rfl⟩ dX11_isSame_69
      · refine jr_iload_n (i := 2) hX rfl rfl dX11_isSame_32 ?_
        refine jr_iconst (v := 2) hX rfl dX11_isSame_33 ?_
        refine jr_icmp_lt hX (tgt := 48) (by decide) dX11_isSame_34 (fun c_34 => absurd c_34 (by decide)) (fun c_34 => ?_)
        refine jr_aload_n (i := 0) hX rfl rfl dX11_isSame_37 ?_
        refine jr_get (ci := 14) (k := 2) hX ha rfl in_X11 (by decide) q1808 rfl dX11_isSame_38 ?_
        refine jr_aload_n (i := 1) hX rfl rfl dX11_isSame_41 ?_
        refine jr_get (ci := 14) (k := 2) hX hb rfl in_X11 (by decide) q1808 rfl dX11_isSame_42 ?_
        refine jr_icmp_ne hX (tgt := 68) (by decide) dX11_isSame_45 (fun c_45 => ?_) (fun c_45 => ?_)
        · refine jr_iconst (v := 0) hX rfl dX11_isSame_68 ?_
          exact jr_zret hX hlk hr (by decide) ⟨by rw [sLk_f (fun z => c_45 (by have h := z.2.2.1; simpa [s_nb, hrc] using h))]; rfl, rfl⟩ dX11_isSame_69
        · refine jr_iload_n (i := 2) hX rfl rfl dX11_isSame_48 ?_
          refine jr_iconst (v := 3) hX rfl dX11_isSame_49 ?_
          refine jr_icmp_lt hX (tgt := 64) (by decide) dX11_isSame_50 (fun c_50 => ?_) (fun c_50 => absurd (by decide) c_50)
          refine jr_iconst (v := 1) hX rfl dX11_isSame_64 ?_
          refine jr_goto hX (tgt := 69) (by decide) dX11_isSame_65 ?_
          exact jr_zret hX hlk hr (by decide) ⟨by rw [sLk_t ⟨hrc.symm, Or.inl c_29, by rw [hrc]; simp [s_nb, c_45], by rw [hrc]; simp [s_nc]⟩]; rfl, rfl⟩ dX11_isSame_69
  · refine jr_istore_n (i := 2) hX rfl (by decide) rfl dX11_isSame_4 ?_
    refine jr_aload_n (i := 0) hX rfl rfl dX11_isSame_5 ?_
    refine jr_get (ci := 14) (k := 0) hX ha rfl in_X11 (by decide) q1804 rfl dX11_isSame_6 ?_
    refine jr_aload_n (i := 1) hX rfl rfl dX11_isSame_9 ?_
    refine jr_get (ci := 14) (k := 0) hX hb rfl in_X11 (by decide) q1804 rfl dX11_isSame_10 ?_
    refine jr_icmp_ne hX (tgt := 68) (by decide) dX11_isSame_13 (fun c_13 => ?_) (fun c_13 => ?_)
    · refine jr_iconst (v := 0) hX rfl dX11_isSame_68 ?_
      exact jr_zret hX hlk hr (by decide) ⟨by rw [sLk_f (fun z => c_13 (by rw [show r = 1 from z.1.symm]))]; rfl, rfl⟩ dX11_isSame_69
    · have hrc : r = 1 := (jcl_inj _ (by decide) r hr9 c_13).symm
      refine jr_iload_n (i := 2) hX rfl rfl dX11_isSame_16 ?_
      refine jr_iconst (v := 1) hX rfl dX11_isSame_17 ?_
      refine jr_icmp_lt hX (tgt := 32) (by decide) dX11_isSame_18 (fun c_18 => absurd c_18 (by decide)) (fun c_18 => ?_)
      refine jr_aload_n (i := 0) hX rfl rfl dX11_isSame_21 ?_
      refine jr_get (ci := 14) (k := 1) hX ha rfl in_X11 (by decide) q1806 rfl dX11_isSame_22 ?_
      refine jr_aload_n (i := 1) hX rfl rfl dX11_isSame_25 ?_
      refine jr_get (ci := 14) (k := 1) hX hb rfl in_X11 (by decide) q1806 rfl dX11_isSame_26 ?_
      refine jr_icmp_ne hX (tgt := 68) (by decide) dX11_isSame_29 (fun c_29 => ?_) (fun c_29 => ?_)
      · refine jr_iconst (v := 0) hX rfl dX11_isSame_68 ?_
        exact jr_zret hX hlk hr (by decide) ⟨by rw [sLk_f (fun z => z.2.1.elim c_29 (fun w => absurd (show (1 : Nat) = 11 from w) (by decide)))]; rfl, rfl⟩ dX11_isSame_69
      · refine jr_iload_n (i := 2) hX rfl rfl dX11_isSame_32 ?_
        refine jr_iconst (v := 2) hX rfl dX11_isSame_33 ?_
        refine jr_icmp_lt hX (tgt := 48) (by decide) dX11_isSame_34 (fun c_34 => absurd c_34 (by decide)) (fun c_34 => ?_)
        refine jr_aload_n (i := 0) hX rfl rfl dX11_isSame_37 ?_
        refine jr_get (ci := 14) (k := 2) hX ha rfl in_X11 (by decide) q1808 rfl dX11_isSame_38 ?_
        refine jr_aload_n (i := 1) hX rfl rfl dX11_isSame_41 ?_
        refine jr_get (ci := 14) (k := 2) hX hb rfl in_X11 (by decide) q1808 rfl dX11_isSame_42 ?_
        refine jr_icmp_ne hX (tgt := 68) (by decide) dX11_isSame_45 (fun c_45 => ?_) (fun c_45 => ?_)
        · refine jr_iconst (v := 0) hX rfl dX11_isSame_68 ?_
          exact jr_zret hX hlk hr (by decide) ⟨by rw [sLk_f (fun z => c_45 (by have h := z.2.2.1; simpa [s_nb, hrc] using h))]; rfl, rfl⟩ dX11_isSame_69
        · refine jr_iload_n (i := 2) hX rfl rfl dX11_isSame_48 ?_
          refine jr_iconst (v := 3) hX rfl dX11_isSame_49 ?_
          refine jr_icmp_lt hX (tgt := 64) (by decide) dX11_isSame_50 (fun c_50 => ?_) (fun c_50 => absurd (by decide) c_50)
          refine jr_iconst (v := 1) hX rfl dX11_isSame_64 ?_
          refine jr_goto hX (tgt := 69) (by decide) dX11_isSame_65 ?_
          exact jr_zret hX hlk hr (by decide) ⟨by rw [sLk_t ⟨hrc.symm, Or.inl c_29, by rw [hrc]; simp [s_nb, c_45], by rw [hrc]; simp [s_nc]⟩]; rfl, rfl⟩ dX11_isSame_69
  · refine jr_istore_n (i := 2) hX rfl (by decide) rfl dX11_isSame_4 ?_
    refine jr_aload_n (i := 0) hX rfl rfl dX11_isSame_5 ?_
    refine jr_get (ci := 14) (k := 0) hX ha rfl in_X11 (by decide) q1804 rfl dX11_isSame_6 ?_
    refine jr_aload_n (i := 1) hX rfl rfl dX11_isSame_9 ?_
    refine jr_get (ci := 14) (k := 0) hX hb rfl in_X11 (by decide) q1804 rfl dX11_isSame_10 ?_
    refine jr_icmp_ne hX (tgt := 68) (by decide) dX11_isSame_13 (fun c_13 => ?_) (fun c_13 => ?_)
    · refine jr_iconst (v := 0) hX rfl dX11_isSame_68 ?_
      exact jr_zret hX hlk hr (by decide) ⟨by rw [sLk_f (fun z => c_13 (by rw [show r = 2 from z.1.symm]))]; rfl, rfl⟩ dX11_isSame_69
    · have hrc : r = 2 := (jcl_inj _ (by decide) r hr9 c_13).symm
      refine jr_iload_n (i := 2) hX rfl rfl dX11_isSame_16 ?_
      refine jr_iconst (v := 1) hX rfl dX11_isSame_17 ?_
      refine jr_icmp_lt hX (tgt := 32) (by decide) dX11_isSame_18 (fun c_18 => absurd c_18 (by decide)) (fun c_18 => ?_)
      refine jr_aload_n (i := 0) hX rfl rfl dX11_isSame_21 ?_
      refine jr_get (ci := 14) (k := 1) hX ha rfl in_X11 (by decide) q1806 rfl dX11_isSame_22 ?_
      refine jr_aload_n (i := 1) hX rfl rfl dX11_isSame_25 ?_
      refine jr_get (ci := 14) (k := 1) hX hb rfl in_X11 (by decide) q1806 rfl dX11_isSame_26 ?_
      refine jr_icmp_ne hX (tgt := 68) (by decide) dX11_isSame_29 (fun c_29 => ?_) (fun c_29 => ?_)
      · refine jr_iconst (v := 0) hX rfl dX11_isSame_68 ?_
        exact jr_zret hX hlk hr (by decide) ⟨by rw [sLk_f (fun z => z.2.1.elim c_29 (fun w => absurd (show (2 : Nat) = 11 from w) (by decide)))]; rfl, rfl⟩ dX11_isSame_69
      · refine jr_iload_n (i := 2) hX rfl rfl dX11_isSame_32 ?_
        refine jr_iconst (v := 2) hX rfl dX11_isSame_33 ?_
        refine jr_icmp_lt hX (tgt := 48) (by decide) dX11_isSame_34 (fun c_34 => absurd c_34 (by decide)) (fun c_34 => ?_)
        refine jr_aload_n (i := 0) hX rfl rfl dX11_isSame_37 ?_
        refine jr_get (ci := 14) (k := 2) hX ha rfl in_X11 (by decide) q1808 rfl dX11_isSame_38 ?_
        refine jr_aload_n (i := 1) hX rfl rfl dX11_isSame_41 ?_
        refine jr_get (ci := 14) (k := 2) hX hb rfl in_X11 (by decide) q1808 rfl dX11_isSame_42 ?_
        refine jr_icmp_ne hX (tgt := 68) (by decide) dX11_isSame_45 (fun c_45 => ?_) (fun c_45 => ?_)
        · refine jr_iconst (v := 0) hX rfl dX11_isSame_68 ?_
          exact jr_zret hX hlk hr (by decide) ⟨by rw [sLk_f (fun z => c_45 (by have h := z.2.2.1; simpa [s_nb, hrc] using h))]; rfl, rfl⟩ dX11_isSame_69
        · refine jr_iload_n (i := 2) hX rfl rfl dX11_isSame_48 ?_
          refine jr_iconst (v := 3) hX rfl dX11_isSame_49 ?_
          refine jr_icmp_lt hX (tgt := 64) (by decide) dX11_isSame_50 (fun c_50 => ?_) (fun c_50 => absurd (by decide) c_50)
          refine jr_iconst (v := 1) hX rfl dX11_isSame_64 ?_
          refine jr_goto hX (tgt := 69) (by decide) dX11_isSame_65 ?_
          exact jr_zret hX hlk hr (by decide) ⟨by rw [sLk_t ⟨hrc.symm, Or.inl c_29, by rw [hrc]; simp [s_nb, c_45], by rw [hrc]; simp [s_nc]⟩]; rfl, rfl⟩ dX11_isSame_69
  · refine jr_istore_n (i := 2) hX rfl (by decide) rfl dX11_isSame_4 ?_
    refine jr_aload_n (i := 0) hX rfl rfl dX11_isSame_5 ?_
    refine jr_get (ci := 14) (k := 0) hX ha rfl in_X11 (by decide) q1804 rfl dX11_isSame_6 ?_
    refine jr_aload_n (i := 1) hX rfl rfl dX11_isSame_9 ?_
    refine jr_get (ci := 14) (k := 0) hX hb rfl in_X11 (by decide) q1804 rfl dX11_isSame_10 ?_
    refine jr_icmp_ne hX (tgt := 68) (by decide) dX11_isSame_13 (fun c_13 => ?_) (fun c_13 => ?_)
    · refine jr_iconst (v := 0) hX rfl dX11_isSame_68 ?_
      exact jr_zret hX hlk hr (by decide) ⟨by rw [sLk_f (fun z => c_13 (by rw [show r = 3 from z.1.symm]))]; rfl, rfl⟩ dX11_isSame_69
    · have hrc : r = 3 := (jcl_inj _ (by decide) r hr9 c_13).symm
      refine jr_iload_n (i := 2) hX rfl rfl dX11_isSame_16 ?_
      refine jr_iconst (v := 1) hX rfl dX11_isSame_17 ?_
      refine jr_icmp_lt hX (tgt := 32) (by decide) dX11_isSame_18 (fun c_18 => absurd c_18 (by decide)) (fun c_18 => ?_)
      refine jr_aload_n (i := 0) hX rfl rfl dX11_isSame_21 ?_
      refine jr_get (ci := 14) (k := 1) hX ha rfl in_X11 (by decide) q1806 rfl dX11_isSame_22 ?_
      refine jr_aload_n (i := 1) hX rfl rfl dX11_isSame_25 ?_
      refine jr_get (ci := 14) (k := 1) hX hb rfl in_X11 (by decide) q1806 rfl dX11_isSame_26 ?_
      refine jr_icmp_ne hX (tgt := 68) (by decide) dX11_isSame_29 (fun c_29 => ?_) (fun c_29 => ?_)
      · refine jr_iconst (v := 0) hX rfl dX11_isSame_68 ?_
        exact jr_zret hX hlk hr (by decide) ⟨by rw [sLk_f (fun z => z.2.1.elim c_29 (fun w => absurd (show (3 : Nat) = 11 from w) (by decide)))]; rfl, rfl⟩ dX11_isSame_69
      · refine jr_iload_n (i := 2) hX rfl rfl dX11_isSame_32 ?_
        refine jr_iconst (v := 2) hX rfl dX11_isSame_33 ?_
        refine jr_icmp_lt hX (tgt := 48) (by decide) dX11_isSame_34 (fun c_34 => absurd c_34 (by decide)) (fun c_34 => ?_)
        refine jr_aload_n (i := 0) hX rfl rfl dX11_isSame_37 ?_
        refine jr_get (ci := 14) (k := 2) hX ha rfl in_X11 (by decide) q1808 rfl dX11_isSame_38 ?_
        refine jr_aload_n (i := 1) hX rfl rfl dX11_isSame_41 ?_
        refine jr_get (ci := 14) (k := 2) hX hb rfl in_X11 (by decide) q1808 rfl dX11_isSame_42 ?_
        refine jr_icmp_ne hX (tgt := 68) (by decide) dX11_isSame_45 (fun c_45 => ?_) (fun c_45 => ?_)
        · refine jr_iconst (v := 0) hX rfl dX11_isSame_68 ?_
          exact jr_zret hX hlk hr (by decide) ⟨by rw [sLk_f (fun z => c_45 (by have h := z.2.2.1; simpa [s_nb, hrc] using h))]; rfl, rfl⟩ dX11_isSame_69
        · refine jr_iload_n (i := 2) hX rfl rfl dX11_isSame_48 ?_
          refine jr_iconst (v := 3) hX rfl dX11_isSame_49 ?_
          refine jr_icmp_lt hX (tgt := 64) (by decide) dX11_isSame_50 (fun c_50 => absurd c_50 (by decide)) (fun c_50 => ?_)
          refine jr_aload_n (i := 0) hX rfl rfl dX11_isSame_53 ?_
          refine jr_get (ci := 14) (k := 3) hX ha rfl in_X11 (by decide) q1810 rfl dX11_isSame_54 ?_
          refine jr_aload_n (i := 1) hX rfl rfl dX11_isSame_57 ?_
          refine jr_get (ci := 14) (k := 3) hX hb rfl in_X11 (by decide) q1810 rfl dX11_isSame_58 ?_
          refine jr_icmp_ne hX (tgt := 68) (by decide) dX11_isSame_61 (fun c_61 => ?_) (fun c_61 => ?_)
          · refine jr_iconst (v := 0) hX rfl dX11_isSame_68 ?_
            exact jr_zret hX hlk hr (by decide) ⟨by rw [sLk_f (fun z => c_61 (by have h := z.2.2.2; simpa [s_nc, hrc] using h))]; rfl, rfl⟩ dX11_isSame_69
          · refine jr_iconst (v := 1) hX rfl dX11_isSame_64 ?_
            refine jr_goto hX (tgt := 69) (by decide) dX11_isSame_65 ?_
            exact jr_zret hX hlk hr (by decide) ⟨by rw [sLk_t ⟨hrc.symm, Or.inl c_29, by rw [hrc]; simp [s_nb, c_45], by rw [hrc]; simp [s_nc, c_61]⟩]; rfl, rfl⟩ dX11_isSame_69
  · refine jr_istore_n (i := 2) hX rfl (by decide) rfl dX11_isSame_4 ?_
    refine jr_aload_n (i := 0) hX rfl rfl dX11_isSame_5 ?_
    refine jr_get (ci := 14) (k := 0) hX ha rfl in_X11 (by decide) q1804 rfl dX11_isSame_6 ?_
    refine jr_aload_n (i := 1) hX rfl rfl dX11_isSame_9 ?_
    refine jr_get (ci := 14) (k := 0) hX hb rfl in_X11 (by decide) q1804 rfl dX11_isSame_10 ?_
    refine jr_icmp_ne hX (tgt := 68) (by decide) dX11_isSame_13 (fun c_13 => ?_) (fun c_13 => ?_)
    · refine jr_iconst (v := 0) hX rfl dX11_isSame_68 ?_
      exact jr_zret hX hlk hr (by decide) ⟨by rw [sLk_f (fun z => c_13 (by rw [show r = 4 from z.1.symm]))]; rfl, rfl⟩ dX11_isSame_69
    · have hrc : r = 4 := (jcl_inj _ (by decide) r hr9 c_13).symm
      refine jr_iload_n (i := 2) hX rfl rfl dX11_isSame_16 ?_
      refine jr_iconst (v := 1) hX rfl dX11_isSame_17 ?_
      refine jr_icmp_lt hX (tgt := 32) (by decide) dX11_isSame_18 (fun c_18 => absurd c_18 (by decide)) (fun c_18 => ?_)
      refine jr_aload_n (i := 0) hX rfl rfl dX11_isSame_21 ?_
      refine jr_get (ci := 14) (k := 1) hX ha rfl in_X11 (by decide) q1806 rfl dX11_isSame_22 ?_
      refine jr_aload_n (i := 1) hX rfl rfl dX11_isSame_25 ?_
      refine jr_get (ci := 14) (k := 1) hX hb rfl in_X11 (by decide) q1806 rfl dX11_isSame_26 ?_
      refine jr_icmp_ne hX (tgt := 68) (by decide) dX11_isSame_29 (fun c_29 => ?_) (fun c_29 => ?_)
      · refine jr_iconst (v := 0) hX rfl dX11_isSame_68 ?_
        exact jr_zret hX hlk hr (by decide) ⟨by rw [sLk_f (fun z => z.2.1.elim c_29 (fun w => absurd (show (4 : Nat) = 11 from w) (by decide)))]; rfl, rfl⟩ dX11_isSame_69
      · refine jr_iload_n (i := 2) hX rfl rfl dX11_isSame_32 ?_
        refine jr_iconst (v := 2) hX rfl dX11_isSame_33 ?_
        refine jr_icmp_lt hX (tgt := 48) (by decide) dX11_isSame_34 (fun c_34 => absurd c_34 (by decide)) (fun c_34 => ?_)
        refine jr_aload_n (i := 0) hX rfl rfl dX11_isSame_37 ?_
        refine jr_get (ci := 14) (k := 2) hX ha rfl in_X11 (by decide) q1808 rfl dX11_isSame_38 ?_
        refine jr_aload_n (i := 1) hX rfl rfl dX11_isSame_41 ?_
        refine jr_get (ci := 14) (k := 2) hX hb rfl in_X11 (by decide) q1808 rfl dX11_isSame_42 ?_
        refine jr_icmp_ne hX (tgt := 68) (by decide) dX11_isSame_45 (fun c_45 => ?_) (fun c_45 => ?_)
        · refine jr_iconst (v := 0) hX rfl dX11_isSame_68 ?_
          exact jr_zret hX hlk hr (by decide) ⟨by rw [sLk_f (fun z => c_45 (by have h := z.2.2.1; simpa [s_nb, hrc] using h))]; rfl, rfl⟩ dX11_isSame_69
        · refine jr_iload_n (i := 2) hX rfl rfl dX11_isSame_48 ?_
          refine jr_iconst (v := 3) hX rfl dX11_isSame_49 ?_
          refine jr_icmp_lt hX (tgt := 64) (by decide) dX11_isSame_50 (fun c_50 => absurd c_50 (by decide)) (fun c_50 => ?_)
          refine jr_aload_n (i := 0) hX rfl rfl dX11_isSame_53 ?_
          refine jr_get (ci := 14) (k := 3) hX ha rfl in_X11 (by decide) q1810 rfl dX11_isSame_54 ?_
          refine jr_aload_n (i := 1) hX rfl rfl dX11_isSame_57 ?_
          refine jr_get (ci := 14) (k := 3) hX hb rfl in_X11 (by decide) q1810 rfl dX11_isSame_58 ?_
          refine jr_icmp_ne hX (tgt := 68) (by decide) dX11_isSame_61 (fun c_61 => ?_) (fun c_61 => ?_)
          · refine jr_iconst (v := 0) hX rfl dX11_isSame_68 ?_
            exact jr_zret hX hlk hr (by decide) ⟨by rw [sLk_f (fun z => c_61 (by have h := z.2.2.2; simpa [s_nc, hrc] using h))]; rfl, rfl⟩ dX11_isSame_69
          · refine jr_iconst (v := 1) hX rfl dX11_isSame_64 ?_
            refine jr_goto hX (tgt := 69) (by decide) dX11_isSame_65 ?_
            exact jr_zret hX hlk hr (by decide) ⟨by rw [sLk_t ⟨hrc.symm, Or.inl c_29, by rw [hrc]; simp [s_nb, c_45], by rw [hrc]; simp [s_nc, c_61]⟩]; rfl, rfl⟩ dX11_isSame_69
  · refine jr_istore_n (i := 2) hX rfl (by decide) rfl dX11_isSame_4 ?_
    refine jr_aload_n (i := 0) hX rfl rfl dX11_isSame_5 ?_
    refine jr_get (ci := 14) (k := 0) hX ha rfl in_X11 (by decide) q1804 rfl dX11_isSame_6 ?_
    refine jr_aload_n (i := 1) hX rfl rfl dX11_isSame_9 ?_
    refine jr_get (ci := 14) (k := 0) hX hb rfl in_X11 (by decide) q1804 rfl dX11_isSame_10 ?_
    refine jr_icmp_ne hX (tgt := 68) (by decide) dX11_isSame_13 (fun c_13 => ?_) (fun c_13 => ?_)
    · refine jr_iconst (v := 0) hX rfl dX11_isSame_68 ?_
      exact jr_zret hX hlk hr (by decide) ⟨by rw [sLk_f (fun z => c_13 (by rw [show r = 5 from z.1.symm]))]; rfl, rfl⟩ dX11_isSame_69
    · have hrc : r = 5 := (jcl_inj _ (by decide) r hr9 c_13).symm
      refine jr_iload_n (i := 2) hX rfl rfl dX11_isSame_16 ?_
      refine jr_iconst (v := 1) hX rfl dX11_isSame_17 ?_
      refine jr_icmp_lt hX (tgt := 32) (by decide) dX11_isSame_18 (fun c_18 => absurd c_18 (by decide)) (fun c_18 => ?_)
      refine jr_aload_n (i := 0) hX rfl rfl dX11_isSame_21 ?_
      refine jr_get (ci := 14) (k := 1) hX ha rfl in_X11 (by decide) q1806 rfl dX11_isSame_22 ?_
      refine jr_aload_n (i := 1) hX rfl rfl dX11_isSame_25 ?_
      refine jr_get (ci := 14) (k := 1) hX hb rfl in_X11 (by decide) q1806 rfl dX11_isSame_26 ?_
      refine jr_icmp_ne hX (tgt := 68) (by decide) dX11_isSame_29 (fun c_29 => ?_) (fun c_29 => ?_)
      · refine jr_iconst (v := 0) hX rfl dX11_isSame_68 ?_
        exact jr_zret hX hlk hr (by decide) ⟨by rw [sLk_f (fun z => z.2.1.elim c_29 (fun w => absurd (show (5 : Nat) = 11 from w) (by decide)))]; rfl, rfl⟩ dX11_isSame_69
      · refine jr_iload_n (i := 2) hX rfl rfl dX11_isSame_32 ?_
        refine jr_iconst (v := 2) hX rfl dX11_isSame_33 ?_
        refine jr_icmp_lt hX (tgt := 48) (by decide) dX11_isSame_34 (fun c_34 => absurd c_34 (by decide)) (fun c_34 => ?_)
        refine jr_aload_n (i := 0) hX rfl rfl dX11_isSame_37 ?_
        refine jr_get (ci := 14) (k := 2) hX ha rfl in_X11 (by decide) q1808 rfl dX11_isSame_38 ?_
        refine jr_aload_n (i := 1) hX rfl rfl dX11_isSame_41 ?_
        refine jr_get (ci := 14) (k := 2) hX hb rfl in_X11 (by decide) q1808 rfl dX11_isSame_42 ?_
        refine jr_icmp_ne hX (tgt := 68) (by decide) dX11_isSame_45 (fun c_45 => ?_) (fun c_45 => ?_)
        · refine jr_iconst (v := 0) hX rfl dX11_isSame_68 ?_
          exact jr_zret hX hlk hr (by decide) ⟨by rw [sLk_f (fun z => c_45 (by have h := z.2.2.1; simpa [s_nb, hrc] using h))]; rfl, rfl⟩ dX11_isSame_69
        · refine jr_iload_n (i := 2) hX rfl rfl dX11_isSame_48 ?_
          refine jr_iconst (v := 3) hX rfl dX11_isSame_49 ?_
          refine jr_icmp_lt hX (tgt := 64) (by decide) dX11_isSame_50 (fun c_50 => ?_) (fun c_50 => absurd (by decide) c_50)
          refine jr_iconst (v := 1) hX rfl dX11_isSame_64 ?_
          refine jr_goto hX (tgt := 69) (by decide) dX11_isSame_65 ?_
          exact jr_zret hX hlk hr (by decide) ⟨by rw [sLk_t ⟨hrc.symm, Or.inl c_29, by rw [hrc]; simp [s_nb, c_45], by rw [hrc]; simp [s_nc]⟩]; rfl, rfl⟩ dX11_isSame_69
  · refine jr_istore_n (i := 2) hX rfl (by decide) rfl dX11_isSame_4 ?_
    refine jr_aload_n (i := 0) hX rfl rfl dX11_isSame_5 ?_
    refine jr_get (ci := 14) (k := 0) hX ha rfl in_X11 (by decide) q1804 rfl dX11_isSame_6 ?_
    refine jr_aload_n (i := 1) hX rfl rfl dX11_isSame_9 ?_
    refine jr_get (ci := 14) (k := 0) hX hb rfl in_X11 (by decide) q1804 rfl dX11_isSame_10 ?_
    refine jr_icmp_ne hX (tgt := 68) (by decide) dX11_isSame_13 (fun c_13 => ?_) (fun c_13 => ?_)
    · refine jr_iconst (v := 0) hX rfl dX11_isSame_68 ?_
      exact jr_zret hX hlk hr (by decide) ⟨by rw [sLk_f (fun z => c_13 (by rw [show r = 6 from z.1.symm]))]; rfl, rfl⟩ dX11_isSame_69
    · have hrc : r = 6 := (jcl_inj _ (by decide) r hr9 c_13).symm
      refine jr_iload_n (i := 2) hX rfl rfl dX11_isSame_16 ?_
      refine jr_iconst (v := 1) hX rfl dX11_isSame_17 ?_
      refine jr_icmp_lt hX (tgt := 32) (by decide) dX11_isSame_18 (fun c_18 => absurd c_18 (by decide)) (fun c_18 => ?_)
      refine jr_aload_n (i := 0) hX rfl rfl dX11_isSame_21 ?_
      refine jr_get (ci := 14) (k := 1) hX ha rfl in_X11 (by decide) q1806 rfl dX11_isSame_22 ?_
      refine jr_aload_n (i := 1) hX rfl rfl dX11_isSame_25 ?_
      refine jr_get (ci := 14) (k := 1) hX hb rfl in_X11 (by decide) q1806 rfl dX11_isSame_26 ?_
      refine jr_icmp_ne hX (tgt := 68) (by decide) dX11_isSame_29 (fun c_29 => ?_) (fun c_29 => ?_)
      · refine jr_iconst (v := 0) hX rfl dX11_isSame_68 ?_
        exact jr_zret hX hlk hr (by decide) ⟨by rw [sLk_f (fun z => z.2.1.elim c_29 (fun w => absurd (show (6 : Nat) = 11 from w) (by decide)))]; rfl, rfl⟩ dX11_isSame_69
      · refine jr_iload_n (i := 2) hX rfl rfl dX11_isSame_32 ?_
        refine jr_iconst (v := 2) hX rfl dX11_isSame_33 ?_
        refine jr_icmp_lt hX (tgt := 48) (by decide) dX11_isSame_34 (fun c_34 => absurd c_34 (by decide)) (fun c_34 => ?_)
        refine jr_aload_n (i := 0) hX rfl rfl dX11_isSame_37 ?_
        refine jr_get (ci := 14) (k := 2) hX ha rfl in_X11 (by decide) q1808 rfl dX11_isSame_38 ?_
        refine jr_aload_n (i := 1) hX rfl rfl dX11_isSame_41 ?_
        refine jr_get (ci := 14) (k := 2) hX hb rfl in_X11 (by decide) q1808 rfl dX11_isSame_42 ?_
        refine jr_icmp_ne hX (tgt := 68) (by decide) dX11_isSame_45 (fun c_45 => ?_) (fun c_45 => ?_)
        · refine jr_iconst (v := 0) hX rfl dX11_isSame_68 ?_
          exact jr_zret hX hlk hr (by decide) ⟨by rw [sLk_f (fun z => c_45 (by have h := z.2.2.1; simpa [s_nb, hrc] using h))]; rfl, rfl⟩ dX11_isSame_69
        · refine jr_iload_n (i := 2) hX rfl rfl dX11_isSame_48 ?_
          refine jr_iconst (v := 3) hX rfl dX11_isSame_49 ?_
          refine jr_icmp_lt hX (tgt := 64) (by decide) dX11_isSame_50 (fun c_50 => absurd c_50 (by decide)) (fun c_50 => ?_)
          refine jr_aload_n (i := 0) hX rfl rfl dX11_isSame_53 ?_
          refine jr_get (ci := 14) (k := 3) hX ha rfl in_X11 (by decide) q1810 rfl dX11_isSame_54 ?_
          refine jr_aload_n (i := 1) hX rfl rfl dX11_isSame_57 ?_
          refine jr_get (ci := 14) (k := 3) hX hb rfl in_X11 (by decide) q1810 rfl dX11_isSame_58 ?_
          refine jr_icmp_ne hX (tgt := 68) (by decide) dX11_isSame_61 (fun c_61 => ?_) (fun c_61 => ?_)
          · refine jr_iconst (v := 0) hX rfl dX11_isSame_68 ?_
            exact jr_zret hX hlk hr (by decide) ⟨by rw [sLk_f (fun z => c_61 (by have h := z.2.2.2; simpa [s_nc, hrc] using h))]; rfl, rfl⟩ dX11_isSame_69
          · refine jr_iconst (v := 1) hX rfl dX11_isSame_64 ?_
            refine jr_goto hX (tgt := 69) (by decide) dX11_isSame_65 ?_
            exact jr_zret hX hlk hr (by decide) ⟨by rw [sLk_t ⟨hrc.symm, Or.inl c_29, by rw [hrc]; simp [s_nb, c_45], by rw [hrc]; simp [s_nc, c_61]⟩]; rfl, rfl⟩ dX11_isSame_69
  · refine jr_istore_n (i := 2) hX rfl (by decide) rfl dX11_isSame_4 ?_
    refine jr_aload_n (i := 0) hX rfl rfl dX11_isSame_5 ?_
    refine jr_get (ci := 14) (k := 0) hX ha rfl in_X11 (by decide) q1804 rfl dX11_isSame_6 ?_
    refine jr_aload_n (i := 1) hX rfl rfl dX11_isSame_9 ?_
    refine jr_get (ci := 14) (k := 0) hX hb rfl in_X11 (by decide) q1804 rfl dX11_isSame_10 ?_
    refine jr_icmp_ne hX (tgt := 68) (by decide) dX11_isSame_13 (fun c_13 => ?_) (fun c_13 => ?_)
    · refine jr_iconst (v := 0) hX rfl dX11_isSame_68 ?_
      exact jr_zret hX hlk hr (by decide) ⟨by rw [sLk_f (fun z => c_13 (by rw [show r = 7 from z.1.symm]))]; rfl, rfl⟩ dX11_isSame_69
    · have hrc : r = 7 := (jcl_inj _ (by decide) r hr9 c_13).symm
      refine jr_iload_n (i := 2) hX rfl rfl dX11_isSame_16 ?_
      refine jr_iconst (v := 1) hX rfl dX11_isSame_17 ?_
      refine jr_icmp_lt hX (tgt := 32) (by decide) dX11_isSame_18 (fun c_18 => absurd c_18 (by decide)) (fun c_18 => ?_)
      refine jr_aload_n (i := 0) hX rfl rfl dX11_isSame_21 ?_
      refine jr_get (ci := 14) (k := 1) hX ha rfl in_X11 (by decide) q1806 rfl dX11_isSame_22 ?_
      refine jr_aload_n (i := 1) hX rfl rfl dX11_isSame_25 ?_
      refine jr_get (ci := 14) (k := 1) hX hb rfl in_X11 (by decide) q1806 rfl dX11_isSame_26 ?_
      refine jr_icmp_ne hX (tgt := 68) (by decide) dX11_isSame_29 (fun c_29 => ?_) (fun c_29 => ?_)
      · refine jr_iconst (v := 0) hX rfl dX11_isSame_68 ?_
        exact jr_zret hX hlk hr (by decide) ⟨by rw [sLk_f (fun z => z.2.1.elim c_29 (fun w => absurd (show (7 : Nat) = 11 from w) (by decide)))]; rfl, rfl⟩ dX11_isSame_69
      · refine jr_iload_n (i := 2) hX rfl rfl dX11_isSame_32 ?_
        refine jr_iconst (v := 2) hX rfl dX11_isSame_33 ?_
        refine jr_icmp_lt hX (tgt := 48) (by decide) dX11_isSame_34 (fun c_34 => absurd c_34 (by decide)) (fun c_34 => ?_)
        refine jr_aload_n (i := 0) hX rfl rfl dX11_isSame_37 ?_
        refine jr_get (ci := 14) (k := 2) hX ha rfl in_X11 (by decide) q1808 rfl dX11_isSame_38 ?_
        refine jr_aload_n (i := 1) hX rfl rfl dX11_isSame_41 ?_
        refine jr_get (ci := 14) (k := 2) hX hb rfl in_X11 (by decide) q1808 rfl dX11_isSame_42 ?_
        refine jr_icmp_ne hX (tgt := 68) (by decide) dX11_isSame_45 (fun c_45 => ?_) (fun c_45 => ?_)
        · refine jr_iconst (v := 0) hX rfl dX11_isSame_68 ?_
          exact jr_zret hX hlk hr (by decide) ⟨by rw [sLk_f (fun z => c_45 (by have h := z.2.2.1; simpa [s_nb, hrc] using h))]; rfl, rfl⟩ dX11_isSame_69
        · refine jr_iload_n (i := 2) hX rfl rfl dX11_isSame_48 ?_
          refine jr_iconst (v := 3) hX rfl dX11_isSame_49 ?_
          refine jr_icmp_lt hX (tgt := 64) (by decide) dX11_isSame_50 (fun c_50 => absurd c_50 (by decide)) (fun c_50 => ?_)
          refine jr_aload_n (i := 0) hX rfl rfl dX11_isSame_53 ?_
          refine jr_get (ci := 14) (k := 3) hX ha rfl in_X11 (by decide) q1810 rfl dX11_isSame_54 ?_
          refine jr_aload_n (i := 1) hX rfl rfl dX11_isSame_57 ?_
          refine jr_get (ci := 14) (k := 3) hX hb rfl in_X11 (by decide) q1810 rfl dX11_isSame_58 ?_
          refine jr_icmp_ne hX (tgt := 68) (by decide) dX11_isSame_61 (fun c_61 => ?_) (fun c_61 => ?_)
          · refine jr_iconst (v := 0) hX rfl dX11_isSame_68 ?_
            exact jr_zret hX hlk hr (by decide) ⟨by rw [sLk_f (fun z => c_61 (by have h := z.2.2.2; simpa [s_nc, hrc] using h))]; rfl, rfl⟩ dX11_isSame_69
          · refine jr_iconst (v := 1) hX rfl dX11_isSame_64 ?_
            refine jr_goto hX (tgt := 69) (by decide) dX11_isSame_65 ?_
            exact jr_zret hX hlk hr (by decide) ⟨by rw [sLk_t ⟨hrc.symm, Or.inl c_29, by rw [hrc]; simp [s_nb, c_45], by rw [hrc]; simp [s_nc, c_61]⟩]; rfl, rfl⟩ dX11_isSame_69
  · refine jr_istore_n (i := 2) hX rfl (by decide) rfl dX11_isSame_4 ?_
    refine jr_aload_n (i := 0) hX rfl rfl dX11_isSame_5 ?_
    refine jr_get (ci := 14) (k := 0) hX ha rfl in_X11 (by decide) q1804 rfl dX11_isSame_6 ?_
    refine jr_aload_n (i := 1) hX rfl rfl dX11_isSame_9 ?_
    refine jr_get (ci := 14) (k := 0) hX hb rfl in_X11 (by decide) q1804 rfl dX11_isSame_10 ?_
    refine jr_icmp_ne hX (tgt := 68) (by decide) dX11_isSame_13 (fun c_13 => ?_) (fun c_13 => ?_)
    · refine jr_iconst (v := 0) hX rfl dX11_isSame_68 ?_
      exact jr_zret hX hlk hr (by decide) ⟨by rw [sLk_f (fun z => c_13 (by rw [show r = 8 from z.1.symm]))]; rfl, rfl⟩ dX11_isSame_69
    · have hrc : r = 8 := (jcl_inj _ (by decide) r hr9 c_13).symm
      refine jr_iload_n (i := 2) hX rfl rfl dX11_isSame_16 ?_
      refine jr_iconst (v := 1) hX rfl dX11_isSame_17 ?_
      refine jr_icmp_lt hX (tgt := 32) (by decide) dX11_isSame_18 (fun c_18 => absurd c_18 (by decide)) (fun c_18 => ?_)
      refine jr_aload_n (i := 0) hX rfl rfl dX11_isSame_21 ?_
      refine jr_get (ci := 14) (k := 1) hX ha rfl in_X11 (by decide) q1806 rfl dX11_isSame_22 ?_
      refine jr_aload_n (i := 1) hX rfl rfl dX11_isSame_25 ?_
      refine jr_get (ci := 14) (k := 1) hX hb rfl in_X11 (by decide) q1806 rfl dX11_isSame_26 ?_
      refine jr_icmp_ne hX (tgt := 68) (by decide) dX11_isSame_29 (fun c_29 => ?_) (fun c_29 => ?_)
      · refine jr_iconst (v := 0) hX rfl dX11_isSame_68 ?_
        exact jr_zret hX hlk hr (by decide) ⟨by rw [sLk_f (fun z => z.2.1.elim c_29 (fun w => absurd (show (8 : Nat) = 11 from w) (by decide)))]; rfl, rfl⟩ dX11_isSame_69
      · refine jr_iload_n (i := 2) hX rfl rfl dX11_isSame_32 ?_
        refine jr_iconst (v := 2) hX rfl dX11_isSame_33 ?_
        refine jr_icmp_lt hX (tgt := 48) (by decide) dX11_isSame_34 (fun c_34 => absurd c_34 (by decide)) (fun c_34 => ?_)
        refine jr_aload_n (i := 0) hX rfl rfl dX11_isSame_37 ?_
        refine jr_get (ci := 14) (k := 2) hX ha rfl in_X11 (by decide) q1808 rfl dX11_isSame_38 ?_
        refine jr_aload_n (i := 1) hX rfl rfl dX11_isSame_41 ?_
        refine jr_get (ci := 14) (k := 2) hX hb rfl in_X11 (by decide) q1808 rfl dX11_isSame_42 ?_
        refine jr_icmp_ne hX (tgt := 68) (by decide) dX11_isSame_45 (fun c_45 => ?_) (fun c_45 => ?_)
        · refine jr_iconst (v := 0) hX rfl dX11_isSame_68 ?_
          exact jr_zret hX hlk hr (by decide) ⟨by rw [sLk_f (fun z => c_45 (by have h := z.2.2.1; simpa [s_nb, hrc] using h))]; rfl, rfl⟩ dX11_isSame_69
        · refine jr_iload_n (i := 2) hX rfl rfl dX11_isSame_48 ?_
          refine jr_iconst (v := 3) hX rfl dX11_isSame_49 ?_
          refine jr_icmp_lt hX (tgt := 64) (by decide) dX11_isSame_50 (fun c_50 => ?_) (fun c_50 => absurd (by decide) c_50)
          refine jr_iconst (v := 1) hX rfl dX11_isSame_64 ?_
          refine jr_goto hX (tgt := 69) (by decide) dX11_isSame_65 ?_
          exact jr_zret hX hlk hr (by decide) ⟨by rw [sLk_t ⟨hrc.symm, Or.inl c_29, by rw [hrc]; simp [s_nb, c_45], by rw [hrc]; simp [s_nc]⟩]; rfl, rfl⟩ dX11_isSame_69
  · refine jr_istore_n (i := 2) hX rfl (by decide) rfl dX11_isSame_4 ?_
    refine jr_aload_n (i := 0) hX rfl rfl dX11_isSame_5 ?_
    refine jr_get (ci := 14) (k := 0) hX ha rfl in_X11 (by decide) q1804 rfl dX11_isSame_6 ?_
    refine jr_aload_n (i := 1) hX rfl rfl dX11_isSame_9 ?_
    refine jr_get (ci := 14) (k := 0) hX hb rfl in_X11 (by decide) q1804 rfl dX11_isSame_10 ?_
    refine jr_icmp_ne hX (tgt := 68) (by decide) dX11_isSame_13 (fun c_13 => ?_) (fun c_13 => ?_)
    · refine jr_iconst (v := 0) hX rfl dX11_isSame_68 ?_
      exact jr_zret hX hlk hr (by decide) ⟨by rw [sLk_f (fun z => c_13 (by rw [show r = 9 from z.1.symm]))]; rfl, rfl⟩ dX11_isSame_69
    · have hrc : r = 9 := (jcl_inj _ (by decide) r hr9 c_13).symm
      refine jr_iload_n (i := 2) hX rfl rfl dX11_isSame_16 ?_
      refine jr_iconst (v := 1) hX rfl dX11_isSame_17 ?_
      refine jr_icmp_lt hX (tgt := 32) (by decide) dX11_isSame_18 (fun c_18 => absurd c_18 (by decide)) (fun c_18 => ?_)
      refine jr_aload_n (i := 0) hX rfl rfl dX11_isSame_21 ?_
      refine jr_get (ci := 14) (k := 1) hX ha rfl in_X11 (by decide) q1806 rfl dX11_isSame_22 ?_
      refine jr_aload_n (i := 1) hX rfl rfl dX11_isSame_25 ?_
      refine jr_get (ci := 14) (k := 1) hX hb rfl in_X11 (by decide) q1806 rfl dX11_isSame_26 ?_
      refine jr_icmp_ne hX (tgt := 68) (by decide) dX11_isSame_29 (fun c_29 => ?_) (fun c_29 => ?_)
      · refine jr_iconst (v := 0) hX rfl dX11_isSame_68 ?_
        exact jr_zret hX hlk hr (by decide) ⟨by rw [sLk_f (fun z => z.2.1.elim c_29 (fun w => absurd (show (9 : Nat) = 11 from w) (by decide)))]; rfl, rfl⟩ dX11_isSame_69
      · refine jr_iload_n (i := 2) hX rfl rfl dX11_isSame_32 ?_
        refine jr_iconst (v := 2) hX rfl dX11_isSame_33 ?_
        refine jr_icmp_lt hX (tgt := 48) (by decide) dX11_isSame_34 (fun c_34 => ?_) (fun c_34 => absurd (by decide) c_34)
        refine jr_iload_n (i := 2) hX rfl rfl dX11_isSame_48 ?_
        refine jr_iconst (v := 3) hX rfl dX11_isSame_49 ?_
        refine jr_icmp_lt hX (tgt := 64) (by decide) dX11_isSame_50 (fun c_50 => ?_) (fun c_50 => absurd (by decide) c_50)
        refine jr_iconst (v := 1) hX rfl dX11_isSame_64 ?_
        refine jr_goto hX (tgt := 69) (by decide) dX11_isSame_65 ?_
        exact jr_zret hX hlk hr (by decide) ⟨by rw [sLk_t ⟨hrc.symm, Or.inl c_29, by rw [hrc]; simp [s_nb], by rw [hrc]; simp [s_nc]⟩]; rfl, rfl⟩ dX11_isSame_69
  · refine jr_istore_n (i := 2) hX rfl (by decide) rfl dX11_isSame_4 ?_
    refine jr_aload_n (i := 0) hX rfl rfl dX11_isSame_5 ?_
    refine jr_get (ci := 14) (k := 0) hX ha rfl in_X11 (by decide) q1804 rfl dX11_isSame_6 ?_
    refine jr_aload_n (i := 1) hX rfl rfl dX11_isSame_9 ?_
    refine jr_get (ci := 14) (k := 0) hX hb rfl in_X11 (by decide) q1804 rfl dX11_isSame_10 ?_
    refine jr_icmp_ne hX (tgt := 68) (by decide) dX11_isSame_13 (fun c_13 => ?_) (fun c_13 => ?_)
    · refine jr_iconst (v := 0) hX rfl dX11_isSame_68 ?_
      exact jr_zret hX hlk hr (by decide) ⟨by rw [sLk_f (fun z => c_13 (by rw [show r = 10 from z.1.symm]))]; rfl, rfl⟩ dX11_isSame_69
    · have hrc : r = 10 := (jcl_inj _ (by decide) r hr9 c_13).symm
      refine jr_iload_n (i := 2) hX rfl rfl dX11_isSame_16 ?_
      refine jr_iconst (v := 1) hX rfl dX11_isSame_17 ?_
      refine jr_icmp_lt hX (tgt := 32) (by decide) dX11_isSame_18 (fun c_18 => absurd c_18 (by decide)) (fun c_18 => ?_)
      refine jr_aload_n (i := 0) hX rfl rfl dX11_isSame_21 ?_
      refine jr_get (ci := 14) (k := 1) hX ha rfl in_X11 (by decide) q1806 rfl dX11_isSame_22 ?_
      refine jr_aload_n (i := 1) hX rfl rfl dX11_isSame_25 ?_
      refine jr_get (ci := 14) (k := 1) hX hb rfl in_X11 (by decide) q1806 rfl dX11_isSame_26 ?_
      refine jr_icmp_ne hX (tgt := 68) (by decide) dX11_isSame_29 (fun c_29 => ?_) (fun c_29 => ?_)
      · refine jr_iconst (v := 0) hX rfl dX11_isSame_68 ?_
        exact jr_zret hX hlk hr (by decide) ⟨by rw [sLk_f (fun z => z.2.1.elim c_29 (fun w => absurd (show (10 : Nat) = 11 from w) (by decide)))]; rfl, rfl⟩ dX11_isSame_69
      · refine jr_iload_n (i := 2) hX rfl rfl dX11_isSame_32 ?_
        refine jr_iconst (v := 2) hX rfl dX11_isSame_33 ?_
        refine jr_icmp_lt hX (tgt := 48) (by decide) dX11_isSame_34 (fun c_34 => ?_) (fun c_34 => absurd (by decide) c_34)
        refine jr_iload_n (i := 2) hX rfl rfl dX11_isSame_48 ?_
        refine jr_iconst (v := 3) hX rfl dX11_isSame_49 ?_
        refine jr_icmp_lt hX (tgt := 64) (by decide) dX11_isSame_50 (fun c_50 => ?_) (fun c_50 => absurd (by decide) c_50)
        refine jr_iconst (v := 1) hX rfl dX11_isSame_64 ?_
        refine jr_goto hX (tgt := 69) (by decide) dX11_isSame_65 ?_
        exact jr_zret hX hlk hr (by decide) ⟨by rw [sLk_t ⟨hrc.symm, Or.inl c_29, by rw [hrc]; simp [s_nb], by rw [hrc]; simp [s_nc]⟩]; rfl, rfl⟩ dX11_isSame_69
  · refine jr_istore_n (i := 2) hX rfl (by decide) rfl dX11_isSame_4 ?_
    refine jr_aload_n (i := 0) hX rfl rfl dX11_isSame_5 ?_
    refine jr_get (ci := 14) (k := 0) hX ha rfl in_X11 (by decide) q1804 rfl dX11_isSame_6 ?_
    refine jr_aload_n (i := 1) hX rfl rfl dX11_isSame_9 ?_
    refine jr_get (ci := 14) (k := 0) hX hb rfl in_X11 (by decide) q1804 rfl dX11_isSame_10 ?_
    refine jr_icmp_ne hX (tgt := 68) (by decide) dX11_isSame_13 (fun c_13 => ?_) (fun c_13 => ?_)
    · refine jr_iconst (v := 0) hX rfl dX11_isSame_68 ?_
      exact jr_zret hX hlk hr (by decide) ⟨by rw [sLk_f (fun z => c_13 (by rw [show r = 11 from z.1.symm]))]; rfl, rfl⟩ dX11_isSame_69
    · have hrc : r = 11 := (jcl_inj _ (by decide) r hr9 c_13).symm
      refine jr_iload_n (i := 2) hX rfl rfl dX11_isSame_16 ?_
      refine jr_iconst (v := 1) hX rfl dX11_isSame_17 ?_
      refine jr_icmp_lt hX (tgt := 32) (by decide) dX11_isSame_18 (fun c_18 => ?_) (fun c_18 => absurd (by decide) c_18)
      refine jr_iload_n (i := 2) hX rfl rfl dX11_isSame_32 ?_
      refine jr_iconst (v := 2) hX rfl dX11_isSame_33 ?_
      refine jr_icmp_lt hX (tgt := 48) (by decide) dX11_isSame_34 (fun c_34 => ?_) (fun c_34 => absurd (by decide) c_34)
      refine jr_iload_n (i := 2) hX rfl rfl dX11_isSame_48 ?_
      refine jr_iconst (v := 3) hX rfl dX11_isSame_49 ?_
      refine jr_icmp_lt hX (tgt := 64) (by decide) dX11_isSame_50 (fun c_50 => ?_) (fun c_50 => absurd (by decide) c_50)
      refine jr_iconst (v := 1) hX rfl dX11_isSame_64 ?_
      refine jr_goto hX (tgt := 69) (by decide) dX11_isSame_65 ?_
      exact jr_zret hX hlk hr (by decide) ⟨by rw [sLk_t ⟨hrc.symm, Or.inr rfl, by rw [hrc]; simp [s_nb], by rw [hrc]; simp [s_nc]⟩]; rfl, rfl⟩ dX11_isSame_69
