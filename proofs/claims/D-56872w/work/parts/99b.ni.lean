/-! the model's isCode of another letter -/
set_option maxHeartbeats 4000000 in
set_option maxRecDepth 100000 in
theorem mm_isCodeN (l : Launch) (D : va_G) (s0 : State) (b0 : Nat) (A : Nat → Prop) (G : jG) (n : Nat) (hn : n < 65536) (hno : ∀ q, q < 12 → nI n ≠ jCL.getD q 0) (a b c9 : Int32) : jM l yX5_isCode (ws_ yX5_isCode cX5_isCode 4 (some .boolean)) (jR 2 0 0) D s0 b0 A G [.int (nI n), .int a, .int b, .int c9] (fun w G1 => w = some (.int 0) ∧ G1 = G) := by
  refine jM.of (by decide +kernel) (own := RX5) rfl (Nat.le_of_ble_eq_true rfl) ?_
  intro p e s m args below meth c hX hr hlk hnm
  refine jr_iload_n (i := 0) hX rfl rfl dX5_isCode_0 ?_
  by_cases h1 : n < 97 ∨ 116 < n
  · refine jr_tableOut hX (tgt := 292) (by rw [nI_toInt (by omega)]; omega) (by decide) dX5_isCode_1 ?_
    refine jr_iload_n (i := 0) hX rfl rfl dX5_isCode_292 ?_
    refine jr_bipush (v := 119) hX (by decide) dX5_isCode_293 ?_
    refine jr_icmp_ne hX (tgt := 302) (by decide) dX5_isCode_295 (fun c_295 => ?_) (fun c_295 => absurd c_295 (fun z => hno 11 (by decide) z))
    refine jr_iconst (v := 0) hX rfl dX5_isCode_302 ?_
    exact jr_zret hX hlk hr (by decide) ⟨rfl, rfl⟩ dX5_isCode_303
  · have e107 : n ≠ 107 := fun z => hno 0 (by decide) (by rw [z]; rfl)
    have e97 : n ≠ 97 := fun z => hno 1 (by decide) (by rw [z]; rfl)
    have e110 : n ≠ 110 := fun z => hno 2 (by decide) (by rw [z]; rfl)
    have e103 : n ≠ 103 := fun z => hno 3 (by decide) (by rw [z]; rfl)
    have e112 : n ≠ 112 := fun z => hno 4 (by decide) (by rw [z]; rfl)
    have e106 : n ≠ 106 := fun z => hno 5 (by decide) (by rw [z]; rfl)
    have e99 : n ≠ 99 := fun z => hno 6 (by decide) (by rw [z]; rfl)
    have e116 : n ≠ 116 := fun z => hno 7 (by decide) (by rw [z]; rfl)
    have e115 : n ≠ 115 := fun z => hno 8 (by decide) (by rw [z]; rfl)
    have e114 : n ≠ 114 := fun z => hno 9 (by decide) (by rw [z]; rfl)
    have e111 : n ≠ 111 := fun z => hno 10 (by decide) (by rw [z]; rfl)
    have e119 : n ≠ 119 := fun z => hno 11 (by decide) (by rw [z]; rfl)
    have h9 : n = 98 ∨ n = 100 ∨ n = 101 ∨ n = 102 ∨ n = 104 ∨ n = 105 ∨ n = 108 ∨ n = 109 ∨ n = 113 := by omega
    rcases h9 with rfl | rfl | rfl | rfl | rfl | rfl | rfl | rfl | rfl
    · refine jr_tableIn hX (off := 291) (tgt := 292) (by decide +kernel) (by decide +kernel) (by decide +kernel) (by decide) dX5_isCode_1 ?_
      refine jr_iload_n (i := 0) hX rfl rfl dX5_isCode_292 ?_
      refine jr_bipush (v := 119) hX (by decide) dX5_isCode_293 ?_
      refine jr_icmp_ne hX (tgt := 302) (by decide) dX5_isCode_295 (fun c_295 => ?_) (fun c_295 => absurd c_295 (by decide))
      refine jr_iconst (v := 0) hX rfl dX5_isCode_302 ?_
      exact jr_zret hX hlk hr (by decide) ⟨rfl, rfl⟩ dX5_isCode_303
    · refine jr_tableIn hX (off := 291) (tgt := 292) (by decide +kernel) (by decide +kernel) (by decide +kernel) (by decide) dX5_isCode_1 ?_
      refine jr_iload_n (i := 0) hX rfl rfl dX5_isCode_292 ?_
      refine jr_bipush (v := 119) hX (by decide) dX5_isCode_293 ?_
      refine jr_icmp_ne hX (tgt := 302) (by decide) dX5_isCode_295 (fun c_295 => ?_) (fun c_295 => absurd c_295 (by decide))
      refine jr_iconst (v := 0) hX rfl dX5_isCode_302 ?_
      exact jr_zret hX hlk hr (by decide) ⟨rfl, rfl⟩ dX5_isCode_303
    · refine jr_tableIn hX (off := 291) (tgt := 292) (by decide +kernel) (by decide +kernel) (by decide +kernel) (by decide) dX5_isCode_1 ?_
      refine jr_iload_n (i := 0) hX rfl rfl dX5_isCode_292 ?_
      refine jr_bipush (v := 119) hX (by decide) dX5_isCode_293 ?_
      refine jr_icmp_ne hX (tgt := 302) (by decide) dX5_isCode_295 (fun c_295 => ?_) (fun c_295 => absurd c_295 (by decide))
      refine jr_iconst (v := 0) hX rfl dX5_isCode_302 ?_
      exact jr_zret hX hlk hr (by decide) ⟨rfl, rfl⟩ dX5_isCode_303
    · refine jr_tableIn hX (off := 291) (tgt := 292) (by decide +kernel) (by decide +kernel) (by decide +kernel) (by decide) dX5_isCode_1 ?_
      refine jr_iload_n (i := 0) hX rfl rfl dX5_isCode_292 ?_
      refine jr_bipush (v := 119) hX (by decide) dX5_isCode_293 ?_
      refine jr_icmp_ne hX (tgt := 302) (by decide) dX5_isCode_295 (fun c_295 => ?_) (fun c_295 => absurd c_295 (by decide))
      refine jr_iconst (v := 0) hX rfl dX5_isCode_302 ?_
      exact jr_zret hX hlk hr (by decide) ⟨rfl, rfl⟩ dX5_isCode_303
    · refine jr_tableIn hX (off := 291) (tgt := 292) (by decide +kernel) (by decide +kernel) (by decide +kernel) (by decide) dX5_isCode_1 ?_
      refine jr_iload_n (i := 0) hX rfl rfl dX5_isCode_292 ?_
      refine jr_bipush (v := 119) hX (by decide) dX5_isCode_293 ?_
      refine jr_icmp_ne hX (tgt := 302) (by decide) dX5_isCode_295 (fun c_295 => ?_) (fun c_295 => absurd c_295 (by decide))
      refine jr_iconst (v := 0) hX rfl dX5_isCode_302 ?_
      exact jr_zret hX hlk hr (by decide) ⟨rfl, rfl⟩ dX5_isCode_303
    · refine jr_tableIn hX (off := 291) (tgt := 292) (by decide +kernel) (by decide +kernel) (by decide +kernel) (by decide) dX5_isCode_1 ?_
      refine jr_iload_n (i := 0) hX rfl rfl dX5_isCode_292 ?_
      refine jr_bipush (v := 119) hX (by decide) dX5_isCode_293 ?_
      refine jr_icmp_ne hX (tgt := 302) (by decide) dX5_isCode_295 (fun c_295 => ?_) (fun c_295 => absurd c_295 (by decide))
      refine jr_iconst (v := 0) hX rfl dX5_isCode_302 ?_
      exact jr_zret hX hlk hr (by decide) ⟨rfl, rfl⟩ dX5_isCode_303
    · refine jr_tableIn hX (off := 291) (tgt := 292) (by decide +kernel) (by decide +kernel) (by decide +kernel) (by decide) dX5_isCode_1 ?_
      refine jr_iload_n (i := 0) hX rfl rfl dX5_isCode_292 ?_
      refine jr_bipush (v := 119) hX (by decide) dX5_isCode_293 ?_
      refine jr_icmp_ne hX (tgt := 302) (by decide) dX5_isCode_295 (fun c_295 => ?_) (fun c_295 => absurd c_295 (by decide))
      refine jr_iconst (v := 0) hX rfl dX5_isCode_302 ?_
      exact jr_zret hX hlk hr (by decide) ⟨rfl, rfl⟩ dX5_isCode_303
    · refine jr_tableIn hX (off := 291) (tgt := 292) (by decide +kernel) (by decide +kernel) (by decide +kernel) (by decide) dX5_isCode_1 ?_
      refine jr_iload_n (i := 0) hX rfl rfl dX5_isCode_292 ?_
      refine jr_bipush (v := 119) hX (by decide) dX5_isCode_293 ?_
      refine jr_icmp_ne hX (tgt := 302) (by decide) dX5_isCode_295 (fun c_295 => ?_) (fun c_295 => absurd c_295 (by decide))
      refine jr_iconst (v := 0) hX rfl dX5_isCode_302 ?_
      exact jr_zret hX hlk hr (by decide) ⟨rfl, rfl⟩ dX5_isCode_303
    · refine jr_tableIn hX (off := 291) (tgt := 292) (by decide +kernel) (by decide +kernel) (by decide +kernel) (by decide) dX5_isCode_1 ?_
      refine jr_iload_n (i := 0) hX rfl rfl dX5_isCode_292 ?_
      refine jr_bipush (v := 119) hX (by decide) dX5_isCode_293 ?_
      refine jr_icmp_ne hX (tgt := 302) (by decide) dX5_isCode_295 (fun c_295 => ?_) (fun c_295 => absurd c_295 (by decide))
      refine jr_iconst (v := 0) hX rfl dX5_isCode_302 ?_
      exact jr_zret hX hlk hr (by decide) ⟨rfl, rfl⟩ dX5_isCode_303
