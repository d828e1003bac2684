/-! the model's isCode, Code's constructor -/
def s_okc (q : Nat) (a b c : Int32) : Bool := sOp (sO1.getD q 0) a && (sOp (sO2.getD q 0) b && sOp (sO3.getD q 0) c)
theorem fld_e {b : Int32} (h : 0 ≤ b) : sOp 5 b = (decide (0 ≤ b / 10 ∧ b / 10 ≤ 2) && decide (0 ≤ b - b / 10 * 10 ∧ b - b / 10 * 10 ≤ 3)) := by
  obtain ⟨n, hn, e, e1, e2⟩ := i32_div h
  show decide (0 ≤ b ∧ (0 ≤ b / 10 ∧ b / 10 ≤ 2) ∧ b - b / 10 * 10 < 4) = _
  rw [e2]
  have h1 : (nI (n % 10) < 4) ↔ (0 ≤ nI (n % 10) ∧ nI (n % 10) ≤ 3) := by
    rw [show (4 : Int32) = nI 4 from rfl, show (3 : Int32) = nI 3 from rfl, nI_ltI (by omega) (by omega), nI_leI (by omega) (by omega)]
    exact ⟨fun z => ⟨nI_pos' (by omega), by omega⟩, fun z => by omega⟩
  rw [Bool.eq_iff_iff]
  simp only [decide_eq_true_eq, Bool.and_eq_true]
  rw [h1]
  exact ⟨fun z => ⟨z.2.1, z.2.2⟩, fun z => ⟨h, z.1, z.2⟩⟩
theorem fld_n {b : Int32} (h : ¬ 0 ≤ b) : sOp 5 b = false := decide_eq_false fun z => h z.1

theorem jcl_nc : ∀ q, q < 12 → narrow .char (.int (jCL.getD q 0)) = .int (jCL.getD q 0) ∧ fits .char (.int (jCL.getD q 0)) = true := by decide +kernel

set_option maxHeartbeats 4000000 in
set_option maxRecDepth 100000 in
theorem mm_CdInit (l : Launch) (D : va_G) (s0 : State) (b0 : Nat) (A : Nat → Prop) (G : jG) (n : Nat) (q : Nat) (hq : q < 12) (a b c9 : Int32) (hn : G n = some (jo 14 [.int 0, .int 0, .int 0, .int 0])) : jM l yX11_init (ws_ yX11_init cX11_init 5 none) (jR 1 0 0) D s0 b0 A G [.ref n, .int (jCL.getD q 0), .int a, .int b, .int c9] (fun w G1 => w = none ∧ G1 = jup G n (jo 14 [.int (jCL.getD q 0), .int a, .int b, .int c9])) := by
  refine jM.of (by decide +kernel) (own := RX11) rfl (Nat.le_of_ble_eq_true rfl) ?_
  intro p e s m args below meth c hX hr hlk hnm
  refine jr_aload_n (i := 0) hX rfl rfl dX11_init_0 ?_
  refine jr_oinit hX q1803 q118 q119 (Nat.le_of_ble_eq_true rfl) (Nat.le_of_ble_eq_true rfl) dX11_init_1 ?_
  refine jr_aload_n (i := 0) hX rfl rfl dX11_init_4 ?_
  refine jr_iload_n (i := 1) hX rfl rfl dX11_init_5 ?_
  refine jr_putF (ci := 14) (k := 0) hX hn rfl in_X11 (by decide) tyX11 tyX11_ok nmX11 q1804 rfl hnm rfl (jcl_nc q hq).1 (jcl_nc q hq).2 (Nat.le_of_ble_eq_true rfl) dX11_init_6 ?_
  refine jr_aload_n (i := 0) hX rfl rfl dX11_init_9 ?_
  refine jr_iload_n (i := 2) hX rfl rfl dX11_init_10 ?_
  refine jr_putF (ci := 14) (k := 1) hX jup_s rfl in_X11 (by decide) tyX11 tyX11_ok nmX11 q1806 rfl hnm rfl (by first | rfl | assumption) (by first | rfl | assumption) (Nat.le_of_ble_eq_true rfl) dX11_init_11 ?_
  rw [jup_jup]
  refine jr_aload_n (i := 0) hX rfl rfl dX11_init_14 ?_
  refine jr_iload_n (i := 3) hX rfl rfl dX11_init_15 ?_
  refine jr_putF (ci := 14) (k := 2) hX jup_s rfl in_X11 (by decide) tyX11 tyX11_ok nmX11 q1808 rfl hnm rfl (by first | rfl | assumption) (by first | rfl | assumption) (Nat.le_of_ble_eq_true rfl) dX11_init_16 ?_
  rw [jup_jup]
  refine jr_aload_n (i := 0) hX rfl rfl dX11_init_19 ?_
  refine jr_iload hX rfl dX11_init_20 ?_
  refine jr_putF (ci := 14) (k := 3) hX jup_s rfl in_X11 (by decide) tyX11 tyX11_ok nmX11 q1810 rfl hnm rfl (by first | rfl | assumption) (by first | rfl | assumption) (Nat.le_of_ble_eq_true rfl) dX11_init_22 ?_
  rw [jup_jup]
  exact jr_vret hX hlk hr ⟨rfl, rfl⟩ dX11_init_25

set_option maxHeartbeats 4000000 in
set_option maxRecDepth 100000 in
theorem mm_isCode (l : Launch) (D : va_G) (s0 : State) (b0 : Nat) (A : Nat → Prop) (G : jG) (q : Nat) (hq : q < 12) (a b c9 : Int32) : jM l yX5_isCode (ws_ yX5_isCode cX5_isCode 4 (some .boolean)) (jR 2 0 0) D s0 b0 A G [.int (jCL.getD q 0), .int a, .int b, .int c9] (fun w G1 => w = some (.int (jbz (s_okc q a b c9))) ∧ G1 = G) := by
  refine jM.of (by decide +kernel) (own := RX5) rfl (Nat.le_of_ble_eq_true rfl) ?_
  intro p e s m args below meth c hX hr hlk hnm
  refine jr_iload_n (i := 0) hX rfl rfl dX5_isCode_0 ?_
  rcases lt12 hq with rfl | rfl | rfl | rfl | rfl | rfl | rfl | rfl | rfl | rfl | rfl | rfl
  · refine jr_tableIn hX (off := 95) (tgt := 96) (by decide +kernel) (by decide +kernel) (by decide +kernel) (by decide) dX5_isCode_1 ?_
    refine jr_iload_n (i := 1) hX rfl rfl dX5_isCode_96 ?_
    refine jr_callS (As := [.int a]) (bc1 := (0)) (bs1 := (0)) hX (mm_isLocal l D s0 b0 A _ a) (va_cwS 1 hX.ts (lw_S q1790 q1791 q78 q1792) rfl rfl rfl (by decide +kernel) ⟨Nat.le_of_ble_eq_true rfl, Nat.le_of_ble_eq_true rfl⟩) rfl (Nat.le_of_ble_eq_true rfl) (by first | omega | (dsimp only; omega) | (show _ ≤ _; simp only []; omega)) (by first | omega | (dsimp only; omega) | (show _ ≤ _; simp only []; omega)) rfl dX5_isCode_97 (fun v_97 G_97 hp_97 => ?_)
    obtain ⟨rfl, e9⟩ := hp_97
    rw [e9]
    exact jr_zret hX hlk hr (jbz_n _) ⟨by rw [show s_okc 0 a b c9 = (decide (0 ≤ a ∧ a ≤ 3) && (true && true)) from rfl]; simp, rfl⟩ dX5_isCode_100
  · refine jr_tableIn hX (off := 100) (tgt := 101) (by decide +kernel) (by decide +kernel) (by decide +kernel) (by decide) dX5_isCode_1 ?_
    refine jr_iload_n (i := 1) hX rfl rfl dX5_isCode_101 ?_
    refine jr_callS (As := [.int a]) (bc1 := (0)) (bs1 := (0)) hX (mm_isLocal l D s0 b0 A _ a) (va_cwS 1 hX.ts (lw_S q1790 q1791 q78 q1792) rfl rfl rfl (by decide +kernel) ⟨Nat.le_of_ble_eq_true rfl, Nat.le_of_ble_eq_true rfl⟩) rfl (Nat.le_of_ble_eq_true rfl) (by first | omega | (dsimp only; omega) | (show _ ≤ _; simp only []; omega)) (by first | omega | (dsimp only; omega) | (show _ ≤ _; simp only []; omega)) rfl dX5_isCode_102 (fun v_102 G_102 hp_102 => ?_)
    obtain ⟨rfl, e9⟩ := hp_102
    rw [e9]
    refine jr_if_eq hX (tgt := 119) (by decide) dX5_isCode_105 (fun c_105 => ?_) (fun c_105 => ?_)
    · refine jr_iconst (v := 0) hX rfl dX5_isCode_119 ?_
      exact jr_zret hX hlk hr (by decide) ⟨by rw [show s_okc 1 a b c9 = (decide (0 ≤ a ∧ a ≤ 3) && (decide (0 ≤ b ∧ b ≤ 3) && true)) from rfl, jbz_0 c_105]; rfl, rfl⟩ dX5_isCode_120
    · refine jr_iload_n (i := 2) hX rfl rfl dX5_isCode_108 ?_
      refine jr_callS (As := [.int b]) (bc1 := (0)) (bs1 := (0)) hX (mm_isLocal l D s0 b0 A _ b) (va_cwS 1 hX.ts (lw_S q1790 q1791 q78 q1792) rfl rfl rfl (by decide +kernel) ⟨Nat.le_of_ble_eq_true rfl, Nat.le_of_ble_eq_true rfl⟩) rfl (Nat.le_of_ble_eq_true rfl) (by first | omega | (dsimp only; omega) | (show _ ≤ _; simp only []; omega)) (by first | omega | (dsimp only; omega) | (show _ ≤ _; simp only []; omega)) rfl dX5_isCode_109 (fun v_109 G_109 hp_109 => ?_)
      obtain ⟨rfl, e9⟩ := hp_109
      rw [e9]
      refine jr_if_eq hX (tgt := 119) (by decide) dX5_isCode_112 (fun c_112 => ?_) (fun c_112 => ?_)
      · refine jr_iconst (v := 0) hX rfl dX5_isCode_119 ?_
        exact jr_zret hX hlk hr (by decide) ⟨by rw [show s_okc 1 a b c9 = (decide (0 ≤ a ∧ a ≤ 3) && (decide (0 ≤ b ∧ b ≤ 3) && true)) from rfl, jbz_1 c_105, jbz_0 c_112]; rfl, rfl⟩ dX5_isCode_120
      · refine jr_iconst (v := 1) hX rfl dX5_isCode_115 ?_
        refine jr_goto hX (tgt := 120) (by decide) dX5_isCode_116 ?_
        exact jr_zret hX hlk hr (by decide) ⟨by rw [show s_okc 1 a b c9 = (decide (0 ≤ a ∧ a ≤ 3) && (decide (0 ≤ b ∧ b ≤ 3) && true)) from rfl, jbz_1 c_105, jbz_1 c_112]; rfl, rfl⟩ dX5_isCode_120
  · refine jr_tableIn hX (off := 120) (tgt := 121) (by decide +kernel) (by decide +kernel) (by decide +kernel) (by decide) dX5_isCode_1 ?_
    refine jr_iload_n (i := 1) hX rfl rfl dX5_isCode_121 ?_
    refine jr_callS (As := [.int a]) (bc1 := (0)) (bs1 := (0)) hX (mm_isLocal l D s0 b0 A _ a) (va_cwS 1 hX.ts (lw_S q1790 q1791 q78 q1792) rfl rfl rfl (by decide +kernel) ⟨Nat.le_of_ble_eq_true rfl, Nat.le_of_ble_eq_true rfl⟩) rfl (Nat.le_of_ble_eq_true rfl) (by first | omega | (dsimp only; omega) | (show _ ≤ _; simp only []; omega)) (by first | omega | (dsimp only; omega) | (show _ ≤ _; simp only []; omega)) rfl dX5_isCode_122 (fun v_122 G_122 hp_122 => ?_)
    obtain ⟨rfl, e9⟩ := hp_122
    rw [e9]
    refine jr_if_eq hX (tgt := 141) (by decide) dX5_isCode_125 (fun c_125 => ?_) (fun c_125 => ?_)
    · refine jr_iconst (v := 0) hX rfl dX5_isCode_141 ?_
      exact jr_zret hX hlk hr (by decide) ⟨by rw [show s_okc 2 a b c9 = (decide (0 ≤ a ∧ a ≤ 3) && (decide (0 ≤ b ∧ b ≤ 2) && true)) from rfl, jbz_0 c_125]; rfl, rfl⟩ dX5_isCode_142
    · refine jr_iload_n (i := 2) hX rfl rfl dX5_isCode_128 ?_
      refine jr_iconst (v := 0) hX rfl dX5_isCode_129 ?_
      refine jr_iconst (v := 2) hX rfl dX5_isCode_130 ?_
      refine jr_callS (As := [.int (b), .int 0, .int 2]) (bc1 := (0)) (bs1 := (0)) hX (mm_in l D s0 b0 A _ (b) 0 2) (va_cwS 3 hX.ts (lw_S q1784 q1785 q78 q1786) rfl rfl rfl (by decide +kernel) ⟨Nat.le_of_ble_eq_true rfl, Nat.le_of_ble_eq_true rfl⟩) rfl (Nat.le_of_ble_eq_true rfl) (by first | omega | (dsimp only; omega) | (show _ ≤ _; simp only []; omega)) (by first | omega | (dsimp only; omega) | (show _ ≤ _; simp only []; omega)) rfl dX5_isCode_131 (fun v_131 G_131 hp_131 => ?_)
      obtain ⟨rfl, e9⟩ := hp_131
      rw [e9]
      refine jr_if_eq hX (tgt := 141) (by decide) dX5_isCode_134 (fun c_134 => ?_) (fun c_134 => ?_)
      · refine jr_iconst (v := 0) hX rfl dX5_isCode_141 ?_
        exact jr_zret hX hlk hr (by decide) ⟨by rw [show s_okc 2 a b c9 = (decide (0 ≤ a ∧ a ≤ 3) && (decide (0 ≤ b ∧ b ≤ 2) && true)) from rfl, jbz_1 c_125, jbz_0 c_134]; rfl, rfl⟩ dX5_isCode_142
      · refine jr_iconst (v := 1) hX rfl dX5_isCode_137 ?_
        refine jr_goto hX (tgt := 142) (by decide) dX5_isCode_138 ?_
        exact jr_zret hX hlk hr (by decide) ⟨by rw [show s_okc 2 a b c9 = (decide (0 ≤ a ∧ a ≤ 3) && (decide (0 ≤ b ∧ b ≤ 2) && true)) from rfl, jbz_1 c_125, jbz_1 c_134]; rfl, rfl⟩ dX5_isCode_142
  · refine jr_tableIn hX (off := 142) (tgt := 143) (by decide +kernel) (by decide +kernel) (by decide +kernel) (by decide) dX5_isCode_1 ?_
    refine jr_iload_n (i := 1) hX rfl rfl dX5_isCode_143 ?_
    refine jr_callS (As := [.int a]) (bc1 := (0)) (bs1 := (0)) hX (mm_isLocal l D s0 b0 A _ a) (va_cwS 1 hX.ts (lw_S q1790 q1791 q78 q1792) rfl rfl rfl (by decide +kernel) ⟨Nat.le_of_ble_eq_true rfl, Nat.le_of_ble_eq_true rfl⟩) rfl (Nat.le_of_ble_eq_true rfl) (by first | omega | (dsimp only; omega) | (show _ ≤ _; simp only []; omega)) (by first | omega | (dsimp only; omega) | (show _ ≤ _; simp only []; omega)) rfl dX5_isCode_144 (fun v_144 G_144 hp_144 => ?_)
    obtain ⟨rfl, e9⟩ := hp_144
    rw [e9]
    refine jr_if_eq hX (tgt := 189) (by decide) dX5_isCode_147 (fun c_147 => ?_) (fun c_147 => ?_)
    · refine jr_iconst (v := 0) hX rfl dX5_isCode_189 ?_
      exact jr_zret hX hlk hr (by decide) ⟨by rw [show s_okc 3 a b c9 = (decide (0 ≤ a ∧ a ≤ 3) && (sOp 5 b && decide (0 ≤ c9 ∧ c9 ≤ 3))) from rfl, jbz_0 c_147]; rfl, rfl⟩ dX5_isCode_190
    · refine jr_iload_n (i := 2) hX rfl rfl dX5_isCode_150 ?_
      refine jr_if_lt hX (tgt := 189) (by decide) dX5_isCode_151 (fun c_151 => ?_) (fun c_151 => ?_)
      · refine jr_iconst (v := 0) hX rfl dX5_isCode_189 ?_
        exact jr_zret hX hlk hr (by decide) ⟨by rw [show s_okc 3 a b c9 = (decide (0 ≤ a ∧ a ≤ 3) && (sOp 5 b && decide (0 ≤ c9 ∧ c9 ≤ 3))) from rfl, jbz_1 c_147, fld_n (Int32.not_le.mpr c_151)]; rfl, rfl⟩ dX5_isCode_190
      · refine jr_iload_n (i := 2) hX rfl rfl dX5_isCode_154 ?_
        refine jr_bipush (v := 10) hX (by decide) dX5_isCode_155 ?_
        refine jr_idiv hX (by decide) dX5_isCode_157 ?_
        refine jr_iconst (v := 0) hX rfl dX5_isCode_158 ?_
        refine jr_iconst (v := 2) hX rfl dX5_isCode_159 ?_
        refine jr_callS (As := [.int (b / 10), .int 0, .int 2]) (bc1 := (0)) (bs1 := (0)) hX (mm_in l D s0 b0 A _ (b / 10) 0 2) (va_cwS 3 hX.ts (lw_S q1784 q1785 q78 q1786) rfl rfl rfl (by decide +kernel) ⟨Nat.le_of_ble_eq_true rfl, Nat.le_of_ble_eq_true rfl⟩) rfl (Nat.le_of_ble_eq_true rfl) (by first | omega | (dsimp only; omega) | (show _ ≤ _; simp only []; omega)) (by first | omega | (dsimp only; omega) | (show _ ≤ _; simp only []; omega)) rfl dX5_isCode_160 (fun v_160 G_160 hp_160 => ?_)
        obtain ⟨rfl, e9⟩ := hp_160
        rw [e9]
        refine jr_if_eq hX (tgt := 189) (by decide) dX5_isCode_163 (fun c_163 => ?_) (fun c_163 => ?_)
        · refine jr_iconst (v := 0) hX rfl dX5_isCode_189 ?_
          exact jr_zret hX hlk hr (by decide) ⟨by rw [show s_okc 3 a b c9 = (decide (0 ≤ a ∧ a ≤ 3) && (sOp 5 b && decide (0 ≤ c9 ∧ c9 ≤ 3))) from rfl, jbz_1 c_147, fld_e (Int32.not_lt.mp c_151), jbz_0 c_163]; rfl, rfl⟩ dX5_isCode_190
        · refine jr_iload_n (i := 2) hX rfl rfl dX5_isCode_166 ?_
          refine jr_bipush (v := 10) hX (by decide) dX5_isCode_167 ?_
          refine jr_irem hX (by decide) dX5_isCode_169 ?_
          refine jr_iconst (v := 0) hX rfl dX5_isCode_170 ?_
          refine jr_iconst (v := 3) hX rfl dX5_isCode_171 ?_
          refine jr_callS (As := [.int (b - b / 10 * 10), .int 0, .int 3]) (bc1 := (0)) (bs1 := (0)) hX (mm_in l D s0 b0 A _ (b - b / 10 * 10) 0 3) (va_cwS 3 hX.ts (lw_S q1784 q1785 q78 q1786) rfl rfl rfl (by decide +kernel) ⟨Nat.le_of_ble_eq_true rfl, Nat.le_of_ble_eq_true rfl⟩) rfl (Nat.le_of_ble_eq_true rfl) (by first | omega | (dsimp only; omega) | (show _ ≤ _; simp only []; omega)) (by first | omega | (dsimp only; omega) | (show _ ≤ _; simp only []; omega)) rfl dX5_isCode_172 (fun v_172 G_172 hp_172 => ?_)
          obtain ⟨rfl, e9⟩ := hp_172
          rw [e9]
          refine jr_if_eq hX (tgt := 189) (by decide) dX5_isCode_175 (fun c_175 => ?_) (fun c_175 => ?_)
          · refine jr_iconst (v := 0) hX rfl dX5_isCode_189 ?_
            exact jr_zret hX hlk hr (by decide) ⟨by rw [show s_okc 3 a b c9 = (decide (0 ≤ a ∧ a ≤ 3) && (sOp 5 b && decide (0 ≤ c9 ∧ c9 ≤ 3))) from rfl, jbz_1 c_147, fld_e (Int32.not_lt.mp c_151), jbz_1 c_163, jbz_0 c_175]; rfl, rfl⟩ dX5_isCode_190
          · refine jr_iload_n (i := 3) hX rfl rfl dX5_isCode_178 ?_
            refine jr_callS (As := [.int c9]) (bc1 := (0)) (bs1 := (0)) hX (mm_isLocal l D s0 b0 A _ c9) (va_cwS 1 hX.ts (lw_S q1790 q1791 q78 q1792) rfl rfl rfl (by decide +kernel) ⟨Nat.le_of_ble_eq_true rfl, Nat.le_of_ble_eq_true rfl⟩) rfl (Nat.le_of_ble_eq_true rfl) (by first | omega | (dsimp only; omega) | (show _ ≤ _; simp only []; omega)) (by first | omega | (dsimp only; omega) | (show _ ≤ _; simp only []; omega)) rfl dX5_isCode_179 (fun v_179 G_179 hp_179 => ?_)
            obtain ⟨rfl, e9⟩ := hp_179
            rw [e9]
            refine jr_if_eq hX (tgt := 189) (by decide) dX5_isCode_182 (fun c_182 => ?_) (fun c_182 => ?_)
            · refine jr_iconst (v := 0) hX rfl dX5_isCode_189 ?_
              exact jr_zret hX hlk hr (by decide) ⟨by rw [show s_okc 3 a b c9 = (decide (0 ≤ a ∧ a ≤ 3) && (sOp 5 b && decide (0 ≤ c9 ∧ c9 ≤ 3))) from rfl, jbz_1 c_147, fld_e (Int32.not_lt.mp c_151), jbz_1 c_163, jbz_1 c_175, jbz_0 c_182]; rfl, rfl⟩ dX5_isCode_190
            · refine jr_iconst (v := 1) hX rfl dX5_isCode_185 ?_
              refine jr_goto hX (tgt := 190) (by decide) dX5_isCode_186 ?_
              exact jr_zret hX hlk hr (by decide) ⟨by rw [show s_okc 3 a b c9 = (decide (0 ≤ a ∧ a ≤ 3) && (sOp 5 b && decide (0 ≤ c9 ∧ c9 ≤ 3))) from rfl, jbz_1 c_147, fld_e (Int32.not_lt.mp c_151), jbz_1 c_163, jbz_1 c_175, jbz_1 c_182]; rfl, rfl⟩ dX5_isCode_190
  · refine jr_tableIn hX (off := 142) (tgt := 143) (by decide +kernel) (by decide +kernel) (by decide +kernel) (by decide) dX5_isCode_1 ?_
    refine jr_iload_n (i := 1) hX rfl rfl dX5_isCode_143 ?_
    refine jr_callS (As := [.int a]) (bc1 := (0)) (bs1 := (0)) hX (mm_isLocal l D s0 b0 A _ a) (va_cwS 1 hX.ts (lw_S q1790 q1791 q78 q1792) rfl rfl rfl (by decide +kernel) ⟨Nat.le_of_ble_eq_true rfl, Nat.le_of_ble_eq_true rfl⟩) rfl (Nat.le_of_ble_eq_true rfl) (by first | omega | (dsimp only; omega) | (show _ ≤ _; simp only []; omega)) (by first | omega | (dsimp only; omega) | (show _ ≤ _; simp only []; omega)) rfl dX5_isCode_144 (fun v_144 G_144 hp_144 => ?_)
    obtain ⟨rfl, e9⟩ := hp_144
    rw [e9]
    refine jr_if_eq hX (tgt := 189) (by decide) dX5_isCode_147 (fun c_147 => ?_) (fun c_147 => ?_)
    · refine jr_iconst (v := 0) hX rfl dX5_isCode_189 ?_
      exact jr_zret hX hlk hr (by decide) ⟨by rw [show s_okc 4 a b c9 = (decide (0 ≤ a ∧ a ≤ 3) && (sOp 5 b && decide (0 ≤ c9 ∧ c9 ≤ 3))) from rfl, jbz_0 c_147]; rfl, rfl⟩ dX5_isCode_190
    · refine jr_iload_n (i := 2) hX rfl rfl dX5_isCode_150 ?_
      refine jr_if_lt hX (tgt := 189) (by decide) dX5_isCode_151 (fun c_151 => ?_) (fun c_151 => ?_)
      · refine jr_iconst (v := 0) hX rfl dX5_isCode_189 ?_
        exact jr_zret hX hlk hr (by decide) ⟨by rw [show s_okc 4 a b c9 = (decide (0 ≤ a ∧ a ≤ 3) && (sOp 5 b && decide (0 ≤ c9 ∧ c9 ≤ 3))) from rfl, jbz_1 c_147, fld_n (Int32.not_le.mpr c_151)]; rfl, rfl⟩ dX5_isCode_190
      · refine jr_iload_n (i := 2) hX rfl rfl dX5_isCode_154 ?_
        refine jr_bipush (v := 10) hX (by decide) dX5_isCode_155 ?_
        refine jr_idiv hX (by decide) dX5_isCode_157 ?_
        refine jr_iconst (v := 0) hX rfl dX5_isCode_158 ?_
        refine jr_iconst (v := 2) hX rfl dX5_isCode_159 ?_
        refine jr_callS (As := [.int (b / 10), .int 0, .int 2]) (bc1 := (0)) (bs1 := (0)) hX (mm_in l D s0 b0 A _ (b / 10) 0 2) (va_cwS 3 hX.ts (lw_S q1784 q1785 q78 q1786) rfl rfl rfl (by decide +kernel) ⟨Nat.le_of_ble_eq_true rfl, Nat.le_of_ble_eq_true rfl⟩) rfl (Nat.le_of_ble_eq_true rfl) (by first | omega | (dsimp only; omega) | (show _ ≤ _; simp only []; omega)) (by first | omega | (dsimp only; omega) | (show _ ≤ _; simp only []; omega)) rfl dX5_isCode_160 (fun v_160 G_160 hp_160 => ?_)
        obtain ⟨rfl, e9⟩ := hp_160
        rw [e9]
        refine jr_if_eq hX (tgt := 189) (by decide) dX5_isCode_163 (fun c_163 => ?_) (fun c_163 => ?_)
        · refine jr_iconst (v := 0) hX rfl dX5_isCode_189 ?_
          exact jr_zret hX hlk hr (by decide) ⟨by rw [show s_okc 4 a b c9 = (decide (0 ≤ a ∧ a ≤ 3) && (sOp 5 b && decide (0 ≤ c9 ∧ c9 ≤ 3))) from rfl, jbz_1 c_147, fld_e (Int32.not_lt.mp c_151), jbz_0 c_163]; rfl, rfl⟩ dX5_isCode_190
        · refine jr_iload_n (i := 2) hX rfl rfl dX5_isCode_166 ?_
          refine jr_bipush (v := 10) hX (by decide) dX5_isCode_167 ?_
          refine jr_irem hX (by decide) dX5_isCode_169 ?_
          refine jr_iconst (v := 0) hX rfl dX5_isCode_170 ?_
          refine jr_iconst (v := 3) hX rfl dX5_isCode_171 ?_
          refine jr_callS (As := [.int (b - b / 10 * 10), .int 0, .int 3]) (bc1 := (0)) (bs1 := (0)) hX (mm_in l D s0 b0 A _ (b - b / 10 * 10) 0 3) (va_cwS 3 hX.ts (lw_S q1784 q1785 q78 q1786) rfl rfl rfl (by decide +kernel) ⟨Nat.le_of_ble_eq_true rfl, Nat.le_of_ble_eq_true rfl⟩) rfl (Nat.le_of_ble_eq_true rfl) (by first | omega | (dsimp only; omega) | (show _ ≤ _; simp only []; omega)) (by first | omega | (dsimp only; omega) | (show _ ≤ _; simp only []; omega)) rfl dX5_isCode_172 (fun v_172 G_172 hp_172 => ?_)
          obtain ⟨rfl, e9⟩ := hp_172
          rw [e9]
          refine jr_if_eq hX (tgt := 189) (by decide) dX5_isCode_175 (fun c_175 => ?_) (fun c_175 => ?_)
          · refine jr_iconst (v := 0) hX rfl dX5_isCode_189 ?_
            exact jr_zret hX hlk hr (by decide) ⟨by rw [show s_okc 4 a b c9 = (decide (0 ≤ a ∧ a ≤ 3) && (sOp 5 b && decide (0 ≤ c9 ∧ c9 ≤ 3))) from rfl, jbz_1 c_147, fld_e (Int32.not_lt.mp c_151), jbz_1 c_163, jbz_0 c_175]; rfl, rfl⟩ dX5_isCode_190
          · refine jr_iload_n (i := 3) hX rfl rfl dX5_isCode_178 ?_
            refine jr_callS (As := [.int c9]) (bc1 := (0)) (bs1 := (0)) hX (mm_isLocal l D s0 b0 A _ c9) (va_cwS 1 hX.ts (lw_S q1790 q1791 q78 q1792) rfl rfl rfl (by decide +kernel) ⟨Nat.le_of_ble_eq_true rfl, Nat.le_of_ble_eq_true rfl⟩) rfl (Nat.le_of_ble_eq_true rfl) (by first | omega | (dsimp only; omega) | (show _ ≤ _; simp only []; omega)) (by first | omega | (dsimp only; omega) | (show _ ≤ _; simp only []; omega)) rfl dX5_isCode_179 (fun v_179 G_179 hp_179 => ?_)
            obtain ⟨rfl, e9⟩ := hp_179
            rw [e9]
            refine jr_if_eq hX (tgt := 189) (by decide) dX5_isCode_182 (fun c_182 => ?_) (fun c_182 => ?_)
            · refine jr_iconst (v := 0) hX rfl dX5_isCode_189 ?_
              exact jr_zret hX hlk hr (by decide) ⟨by rw [show s_okc 4 a b c9 = (decide (0 ≤ a ∧ a ≤ 3) && (sOp 5 b && decide (0 ≤ c9 ∧ c9 ≤ 3))) from rfl, jbz_1 c_147, fld_e (Int32.not_lt.mp c_151), jbz_1 c_163, jbz_1 c_175, jbz_0 c_182]; rfl, rfl⟩ dX5_isCode_190
            · refine jr_iconst (v := 1) hX rfl dX5_isCode_185 ?_
              refine jr_goto hX (tgt := 190) (by decide) dX5_isCode_186 ?_
              exact jr_zret hX hlk hr (by decide) ⟨by rw [show s_okc 4 a b c9 = (decide (0 ≤ a ∧ a ≤ 3) && (sOp 5 b && decide (0 ≤ c9 ∧ c9 ≤ 3))) from rfl, jbz_1 c_147, fld_e (Int32.not_lt.mp c_151), jbz_1 c_163, jbz_1 c_175, jbz_1 c_182]; rfl, rfl⟩ dX5_isCode_190
  · refine jr_tableIn hX (off := 190) (tgt := 191) (by decide +kernel) (by decide +kernel) (by decide +kernel) (by decide) dX5_isCode_1 ?_
    refine jr_iload_n (i := 1) hX rfl rfl dX5_isCode_191 ?_
    refine jr_callS (As := [.int a]) (bc1 := (0)) (bs1 := (0)) hX (mm_isLocal l D s0 b0 A _ a) (va_cwS 1 hX.ts (lw_S q1790 q1791 q78 q1792) rfl rfl rfl (by decide +kernel) ⟨Nat.le_of_ble_eq_true rfl, Nat.le_of_ble_eq_true rfl⟩) rfl (Nat.le_of_ble_eq_true rfl) (by first | omega | (dsimp only; omega) | (show _ ≤ _; simp only []; omega)) (by first | omega | (dsimp only; omega) | (show _ ≤ _; simp only []; omega)) rfl dX5_isCode_192 (fun v_192 G_192 hp_192 => ?_)
    obtain ⟨rfl, e9⟩ := hp_192
    rw [e9]
    refine jr_if_eq hX (tgt := 212) (by decide) dX5_isCode_195 (fun c_195 => ?_) (fun c_195 => ?_)
    · refine jr_iconst (v := 0) hX rfl dX5_isCode_212 ?_
      exact jr_zret hX hlk hr (by decide) ⟨by rw [show s_okc 5 a b c9 = (decide (0 ≤ a ∧ a ≤ 3) && (decide (0 ≤ b ∧ b ≤ 10) && true)) from rfl, jbz_0 c_195]; rfl, rfl⟩ dX5_isCode_213
    · refine jr_iload_n (i := 2) hX rfl rfl dX5_isCode_198 ?_
      refine jr_iconst (v := 0) hX rfl dX5_isCode_199 ?_
      refine jr_bipush (v := 10) hX (by decide) dX5_isCode_200 ?_
      refine jr_callS (As := [.int (b), .int 0, .int 10]) (bc1 := (0)) (bs1 := (0)) hX (mm_in l D s0 b0 A _ (b) 0 10) (va_cwS 3 hX.ts (lw_S q1784 q1785 q78 q1786) rfl rfl rfl (by decide +kernel) ⟨Nat.le_of_ble_eq_true rfl, Nat.le_of_ble_eq_true rfl⟩) rfl (Nat.le_of_ble_eq_true rfl) (by first | omega | (dsimp only; omega) | (show _ ≤ _; simp only []; omega)) (by first | omega | (dsimp only; omega) | (show _ ≤ _; simp only []; omega)) rfl dX5_isCode_202 (fun v_202 G_202 hp_202 => ?_)
      obtain ⟨rfl, e9⟩ := hp_202
      rw [e9]
      refine jr_if_eq hX (tgt := 212) (by decide) dX5_isCode_205 (fun c_205 => ?_) (fun c_205 => ?_)
      · refine jr_iconst (v := 0) hX rfl dX5_isCode_212 ?_
        exact jr_zret hX hlk hr (by decide) ⟨by rw [show s_okc 5 a b c9 = (decide (0 ≤ a ∧ a ≤ 3) && (decide (0 ≤ b ∧ b ≤ 10) && true)) from rfl, jbz_1 c_195, jbz_0 c_205]; rfl, rfl⟩ dX5_isCode_213
      · refine jr_iconst (v := 1) hX rfl dX5_isCode_208 ?_
        refine jr_goto hX (tgt := 213) (by decide) dX5_isCode_209 ?_
        exact jr_zret hX hlk hr (by decide) ⟨by rw [show s_okc 5 a b c9 = (decide (0 ≤ a ∧ a ≤ 3) && (decide (0 ≤ b ∧ b ≤ 10) && true)) from rfl, jbz_1 c_195, jbz_1 c_205]; rfl, rfl⟩ dX5_isCode_213
  · refine jr_tableIn hX (off := 213) (tgt := 214) (by decide +kernel) (by decide +kernel) (by decide +kernel) (by decide) dX5_isCode_1 ?_
    refine jr_iload_n (i := 1) hX rfl rfl dX5_isCode_214 ?_
    refine jr_callS (As := [.int a]) (bc1 := (0)) (bs1 := (0)) hX (mm_isFunction l D s0 b0 A _ a) (va_cwS 1 hX.ts (lw_S q1781 q1782 q78 q1783) rfl rfl rfl (by decide +kernel) ⟨Nat.le_of_ble_eq_true rfl, Nat.le_of_ble_eq_true rfl⟩) rfl (Nat.le_of_ble_eq_true rfl) (by first | omega | (dsimp only; omega) | (show _ ≤ _; simp only []; omega)) (by first | omega | (dsimp only; omega) | (show _ ≤ _; simp only []; omega)) rfl dX5_isCode_215 (fun v_215 G_215 hp_215 => ?_)
    obtain ⟨rfl, e9⟩ := hp_215
    rw [e9]
    refine jr_if_eq hX (tgt := 239) (by decide) dX5_isCode_218 (fun c_218 => ?_) (fun c_218 => ?_)
    · refine jr_iconst (v := 0) hX rfl dX5_isCode_239 ?_
      exact jr_zret hX hlk hr (by decide) ⟨by rw [show s_okc 6 a b c9 = (decide (0 ≤ a ∧ a ≤ 4) && (decide (0 ≤ b ∧ b ≤ 3) && decide (0 ≤ c9 ∧ c9 ≤ 3))) from rfl, jbz_0 c_218]; rfl, rfl⟩ dX5_isCode_240
    · refine jr_iload_n (i := 2) hX rfl rfl dX5_isCode_221 ?_
      refine jr_callS (As := [.int b]) (bc1 := (0)) (bs1 := (0)) hX (mm_isLocal l D s0 b0 A _ b) (va_cwS 1 hX.ts (lw_S q1790 q1791 q78 q1792) rfl rfl rfl (by decide +kernel) ⟨Nat.le_of_ble_eq_true rfl, Nat.le_of_ble_eq_true rfl⟩) rfl (Nat.le_of_ble_eq_true rfl) (by first | omega | (dsimp only; omega) | (show _ ≤ _; simp only []; omega)) (by first | omega | (dsimp only; omega) | (show _ ≤ _; simp only []; omega)) rfl dX5_isCode_222 (fun v_222 G_222 hp_222 => ?_)
      obtain ⟨rfl, e9⟩ := hp_222
      rw [e9]
      refine jr_if_eq hX (tgt := 239) (by decide) dX5_isCode_225 (fun c_225 => ?_) (fun c_225 => ?_)
      · refine jr_iconst (v := 0) hX rfl dX5_isCode_239 ?_
        exact jr_zret hX hlk hr (by decide) ⟨by rw [show s_okc 6 a b c9 = (decide (0 ≤ a ∧ a ≤ 4) && (decide (0 ≤ b ∧ b ≤ 3) && decide (0 ≤ c9 ∧ c9 ≤ 3))) from rfl, jbz_1 c_218, jbz_0 c_225]; rfl, rfl⟩ dX5_isCode_240
      · refine jr_iload_n (i := 3) hX rfl rfl dX5_isCode_228 ?_
        refine jr_callS (As := [.int c9]) (bc1 := (0)) (bs1 := (0)) hX (mm_isLocal l D s0 b0 A _ c9) (va_cwS 1 hX.ts (lw_S q1790 q1791 q78 q1792) rfl rfl rfl (by decide +kernel) ⟨Nat.le_of_ble_eq_true rfl, Nat.le_of_ble_eq_true rfl⟩) rfl (Nat.le_of_ble_eq_true rfl) (by first | omega | (dsimp only; omega) | (show _ ≤ _; simp only []; omega)) (by first | omega | (dsimp only; omega) | (show _ ≤ _; simp only []; omega)) rfl dX5_isCode_229 (fun v_229 G_229 hp_229 => ?_)
        obtain ⟨rfl, e9⟩ := hp_229
        rw [e9]
        refine jr_if_eq hX (tgt := 239) (by decide) dX5_isCode_232 (fun c_232 => ?_) (fun c_232 => ?_)
        · refine jr_iconst (v := 0) hX rfl dX5_isCode_239 ?_
          exact jr_zret hX hlk hr (by decide) ⟨by rw [show s_okc 6 a b c9 = (decide (0 ≤ a ∧ a ≤ 4) && (decide (0 ≤ b ∧ b ≤ 3) && decide (0 ≤ c9 ∧ c9 ≤ 3))) from rfl, jbz_1 c_218, jbz_1 c_225, jbz_0 c_232]; rfl, rfl⟩ dX5_isCode_240
        · refine jr_iconst (v := 1) hX rfl dX5_isCode_235 ?_
          refine jr_goto hX (tgt := 240) (by decide) dX5_isCode_236 ?_
          exact jr_zret hX hlk hr (by decide) ⟨by rw [show s_okc 6 a b c9 = (decide (0 ≤ a ∧ a ≤ 4) && (decide (0 ≤ b ∧ b ≤ 3) && decide (0 ≤ c9 ∧ c9 ≤ 3))) from rfl, jbz_1 c_218, jbz_1 c_225, jbz_1 c_232]; rfl, rfl⟩ dX5_isCode_240
  · refine jr_tableIn hX (off := 240) (tgt := 241) (by decide +kernel) (by decide +kernel) (by decide +kernel) (by decide) dX5_isCode_1 ?_
    refine jr_iload_n (i := 1) hX rfl rfl dX5_isCode_241 ?_
    refine jr_iconst (v := 0) hX rfl dX5_isCode_242 ?_
    refine jr_iconst (v := 3) hX rfl dX5_isCode_243 ?_
    refine jr_callS (As := [.int (a), .int 0, .int 3]) (bc1 := (0)) (bs1 := (0)) hX (mm_in l D s0 b0 A _ (a) 0 3) (va_cwS 3 hX.ts (lw_S q1784 q1785 q78 q1786) rfl rfl rfl (by decide +kernel) ⟨Nat.le_of_ble_eq_true rfl, Nat.le_of_ble_eq_true rfl⟩) rfl (Nat.le_of_ble_eq_true rfl) (by first | omega | (dsimp only; omega) | (show _ ≤ _; simp only []; omega)) (by first | omega | (dsimp only; omega) | (show _ ≤ _; simp only []; omega)) rfl dX5_isCode_244 (fun v_244 G_244 hp_244 => ?_)
    obtain ⟨rfl, e9⟩ := hp_244
    rw [e9]
    refine jr_if_eq hX (tgt := 268) (by decide) dX5_isCode_247 (fun c_247 => ?_) (fun c_247 => ?_)
    · refine jr_iconst (v := 0) hX rfl dX5_isCode_268 ?_
      exact jr_zret hX hlk hr (by decide) ⟨by rw [show s_okc 7 a b c9 = (decide (0 ≤ a ∧ a ≤ 3) && (decide (0 ≤ b ∧ b ≤ 3) && decide (0 ≤ c9 ∧ c9 ≤ 3))) from rfl, jbz_0 c_247]; rfl, rfl⟩ dX5_isCode_269
    · refine jr_iload_n (i := 2) hX rfl rfl dX5_isCode_250 ?_
      refine jr_callS (As := [.int b]) (bc1 := (0)) (bs1 := (0)) hX (mm_isLocal l D s0 b0 A _ b) (va_cwS 1 hX.ts (lw_S q1790 q1791 q78 q1792) rfl rfl rfl (by decide +kernel) ⟨Nat.le_of_ble_eq_true rfl, Nat.le_of_ble_eq_true rfl⟩) rfl (Nat.le_of_ble_eq_true rfl) (by first | omega | (dsimp only; omega) | (show _ ≤ _; simp only []; omega)) (by first | omega | (dsimp only; omega) | (show _ ≤ _; simp only []; omega)) rfl dX5_isCode_251 (fun v_251 G_251 hp_251 => ?_)
      obtain ⟨rfl, e9⟩ := hp_251
      rw [e9]
      refine jr_if_eq hX (tgt := 268) (by decide) dX5_isCode_254 (fun c_254 => ?_) (fun c_254 => ?_)
      · refine jr_iconst (v := 0) hX rfl dX5_isCode_268 ?_
        exact jr_zret hX hlk hr (by decide) ⟨by rw [show s_okc 7 a b c9 = (decide (0 ≤ a ∧ a ≤ 3) && (decide (0 ≤ b ∧ b ≤ 3) && decide (0 ≤ c9 ∧ c9 ≤ 3))) from rfl, jbz_1 c_247, jbz_0 c_254]; rfl, rfl⟩ dX5_isCode_269
      · refine jr_iload_n (i := 3) hX rfl rfl dX5_isCode_257 ?_
        refine jr_callS (As := [.int c9]) (bc1 := (0)) (bs1 := (0)) hX (mm_isLocal l D s0 b0 A _ c9) (va_cwS 1 hX.ts (lw_S q1790 q1791 q78 q1792) rfl rfl rfl (by decide +kernel) ⟨Nat.le_of_ble_eq_true rfl, Nat.le_of_ble_eq_true rfl⟩) rfl (Nat.le_of_ble_eq_true rfl) (by first | omega | (dsimp only; omega) | (show _ ≤ _; simp only []; omega)) (by first | omega | (dsimp only; omega) | (show _ ≤ _; simp only []; omega)) rfl dX5_isCode_258 (fun v_258 G_258 hp_258 => ?_)
        obtain ⟨rfl, e9⟩ := hp_258
        rw [e9]
        refine jr_if_eq hX (tgt := 268) (by decide) dX5_isCode_261 (fun c_261 => ?_) (fun c_261 => ?_)
        · refine jr_iconst (v := 0) hX rfl dX5_isCode_268 ?_
          exact jr_zret hX hlk hr (by decide) ⟨by rw [show s_okc 7 a b c9 = (decide (0 ≤ a ∧ a ≤ 3) && (decide (0 ≤ b ∧ b ≤ 3) && decide (0 ≤ c9 ∧ c9 ≤ 3))) from rfl, jbz_1 c_247, jbz_1 c_254, jbz_0 c_261]; rfl, rfl⟩ dX5_isCode_269
        · refine jr_iconst (v := 1) hX rfl dX5_isCode_264 ?_
          refine jr_goto hX (tgt := 269) (by decide) dX5_isCode_265 ?_
          exact jr_zret hX hlk hr (by decide) ⟨by rw [show s_okc 7 a b c9 = (decide (0 ≤ a ∧ a ≤ 3) && (decide (0 ≤ b ∧ b ≤ 3) && decide (0 ≤ c9 ∧ c9 ≤ 3))) from rfl, jbz_1 c_247, jbz_1 c_254, jbz_1 c_261]; rfl, rfl⟩ dX5_isCode_269
  · refine jr_tableIn hX (off := 269) (tgt := 270) (by decide +kernel) (by decide +kernel) (by decide +kernel) (by decide) dX5_isCode_1 ?_
    refine jr_iload_n (i := 1) hX rfl rfl dX5_isCode_270 ?_
    refine jr_iconst (v := 0) hX rfl dX5_isCode_271 ?_
    refine jr_iconst (v := 3) hX rfl dX5_isCode_272 ?_
    refine jr_callS (As := [.int (a), .int 0, .int 3]) (bc1 := (0)) (bs1 := (0)) hX (mm_in l D s0 b0 A _ (a) 0 3) (va_cwS 3 hX.ts (lw_S q1784 q1785 q78 q1786) rfl rfl rfl (by decide +kernel) ⟨Nat.le_of_ble_eq_true rfl, Nat.le_of_ble_eq_true rfl⟩) rfl (Nat.le_of_ble_eq_true rfl) (by first | omega | (dsimp only; omega) | (show _ ≤ _; simp only []; omega)) (by first | omega | (dsimp only; omega) | (show _ ≤ _; simp only []; omega)) rfl dX5_isCode_273 (fun v_273 G_273 hp_273 => ?_)
    obtain ⟨rfl, e9⟩ := hp_273
    rw [e9]
    refine jr_if_eq hX (tgt := 290) (by decide) dX5_isCode_276 (fun c_276 => ?_) (fun c_276 => ?_)
    · refine jr_iconst (v := 0) hX rfl dX5_isCode_290 ?_
      exact jr_zret hX hlk hr (by decide) ⟨by rw [show s_okc 8 a b c9 = (decide (0 ≤ a ∧ a ≤ 3) && (decide (0 ≤ b ∧ b ≤ 4) && true)) from rfl, jbz_0 c_276]; rfl, rfl⟩ dX5_isCode_291
    · refine jr_iload_n (i := 2) hX rfl rfl dX5_isCode_279 ?_
      refine jr_callS (As := [.int b]) (bc1 := (0)) (bs1 := (0)) hX (mm_isFunction l D s0 b0 A _ b) (va_cwS 1 hX.ts (lw_S q1781 q1782 q78 q1783) rfl rfl rfl (by decide +kernel) ⟨Nat.le_of_ble_eq_true rfl, Nat.le_of_ble_eq_true rfl⟩) rfl (Nat.le_of_ble_eq_true rfl) (by first | omega | (dsimp only; omega) | (show _ ≤ _; simp only []; omega)) (by first | omega | (dsimp only; omega) | (show _ ≤ _; simp only []; omega)) rfl dX5_isCode_280 (fun v_280 G_280 hp_280 => ?_)
      obtain ⟨rfl, e9⟩ := hp_280
      rw [e9]
      refine jr_if_eq hX (tgt := 290) (by decide) dX5_isCode_283 (fun c_283 => ?_) (fun c_283 => ?_)
      · refine jr_iconst (v := 0) hX rfl dX5_isCode_290 ?_
        exact jr_zret hX hlk hr (by decide) ⟨by rw [show s_okc 8 a b c9 = (decide (0 ≤ a ∧ a ≤ 3) && (decide (0 ≤ b ∧ b ≤ 4) && true)) from rfl, jbz_1 c_276, jbz_0 c_283]; rfl, rfl⟩ dX5_isCode_291
      · refine jr_iconst (v := 1) hX rfl dX5_isCode_286 ?_
        refine jr_goto hX (tgt := 291) (by decide) dX5_isCode_287 ?_
        exact jr_zret hX hlk hr (by decide) ⟨by rw [show s_okc 8 a b c9 = (decide (0 ≤ a ∧ a ≤ 3) && (decide (0 ≤ b ∧ b ≤ 4) && true)) from rfl, jbz_1 c_276, jbz_1 c_283]; rfl, rfl⟩ dX5_isCode_291
  · refine jr_tableIn hX (off := 95) (tgt := 96) (by decide +kernel) (by decide +kernel) (by decide +kernel) (by decide) dX5_isCode_1 ?_
    refine jr_iload_n (i := 1) hX rfl rfl dX5_isCode_96 ?_
    refine jr_callS (As := [.int a]) (bc1 := (0)) (bs1 := (0)) hX (mm_isLocal l D s0 b0 A _ a) (va_cwS 1 hX.ts (lw_S q1790 q1791 q78 q1792) rfl rfl rfl (by decide +kernel) ⟨Nat.le_of_ble_eq_true rfl, Nat.le_of_ble_eq_true rfl⟩) rfl (Nat.le_of_ble_eq_true rfl) (by first | omega | (dsimp only; omega) | (show _ ≤ _; simp only []; omega)) (by first | omega | (dsimp only; omega) | (show _ ≤ _; simp only []; omega)) rfl dX5_isCode_97 (fun v_97 G_97 hp_97 => ?_)
    obtain ⟨rfl, e9⟩ := hp_97
    rw [e9]
    exact jr_zret hX hlk hr (jbz_n _) ⟨by rw [show s_okc 9 a b c9 = (decide (0 ≤ a ∧ a ≤ 3) && (true && true)) from rfl]; simp, rfl⟩ dX5_isCode_100
  · refine jr_tableIn hX (off := 95) (tgt := 96) (by decide +kernel) (by decide +kernel) (by decide +kernel) (by decide) dX5_isCode_1 ?_
    refine jr_iload_n (i := 1) hX rfl rfl dX5_isCode_96 ?_
    refine jr_callS (As := [.int a]) (bc1 := (0)) (bs1 := (0)) hX (mm_isLocal l D s0 b0 A _ a) (va_cwS 1 hX.ts (lw_S q1790 q1791 q78 q1792) rfl rfl rfl (by decide +kernel) ⟨Nat.le_of_ble_eq_true rfl, Nat.le_of_ble_eq_true rfl⟩) rfl (Nat.le_of_ble_eq_true rfl) (by first | omega | (dsimp only; omega) | (show _ ≤ _; simp only []; omega)) (by first | omega | (dsimp only; omega) | (show _ ≤ _; simp only []; omega)) rfl dX5_isCode_97 (fun v_97 G_97 hp_97 => ?_)
    obtain ⟨rfl, e9⟩ := hp_97
    rw [e9]
    exact jr_zret hX hlk hr (jbz_n _) ⟨by rw [show s_okc 10 a b c9 = (decide (0 ≤ a ∧ a ≤ 3) && (true && true)) from rfl]; simp, rfl⟩ dX5_isCode_100
  · refine jr_tableOut hX (tgt := 292) (Or.inr (by decide +kernel)) (by decide) dX5_isCode_1 ?_
    refine jr_iload_n (i := 0) hX rfl rfl dX5_isCode_292 ?_
    refine jr_bipush (v := 119) hX (by decide) dX5_isCode_293 ?_
    refine jr_icmp_ne hX (tgt := 302) (by decide) dX5_isCode_295 (fun c_295 => absurd c_295 (fun z => z rfl)) (fun c_295 => ?_)
    refine jr_iconst (v := 1) hX rfl dX5_isCode_298 ?_
    refine jr_goto hX (tgt := 303) (by decide) dX5_isCode_299 ?_
    exact jr_zret hX hlk hr (by decide) ⟨rfl, rfl⟩ dX5_isCode_303
