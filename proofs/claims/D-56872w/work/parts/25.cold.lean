/-! CALLEES OF A CLASS THAT ISN'T SAID TO BE INITIALISED (the enums' constants with bodies): a contract without that, and its row.
    The proofs follow the library's MetFree.of_bodySF, Steps.callFree, Back.of_free and the kit's va_runU, with the class's state left out. -/
def jMc (l : Launch) (y : MethodName) (ws : List Cond) (rm : Room) (D : va_G) (s0 : State) (b0 : Nat) (A : Nat → Prop) (G : jG) (As : List Value) (post : Option Value → jG → Prop) : Prop :=
  ∀ (p : Program) (e : Env), l.admits e → FairCas e.choices → FairClock e.choices → ∀ (s : State) (m : MethodId) (args : Array Value) (below : List Frame),
    s.frames = .invoking m args :: below → s.status = .running → s.curStatus? = some .runnable → s.alone = true → s.methodNamed? y = some m → s.hears m below = true → s.hasRoom e.platform rm = true → (headSpec ws rm).pre.before args s = true → va_Pc As (jB D s0 b0 A G) args s →
    ∃ n o, (∀ k, k < n → Within (stepsAlone p.tables e k s) below) ∧ (stepsAlone p.tables e n s).status = .running ∧ Ended (stepsAlone p.tables e n s) below o ∧ jQ D A post args s o (stepsAlone p.tables e n s) ∧ ∃ L, FrameEnd s o (stepsAlone p.tables e n s) L rm.cells rm.slots ∧ ∀ q ∈ L, A q.base
theorem jMc.of {l : Launch} {y : MethodName} {cc : ByteArray} {maxL : Nat} {ret : Option FieldType} {d mc ms : Nat} {D : va_G} {s0 : State} {b0 : Nat} {A : Nat → Prop} {G : jG} {As : List Value} {post : Option Value → jG → Prop} {own : String} (hy : plainFor y = true) (ho : y.cls = own) (hAs : (lg_sl As).length ≤ maxL)
    (body : ∀ (p : Program) (e : Env) (s : State) (m : MethodId) (args : Array Value) (below : List Frame) (meth : Method) (c : Code), jX D s0 b0 A p s m args c cc maxL own → meth.sig.returnType = ret → meth.locks = false → meth.name = y.name →
      Jg p l e (jR d mc ms) s m args below meth c (MQ below (jQ D A post) args s mc ms A) D A maxL G mc ms 0 (lv_args 0 As) []) : jMc l y (ws_ y cc maxL ret) (jR d mc ms) D s0 b0 A G As post := by
  intro p e ha hc hk s m args below hf hrun hable halone hname hhears hroom hpre hP
  obtain ⟨meth, c, hmeth, hcode, hbytes, hlocals, hret, hlocks, -, -⟩ := Cond.code_spec hname (atoms_spec (ws := ws_ y cc maxL ret) hpre _ List.mem_cons_self)
  have hcur := State.cur_lt_of_frames hf
  have hf1 : (s.setFrames (.java (entryFrame m args maxL) :: below)).frames = .java (entryFrame m args maxL) :: below :=
    State.frames_setFrames _ hcur
  have ht1 := State.topJava?_of_frames hf1
  have hplain : (s.setFrames (.java (entryFrame m args maxL) :: below)).plainMethod m := State.plainMethod.of_named (s := s) hy hname hmeth
  have hAt : At (s.setFrames (.java (entryFrame m args maxL) :: below)) m c below :=
    ⟨by rw [ht1]; rfl, ⟨[], by rw [hf1]; rfl⟩, hrun, by simpa using hable, by simpa using halone,
      by rw [State.code?_eq]; simp [State.setFrames, hmeth, hcode], hplain⟩
  have hstep : (stepThread p.tables e s).1 = (s.setFrames (.java (entryFrame m args maxL) :: below)).setTop (entryFrame m args maxL) := by
    have hfull : e.platform.stackFull (s.setFrames below).me (s.setFrames below).frames c.maxLocals = false := by
      obtain ⟨-, h1, -, h2⟩ := State.hasRoom_stack hroom
      rw [hf, List.length_cons] at h1
      rw [State.localsInUse_invoking hf hmeth hcode] at h2
      have hw := stackUse_le_stackWeight below
      rw [State.frames_setFrames _ hcur]
      exact Platform.stackFull_eq_false (by rw [State.stackLimits_setFrames]; omega) (by rw [State.stackLimits_setFrames]; omega)
    rw [stepThread_invoking hf, (doInvoke_java (s := s.setFrames below) (e := e) (meth := meth) (code := c) hmeth hcode hlocks hfull).1, State.setTop_self ht1]
    simp only [State.pushFrame, State.frames_setFrames _ hcur, State.setFrames_setFrames, hlocals, entryFrame]
  have hst : Stand p l e (jR d mc ms) s m args below meth c (s.setFrames (.java (entryFrame m args maxL) :: below)) [] 0 0 := by
    obtain ⟨t, ht, -⟩ := State.frames_cons hf
    exact ⟨ha, hc, hk, hf, hroom, hhears, hmeth, hcode, hAt, by rw [hf1]; rfl, State.WarmedH.refl s, by rw [State.stackLimits_setFrames], by rw [State.stackBytes_setFrames], (State.sameButNew.refl s ht).setFrames (.java (entryFrame m args maxL) :: below) hcur⟩
  obtain ⟨rfl, hG, hS, hA⟩ := hP
  have hts := atoms_spec (ws := ws_ y cc maxL ret) hpre
  have hts : ∀ w ∈ lw_all, w.before _ s = true := fun w h => hts w (List.mem_cons_of_mem _ h)
  have hown : s.vm.findClass own = some m.cls := by rw [← ho]; exact findClass_of_methodNamed hname
  have hl := lv_entry As (n := maxL) hAs
  have hW : W p l e (jR d mc ms) s m As.toArray below meth c s.heap [] 0 0 (MQ below (jQ D A post) As.toArray s mc ms A) (entryFrame m As.toArray maxL) := by
    rw [lg_entry_eq]
    generalize (lg_sl As ++ List.replicate (maxL - (lg_sl As).length) Slot.unset).toArray = ls at hl ⊢
    exact body p e s m _ below meth c ⟨by cases p <;> rfl, hbytes, hlocals, hown, hts, hS, hA⟩ hret hlocks (name_of_methodNamed hname hmeth).1 s.heap [] ls 0 0 hG va_S.rf hl (by show 0 + mc ≤ mc; omega) (by show 0 + ms ≤ ms; omega)
  obtain ⟨t, hs, o, b1, b2, b3, b4⟩ := hW (s.setFrames (.java (entryFrame m As.toArray maxL) :: below)) rfl hst
  obtain ⟨n, hn, hw⟩ := Steps.head (tb := p.tables) (e := e) ⟨hrun, hable, halone⟩ ⟨[.invoking m As.toArray], hf, by simp, by simp⟩ (hstep ▸ hs)
  exact ⟨n, o, hw, hn ▸ b1, hn ▸ b2, hn ▸ b3, hn ▸ b4⟩
theorem jMc.back {l : Launch} {R : Room} {p : Program} {e : Env} {below : List Frame} {s : State} {sargs : Array Value} {y : MethodName} {len W : Nat} {ws : List Cond} {rm : Room} {D : va_G} {s0 : State} {b0 : Nat} {A : Nat → Prop} {G : jG} {As : List Value} {post : Option Value → jG → Prop} {bytes : ByteArray} {maxL : Nat} {ret : Option FieldType}
    (hM : jMc l y ws rm D s0 b0 A G As post) (hframes : rm.frames + 1 ≤ R.frames) (hlocals : W + (maxL + 11) + rm.locals ≤ R.locals)
    (hws : ∀ w ∈ ws, ∀ a' U, s.WarmedH U.vm → w.before a' U = true) (hcode : Cond.code y bytes maxL ret ∈ ws) :
    Back l R p e below s sargs y len W (PreOf R rm.cells rm.slots (va_Pc As (jB D s0 b0 A G))) (PostOf (jQ D A post) rm.cells rm.slots A) := by
  intro m meth c P9 g ig mk a X hg hsize hdg hW hn hp
  obtain ⟨U, Ls, c0, s00⟩ := P9
  dsimp only [Pt.U, Pt.locs, Pt.cells, Pt.slots] at X hn ⊢
  obtain ⟨h4, h5, h6⟩ := hp
  dsimp only [Pt.U, Pt.locs, Pt.cells, Pt.slots] at h4 h5 h6
  have h1 : (headSpec ws rm).pre.before a U = true := atoms_intro fun w hw => hws w hw _ _ X.warmed
  have h2 : (Cond.code y bytes maxL ret).before a U = true := hws _ hcode _ _ X.warmed
  obtain ⟨methY, cY, hmY, hcY, -, hlY, -, -, -, -⟩ := Cond.code_spec hn h2
  have h : At U g.method c below := by rw [hg]; exact X.here
  have hroom := X.room_calling (g := g) (R' := rm) (m' := mk) (args' := a) hsize hmY hcY hframes (by rw [hlY]; omega) h4 h5
  obtain ⟨mid, hmid⟩ := h.above
  have hfr : (U.setTop g).frames = (.java g :: mid) ++ below := by rw [State.frames_setTop' g h.top, hmid]; rfl
  have hfc : (U.calling g mk a).frames = .invoking mk a :: (U.setTop g).frames := by
    rw [State.frames_calling h.top g mk a, State.frames_setTop' g h.top]
  have hcode9 : (U.calling g mk a).code? g.method = some c := by
    have := h.code
    rw [State.code?_eq] at this ⊢
    simpa [State.calling, State.pushFrame, State.setFrames] using this
  have b1 : (U.calling g mk a).status = .running := h.running
  have b2 : (U.calling g mk a).curStatus? = some .runnable := by simpa [State.calling] using h.runnable
  have b3 : (U.calling g mk a).alone = true := by simpa [State.calling] using h.alone
  have b5 : (U.calling g mk a).hears mk (U.setTop g).frames = true := by
    rw [State.frames_setTop' g h.top]
    simp [State.hears, hcode9, hdg, Except.toOption]
  have b7 : (headSpec ws rm).pre.before a (U.calling g mk a) = true := by rw [State.calling_eq h.top, Cond.before_setFrames]; exact h1
  obtain ⟨n, o, hw, hr, he, hq, hL9⟩ := hM p e X.admits X.cas X.clock (U.calling g mk a) mk a (U.setTop g).frames hfc b1 b2 b3 hn b5 hroom b7 h6
  obtain ⟨t9, ht9⟩ : ∃ t, (U.setTop g).threads[(U.setTop g).cur]? = some t := by
    obtain ⟨t, ht, -⟩ := State.frames_cons hfr
    exact ⟨t, ht⟩
  have hgo : (U.calling g mk a).goesOn := ⟨b1, b2, b3⟩
  have hstep : (stepThread p.tables e (U.calling g mk a)).1 = (doInvoke e (U.setTop g) [] mk a).1 := by
    rw [stepThread_invoking hfc, doInvoke_state e (U.setTop g) []]
    show (doInvoke e (((U.setTop g).pushFrame (.invoking mk a)).setFrames (U.setTop g).frames) [] mk a).1 = _
    rw [State.pushFrame, State.setFrames_setFrames, State.setFrames_self ht9]
  obtain ⟨s₂, hsteps, hend, hq', L, hfe, hLf⟩ : ∃ s₂, Steps p.tables e below (doInvoke e (U.setTop g) [] mk a).1 s₂ ∧ Ended s₂ (U.setTop g).frames o ∧ jQ D A post a (U.calling g mk a) o s₂ ∧ ∃ L, FrameEnd (U.calling g mk a) o s₂ L rm.cells rm.slots ∧ ∀ q ∈ L, A q.base := by
    cases n with
    | zero => exact absurd ⟨[.invoking mk a], hfc, by simp, by simp⟩ he.not_within
    | succ k =>
      rw [stepsAlone_succ _ hgo, hstep] at hr he hq hL9
      refine ⟨_, ⟨k, rfl, fun j hj => ?_⟩, he, hq, hL9⟩
      have := hw (j + 1) (by omega)
      rw [stepsAlone_succ _ hgo, hstep, hfr] at this
      exact this.weaken
  rw [State.frames_setTop' g h.top] at hend
  obtain ⟨⟨v, rfl⟩, hW₂, e2, q2, q3, q4, q5, q6⟩ := id hfe
  have e3 : s₂ = ({ (U.calling g mk a).setFrames s₂.frames with heap := s₂.heap, slotsUsed := s₂.slotsUsed } : State).setVm s₂.vm := by
    have : s₂ = ({ s₂ with vm := (U.calling g mk a).vm } : State).setVm s₂.vm := rfl
    rw [e2] at this
    exact this
  obtain ⟨c₂, i₂, len₂, hc₂, hd₂, hf₂⟩ := hend
  have hW' : U.WarmedH s₂.vm := hW₂
  have hcc : c₂ = c := by
    have h1 : s₂.code? g.method = U.code? g.method := by
      rw [State.code?_eq, State.code?_eq, hW'.alike.method?]
    exact Option.some.inj (hc₂.symm.trans (h1.trans h.code))
  subst hcc
  have hlen : len₂ = len := by rw [hdg] at hd₂; cases hd₂; rfl
  subst hlen
  obtain ⟨g₀, hg0⟩ := Option.isSome_iff_exists.mp h.top
  obtain ⟨r, hr⟩ := State.topJava?_eq_some.mp hg0
  have hs₂ : s₂ = (({ U with heap := s₂.heap, slotsUsed := s₂.slotsUsed } : State).setVm s₂.vm).setTop { g with pc := g.pc + len₂, stack := v.toList ++ g.stack } := by
    have hr' : (({ U with heap := s₂.heap, slotsUsed := s₂.slotsUsed } : State).setVm s₂.vm).frames = .java g₀ :: r := hr
    refine e3.trans ?_
    rw [hf₂, State.calling_eq h.top, State.setFrames_setFrames, State.setTop_of_frames _ hr', hr]
    rfl
  have hsame : U.sameButNew ({ U with heap := s₂.heap, slotsUsed := s₂.slotsUsed } : State) L rm.cells rm.slots := by
    refine ⟨?_, q2, q3, q4, q5, q6⟩
    obtain ⟨t, ht, -⟩ := State.frames_cons hr
    show ({ U with heap := s₂.heap, slotsUsed := s₂.slotsUsed } : State) = { U.setFrames U.frames with heap := s₂.heap, slotsUsed := s₂.slotsUsed }
    rw [State.setFrames_self ht]
  subst hg
  refine ⟨v, ⟨(({ U with heap := s₂.heap, slotsUsed := s₂.slotsUsed } : State).setVm s₂.vm), Ls ++ L, c0 + rm.cells, s00 + rm.slots⟩,
    ⟨X.admits, X.cas, X.clock, X.frames, X.room, X.hears, X.method, X.code, (X.here.setHeapUsed s₂.heap s₂.slotsUsed).setVm hW'.alike, X.tail, State.WarmedH.trans X.warmed hW', X.limits, X.bytes, X.same.trans (hsame.setVm s.vm)⟩,
    ⟨g, mk, s₂, L, rfl, rfl, hq', rfl, hLf, rfl, rfl⟩, ?_⟩
  show Steps p.tables e below _ ((({ U with heap := s₂.heap, slotsUsed := s₂.slotsUsed } : State).setVm s₂.vm).setTop { g with pc := g.pc + len₂, stack := v.toList ++ g.stack })
  rw [← hs₂]
  exact hsteps
/-- what a call of such a callee asks -/
abbrev jCU (R : Room) (s : State) (args : Array Value) (own C owner : String) (index : Nat) (x y : MethodName) (bytes : ByteArray) (maxL : Nat) (ret : Option FieldType) (ws : List Cond) (rm : Room) (n : Nat) : Prop :=
  (rm.frames + 1 ≤ R.frames ∧ 8 + (maxL + 11) + rm.locals ≤ R.locals ∧ (∀ w ∈ ws, ∀ (a' : Array Value) (U : State), s.WarmedH U.vm → w.before a' U = true) ∧ Cond.code y bytes maxL ret ∈ ws) ∧
  ((Cond.code y bytes maxL ret).before args s = true) ∧
  (owner ≠ "java/lang/invoke/MethodHandle" ∧ owner ≠ "java/lang/invoke/VarHandle") ∧
  (∀ sig, parseMethodDescriptor x.desc = some sig → n = sig.parameters.length) ∧
  ((Cond.methodLink own index x).before args s = true) ∧
  ((Cond.sameMethod x.cls owner x.name x.desc).before args s = true) ∧
  (va_Decl s ⟨owner, x.name, x.desc⟩) ∧
  ((Cond.selects C x y).before args s = true) ∧
  ((Cond.instanceMethod y).before args s = true)
section JCO
variable {p : Program} {l : Launch} {e : Env} {R : Room} {s : State} {m : MethodId} {args : Array Value} {below : List Frame} {meth : Method} {c : Code} {Q : State → Prop} {D : va_G} {s0 : State} {b0 : Nat} {A : Nat → Prop} {cc : ByteArray} {nL : Nat} {own : String} {G : jG} {bc bs pc : Nat} {lv : List (Nat × Value)} {st : List Value} {post : Option Value → jG → Prop}
theorem jr_callKC (hX : jX D s0 b0 A p s m args c cc nL own) {y : MethodName} {bytes : ByteArray} {maxL n index bc1 bs1 : Nat} {ret : Option FieldType} {ws : List Cond} {rm : Room} {As rest st1 : List Value} {b : Nat} {C : String} {x : MethodName} {owner : String} (hM : jMc l y ws rm D s0 b0 A G (.ref b :: As) post) (cw : jCU R s args own C owner index x y bytes maxL ret ws rm n) (hb : va_O C b A s s.heap) (hn : As.length = n) (hw : (rest.map fun v => v.category).sum ≤ 8) (hbc : bc1 + rm.cells ≤ bc) (hbs : bs1 + rm.slots ≤ bs) (hst : st1 = As.reverse ++ .ref b :: rest) (d : decode cc pc = .ok (.invokevirtual index, 3)) (kk : ∀ (v : Option Value) (G1 : jG), post v G1 → Jg p l e R s m args below meth c Q D A nL G1 bc1 bs1 (pc + 3) lv (v.toList ++ rest)) : Jg p l e R s m args below meth c Q D A nL G bc bs pc lv st1 := by
  refine jr_back hX (mc := rm.cells) (ms := rm.slots) (a := (Value.ref b :: As).toArray) hbc hbs (fun H locs ls cells slots hG hS hl hc0 hs => ?_) kk
  obtain ⟨⟨hfr, hlo, hws, hcw⟩, w1, w2, w3, w4, w5, w6, w7, w8⟩ := cw
  have hK : Back l R p e below s args y 3 8 (PreOf R rm.cells rm.slots (va_Pc (.ref b :: As) (jB D s0 b0 A G))) (PostOf (jQ D A post) rm.cells rm.slots A) := hM.back hfr hlo hws hcw
  obtain ⟨cellB, hcB, hoB, hclB⟩ := va_Orecv hb hS
  intro T hT X
  obtain ⟨v, vm₁, ⟨U', l2, c2, s2⟩, hW₁, X', ⟨g', mk, t, L, e1, e2, hq, h1, hL, h2, h3⟩, st⟩ := va_callVU X hX.1 (C := C) (owner := owner) (bytes := bytes) (maxL := maxL) (ret := ret) hX.2.2.2.1 w4 w5 w6 w2 w7 w8 w1 hK (by rw [hT]; exact hcB) hoB hclB (g := F0 m pc ls st1) rfl (by show ls.size = _; rw [hl.1]; exact hX.2.2.1.symm) (argsL := As) (rest := rest) (fun sig h => hn.trans (w3 sig h)) hst (lv_room hw) (by rw [hX.2.1]; exact d)
    (fun vm₁ hW₁ => ⟨by show cells + _ ≤ _; omega, by show slots + _ ≤ _; omega, ⟨rfl, jB.to hG hX.S hX.2.2.2.2.2.2 hS hT hW₁⟩⟩)
  dsimp only [Pt.U, Pt.locs, Pt.cells, Pt.slots] at X' e1 e2 h1 h2 h3 st
  subst h1; subst h2; subst h3
  exact ⟨v, (T.setVm vm₁).calling g' mk (Value.ref b :: As).toArray, t, U', L, hT, X', hL, e1, e2, hq, st⟩
end JCO
