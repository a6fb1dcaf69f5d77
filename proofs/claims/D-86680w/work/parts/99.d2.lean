/-! Math.rint in a walk: the machine's own entry calls StrictMath's method and hears its answer -/
def riRow : NativeRow := (NativeRow.find? Native.java_lang_Math.nans.rows "java/lang/Math" "rint" "(D)D").get (by decide +kernel)
set_option maxRecDepth 100000 in
theorem ri_row (p : Program) : NativeRow.find? p.tables.natives "java/lang/Math" "rint" "(D)D" = some riRow := by cases p <;> rfl
theorem ri_run (b : UInt64) (e : Env) (S : State) {cS : ClassId} {kS : Class} {i : Nat} (hf : S.vm.findClass "java/lang/StrictMath" = some cS) (hk : S.vm.classes[cS]? = some kS) (hi : kS.init = .initialized) (hm : kS.findMethod "rint" "(D)D" = some i) :
    ∃ acts, (riRow.sem #[.double b]).run e S = .ctl (.call ⟨cS, i⟩ #[.double b] 1 #[]) S acts := by
  have hsem : riRow.sem #[.double b] = (do
      let c ← classNamed "java/lang/StrictMath"
      ensureInit c
      let some i := (← theClass c).findMethod "rint" "(D)D" | modelBug ("StrictMath lacks " ++ "rint")
      callThen ⟨c, i⟩ #[.double b] 1 #[]) := rfl
  have hw : wpRun (riRow.sem #[.double b]) (fun _ _ _ => False) (fun c s₂ _ => c = .call ⟨cS, i⟩ #[.double b] 1 #[] ∧ s₂ = S) e S := by
    rw [hsem]
    simp [jvm, wpRun, W.classNamed_ready hf, W.ensureInit_ready ⟨kS, hk, hi⟩, theClass, callThen, hk, hm]
    exact ⟨rfl, rfl, rfl, rfl⟩
  have hw' := (wpRun_iff_run _ _ _ _ _).mp hw
  cases hr : (riRow.sem #[.double b]).run e S with
  | ok v s₂ acts₂ => rw [hr] at hw'; exact hw'.elim
  | ctl x s₂ acts₂ =>
    rw [hr] at hw'
    have h2 : x = .call ⟨cS, i⟩ #[.double b] 1 #[] ∧ s₂ = S := by cases x <;> first | exact hw' | exact hw'.elim
    obtain ⟨rfl, rfl⟩ := h2
    exact ⟨_, rfl⟩
theorem ri_resume {r : UInt64} (hn : vf_n64 r) (e : Env) (S : State) : ∃ acts, (riRow.resume 1 #[] (.returned (some (.double r)))).run e S = .ok (some (.double r)) S acts := by
  have hn : r &&& 0x7fffffffffffffff ≤ 0x7ff0000000000000 := hn
  have hsem : riRow.resume 1 #[] (.returned (some (.double r))) = (do
      let r ← anyNaN64 r
      mark "nat.java_lang_Math.rint"
      Pure.pure (some (.double r))) := rfl
  refine ov_run ?_
  rw [hsem]
  simp [jvm, wpRun, anyNaN64, hn]
theorem ri_again {tb : Tables} {e : Env} {s : State} {f : NFrame} {rest : List Frame} {k : Class} {x : Method} {row : NativeRow} {o : Outcome} (hf : s.frames = .native f :: rest) (hk : s.vm.classes[f.method.cls]? = some k) (hboot : k.loader = none) (hx : k.methods[f.method.idx]? = some x)
    (hrow : NativeRow.find? tb.natives k.name x.name x.desc = some row) (ha : f.answer = some o) : stepThread tb e s = afterNative e f rest ((row.resume f.stage f.saved o).run e s) := by
  unfold stepThread
  simp only [hf, hk, hx, hrow, ha, hboot, Option.bind_eq_bind, Option.bind_some, Option.pure_def, Option.isNone_none, if_true]
/-- the room left above the entry's frame -/
theorem ri_room {s : State} {pl : Platform} {m : MethodId} {a : Array Value} {nf : NFrame} {g : JFrame} {r : List Frame} {F L C Sl : Nat} (hcur : s.cur < s.threads.size) (hw : nf.words ≤ 1024)
    (h : (s.setFrames (.invoking m a :: .java g :: r)).hasRoom pl { frames := F + 1, locals := L + 1024, cells := C, slots := Sl } = true) : (s.setFrames (.invoking m a :: .native nf :: .java g :: r)).hasRoom pl { frames := F, locals := L, cells := C, slots := Sl } = true := by
  have hwt : Frame.weight (.native nf) = 1024 := by show max nf.words vmFrameWords = 1024; unfold vmFrameWords; omega
  simp only [State.hasRoom, Bool.and_eq_true, decide_eq_true_eq, State.frames_setFrames _ hcur, State.stackLimits_setFrames, State.stackBytes_setFrames, State.localsInUse, stackWeight, List.map_cons, List.sum_cons, List.length_cons, hwt] at h ⊢
  obtain ⟨⟨⟨⟨a0, a1, a2, a3, a4, a5⟩, b1⟩, c1⟩, d1⟩ := h
  have e : (s.setFrames (.invoking m a :: .native nf :: .java g :: r)).vm = (s.setFrames (.invoking m a :: .java g :: r)).vm := rfl
  refine ⟨⟨⟨⟨?_, by omega, by omega, ?_, ?_, a5⟩, b1⟩, c1⟩, d1⟩
  · rw [e]; omega
  · rw [e]; omega
  · rw [e]; omega
/-- the entry's frame, waiting; and with the answer -/
abbrev riN (m : MethodId) (b : UInt64) : NFrame := { method := m, args := #[.double b], stage := 1, saved := #[], awaiting := true, answer := none, words := 0 }
abbrev riA (m : MethodId) (b r : UInt64) : NFrame := { method := m, args := #[.double b], stage := 1, saved := #[], awaiting := false, answer := some (.returned (some (.double r))), words := 0 }
theorem ri_steps {l : Launch} (p : Program) {e : Env} (hadm : l.admits e) (hcas : FairCas e.choices) (hclk : FairClock e.choices) {below : List Frame} {s : State} {g : JFrame} {c : Code}
    (htopS : s.topJava?.isSome) (habove : ∃ mid, s.frames.tail = mid ++ below) (hrunning : s.status = .running) (hrunnable : s.curStatus? = some .runnable) (haloneS : s.alone = true) (hcodeG : s.code? g.method = some c)
    {m : MethodId} {meth : Method} {k : Class} {cm : Code} {b r : UInt64} (acts : List Action) (hk : s.vm.classes[m.cls]? = some k) (hx : k.methods[m.idx]? = some meth) (hboot : k.loader = none)
    (hkn : k.name = "java/lang/Math") (hmn : meth.name = "rint") (hmd : meth.desc = "(D)D") (hsig : parseMethodDescriptor "(D)D" = some meth.sig) (hc : meth.code = some cm) (hml : cm.maxLocals = 2) (hl : meth.locks = false)
    (hroom : (s.calling g m #[.double b]).hasRoom e.platform {} = true) {cS : ClassId} {kS : Class} {i : Nat} (hfS : s.vm.findClass "java/lang/StrictMath" = some cS) (hkS : s.vm.classes[cS]? = some kS) (hiS : kS.init = .initialized) (hmS : kS.findMethod "rint" "(D)D" = some i)
    {h : Nat} (hM : sC l yJ2_rint cJ2_rint 6 (some .double) h [.double b] (some (.double r)))
    (happ : (D.headSpec (ws_ yJ2_rint cJ2_rint 6 (some .double)) { frames := h, cells := 0, slots := 0, locals := 48 * h }).appliesLoose yJ2_rint e.platform ((s.setFrames (.native (riN m b) :: .java g :: s.frames.tail)).pushFrame (.invoking ⟨cS, i⟩ #[.double b])) = true)
    (hn : vf_n64 r) {ig : Instr} {len : Nat} (hdg : decode c.code g.pc = .ok (ig, len)) :
    ∃ s₂ : State, FrameEnd ((s.setFrames (.native (riN m b) :: .java g :: s.frames.tail)).pushFrame (.invoking ⟨cS, i⟩ #[.double b])) (.returned (some (.double r))) s₂ [] 0 0 ∧ s₂.heap = s.heap ∧
      Steps p.tables e below (doInvoke e (s.setTop g) acts m #[.double b]).1 (s₂.setFrames (.java { g with pc := g.pc + len, stack := .double r :: g.stack } :: s.frames.tail)) := by
  obtain ⟨g₀, hg⟩ := Option.isSome_iff_exists.mp htopS
  obtain ⟨fs, hr⟩ := State.topJava?_eq_some.mp hg
  obtain ⟨mid, hmid⟩ := habove
  have hcur : s.cur < s.threads.size := State.cur_lt_of_frames hr
  have hm : s.vm.method? m = some meth := by simp [Vm.method?, hk, hx]
  have htop : s.setTop g = s.setFrames (.java g :: fs) := State.setTop_of_frames _ hr
  have htail : s.frames.tail = fs := by rw [hr]; rfl
  rw [htail] at happ hmid ⊢
  have hfull : e.platform.stackFull (s.setTop g).me (s.setTop g).frames cm.maxLocals = false := by
    have hfc := State.frames_calling htopS g m #[.double b]
    obtain ⟨-, r2, -, r4⟩ := State.hasRoom_stack hroom
    rw [State.localsInUse_invoking hfc (meth := meth) (c := cm) hm hc] at r4
    rw [hfc, htail] at r2
    rw [htail] at r4
    have hw := stackUse_le_stackWeight (.java g :: fs)
    rw [State.calling_eq htopS, State.stackLimits_setFrames] at r2 r4
    rw [htop, State.frames_setFrames _ hcur]
    have e1 : ({} : Room).frames = 0 := rfl
    have e2 : ({} : Room).locals = 0 := rfl
    exact Platform.stackFull_eq_false (by rw [State.stackLimits_setFrames]; simp only [List.length_cons] at r2 ⊢; omega) (by rw [State.stackLimits_setFrames]; omega)
  rw [(doInvoke_java (s := s.setTop g) (e := e) (acts := acts) (args := #[.double b]) (meth := meth) (code := cm) hm hc hl hfull).1, hml]
  have hU : (s.setTop g).pushFrame (.java { method := m, pc := 0, locals := argsToLocals #[.double b] 2, stack := [], locked := none }) = s.setFrames (.java (entryFrame m #[.double b] 2) :: .java g :: fs) := by
    rw [State.pushFrame, State.frames_setTop _ hr, htop, State.setFrames_setFrames]
    rfl
  rw [hU]
  have hf1 : (s.setFrames (.java (entryFrame m #[.double b] 2) :: .java g :: fs)).frames = .java (entryFrame m #[.double b] 2) :: .java g :: fs := State.frames_setFrames _ hcur
  have hov : overridden p.tables e (s.setFrames (.java (entryFrame m #[.double b] 2) :: .java g :: fs)) (entryFrame m #[.double b] 2) = some riRow := by
    have hk2 : (s.setFrames (.java (entryFrame m #[.double b] 2) :: .java g :: fs)).vm.classes[(entryFrame m #[.double b] 2).method.cls]? = some k := hk
    have hx2 : k.methods[(entryFrame m #[.double b] 2).method.idx]? = some meth := hx
    have hp : ((entryFrame m #[.double b] 2).pc != 0) = false := rfl
    have hrow : NativeRow.find? p.tables.natives k.name meth.name meth.desc = some riRow := by rw [hkn, hmn, hmd]; exact ri_row p
    have hm2 : k.name ∈ overriddenIn := by rw [hkn]; decide
    unfold overridden
    rw [hp, hk2]
    simp [hm2, hboot, hx2, hrow]
  have hb2 : ∀ F : List Frame, ((s.setFrames F).vm.classes[m.cls]?.bind fun y => y.methods[m.idx]?) = some meth := by
    intro F
    show (s.vm.classes[m.cls]?.bind fun y => y.methods[m.idx]?) = some meth
    simp [hk, hx]
  have hsig2 : parseMethodDescriptor "(D)D" = some { parameters := [.double], returnType := some .double } := by decide +kernel
  have hparams : meth.sig.parameters.length = 1 := by
    have h3 := hsig
    rw [hsig2] at h3
    rw [← Option.some.inj h3]
    rfl
  have htake : ∀ n : Nat, List.take (1 + n) [Value.double b] = [Value.double b] := fun n => List.take_of_length_le (Nat.le_add_right 1 n)
  obtain ⟨acts₂, hr2⟩ := ri_run b e (s.setFrames (.native { method := m, args := #[.double b] } :: .java g :: fs)) (cS := cS) (kS := kS) (i := i) hfS hkS hiS hmS
  have hwords : ∀ F : List Frame, (((s.setFrames F).vm.classes[m.cls]?).bind fun k => (k.methods[m.idx]?).map fun n => upcallWords k.name n.name).getD 0 = 0 := by
    intro F
    show ((s.vm.classes[m.cls]?).bind fun k => (k.methods[m.idx]?).map fun n => upcallWords k.name n.name).getD 0 = 0
    simp [hk, hx, hkn, hmn, upcallWords]
  have hstep2 : (stepThread p.tables e (s.setFrames (.java (entryFrame m #[.double b] 2) :: .java g :: fs))).1 = (doInvoke e (s.setFrames (.native (riN m b) :: .java g :: fs)) acts₂ ⟨cS, i⟩ #[.double b]).1 := by
    unfold stepThread
    simp only [hf1, hov]
    have hb3 : (s.vm.classes[m.cls]?.bind fun x => x.methods[m.idx]?) = some meth := by simp [hk, hx]
    have hw3 : ((s.vm.classes[m.cls]?).bind fun k => Option.map (fun n => upcallWords k.name n.name) k.methods[m.idx]?).getD 0 = 0 := by simp [hk, hx, hkn, hmn, upcallWords]
    simp [entryFrame, argsToLocals, Value.category, argCount, hb2, hb3, hparams, htake, hr2, afterNative, hwords, hw3, State.setFrames_setFrames]
  have hfN : (s.setFrames (.native (riN m b) :: .java g :: fs)).frames = (.native (riN m b) :: .java g :: mid) ++ below := by rw [State.frames_setFrames _ hcur, hmid]; rfl
  unfold sC Met at hM
  obtain ⟨o, s₂, hsteps, hrun2, hend, ⟨ho, hh2⟩, L, hfe, hL⟩ := Steps.callFree hM p hadm hcas hclk (s := (s.setFrames (.native (riN m b) :: .java g :: fs))) (m := ⟨cS, i⟩) (args := #[.double b]) (acts := acts₂) hfN happ rfl trivial
  have hL0 : L = [] := by
    cases L with
    | nil => rfl
    | cons q t => exact (hL q List.mem_cons_self).elim
  subst hL0
  subst ho
  rw [State.frames_setFrames _ hcur] at hend
  replace hend : s₂.frames = .native (riA m b r) :: .java g :: fs := hend
  refine ⟨s₂, hfe, hh2, ?_⟩
  refine Steps.head ⟨hrunning, by simpa using hrunnable, by simpa using haloneS⟩ ⟨.java (entryFrame m #[.double b] 2) :: .java g :: mid, by rw [hf1, hmid]; rfl, by simp, by simp⟩ ?_
  rw [hstep2]
  refine hsteps.trans ?_
  obtain ⟨-, hW₂, e2, -⟩ := id hfe
  have hal : s.vm.Alike s₂.vm := hW₂.alike
  obtain ⟨k', hk', ek⟩ := hal.2.2 _ _ hk
  have hboot' : k'.loader = none := by rw [ek]; exact hboot
  have hx' : k'.methods[m.idx]? = some meth := by rw [ek]; exact hx
  have hkn' : k'.name = "java/lang/Math" := by rw [ek]; exact hkn
  obtain ⟨acts₃, hr3⟩ := ri_resume hn e s₂
  have hcode2 : s₂.code? g.method = some c := by
    have h1 : s₂.code? g.method = s.code? g.method := by rw [State.code?_eq, State.code?_eq, hal.method?]
    rw [h1]; exact hcodeG
  have hfs : handOver s₂ (some (.double r)) (.java g :: fs) = some (.java { g with pc := g.pc + len, stack := .double r :: g.stack } :: fs) := by
    simp [handOver, hcode2, hdg, Except.toOption]
  have hstep4 : (stepThread p.tables e s₂).1 = s₂.setFrames (.java { g with pc := g.pc + len, stack := .double r :: g.stack } :: fs) := by
    rw [ri_again (f := riA m b r) (o := .returned (some (.double r))) hend hk' hboot' hx' (by rw [hkn', hmn, hmd]; exact ri_row p) rfl]
    show (afterNative e _ _ ((riRow.resume 1 #[] (.returned (some (.double r)))).run e s₂)).1 = _
    rw [hr3]
    exact doReturn_native (f := riA m b r) hend rfl hfs
  have hcs : s₂.curStatus? = some .runnable := by
    have h1 : s₂.curStatus? = ({ s₂ with vm := ((s.setFrames (.native (riN m b) :: .java g :: fs)).pushFrame (.invoking ⟨cS, i⟩ #[.double b])).vm } : State).curStatus? := rfl
    rw [h1, e2]
    show (((s.setFrames (.native (riN m b) :: .java g :: fs)).pushFrame (.invoking ⟨cS, i⟩ #[.double b])).setFrames _).curStatus? = _
    simpa [State.pushFrame] using hrunnable
  have hal2 : s₂.alone = true := by
    have h1 : s₂.alone = ({ s₂ with vm := ((s.setFrames (.native (riN m b) :: .java g :: fs)).pushFrame (.invoking ⟨cS, i⟩ #[.double b])).vm } : State).alone := rfl
    rw [h1, e2]
    show (((s.setFrames (.native (riN m b) :: .java g :: fs)).pushFrame (.invoking ⟨cS, i⟩ #[.double b])).setFrames _).alone = _
    simpa [State.pushFrame] using haloneS
  refine Steps.head ⟨hrun2, hcs, hal2⟩ ⟨.native (riA m b r) :: .java g :: mid, by rw [hend, hmid]; rfl, by simp, by simp⟩ ?_
  rw [hstep4]
  exact Steps.refl _
theorem ri_pays {l : Launch} {R : Room} {p : Program} {e : Env} {below : List Frame} {s : State} {sargs : Array Value} {len Wd n : Nat} {b r : UInt64} (hts : ∀ w ∈ lw_all, w.before sargs s = true) (q1 : Cond.code yJ1_rint cJ1_rint 2 (some .double) ∈ lw_all) (q2 : Cond.code yJ2_rint cJ2_rint 6 (some .double) ∈ lw_all) (q3 : Cond.initialized "java/lang/StrictMath" ∈ lw_all)
    (hM : sC l yJ2_rint cJ2_rint 6 (some .double) n [.double b] (some (.double r))) (hn : vf_n64 r) (hfr : n + 2 ≤ R.frames) (hlo : Wd + (6 + 11) + (48 * n + 1024) ≤ R.locals) :
    Back l R p e below s sargs yJ1_rint len Wd (fun A a' => A.cells ≤ R.cells ∧ A.slots ≤ R.slots ∧ a' = #[.double b]) (fun A _ v B => v = some (.double r) ∧ B.U.heap = A.U.heap ∧ B.locs = A.locs ∧ B.cells = A.cells ∧ B.slots = A.slots) := by
  intro m meth c A g ig mk a' X hg hsize hdg hW hnamed ⟨hc, hs, ha'⟩
  subst ha'
  obtain ⟨U, Ls, c0, s0⟩ := A
  dsimp only [Pt.U, Pt.locs, Pt.cells, Pt.slots] at hc hs X hnamed ⊢
  have hpay := pay_in (s := s) hts (lw_meth q2)
  have hcodeU : (Cond.code yJ1_rint cJ1_rint 2 (some .double)).before #[.double b] U = true := pay_in (s := s) hts (lw_meth q1) _ List.mem_cons_self _ U X.warmed
  obtain ⟨methM, cM, hmethM, hcodeM', -, hlocalsM, -, hlocksM, -, hsigM⟩ := Cond.code_spec hnamed hcodeU
  obtain ⟨kP, hkP, hkname⟩ := className_of_methodNamed hnamed
  obtain ⟨hmnM, hmdM⟩ := name_of_methodNamed hnamed hmethM
  have hxP : kP.methods[mk.idx]? = some methM := by simpa [Vm.method?, hkP] using hmethM
  have hbootP : kP.loader = none := Vm.bootOf_findClass (findClass_of_methodNamed hnamed) hkP
  have hCS : (Cond.code yJ2_rint cJ2_rint 6 (some .double)).before #[.double b] U = true := hpay _ List.mem_cons_self _ U X.warmed
  have hiniS : (Cond.initialized "java/lang/StrictMath").before #[.double b] U = true := hpay _ (List.mem_cons_of_mem _ q3) _ U X.warmed
  obtain ⟨mS, hnS⟩ := Cond.code_named hCS
  obtain ⟨methS, cSd, hmethS, hcodeS, -, hlocS, -, -, -, -⟩ := Cond.code_spec hnS hCS
  obtain ⟨kS, hkS, -⟩ := className_of_methodNamed hnS
  have hfS : U.vm.findClass "java/lang/StrictMath" = some mS.cls := findClass_of_methodNamed hnS
  have hiS : kS.init = .initialized := Cond.initialized_spec hfS hkS hiniS
  have hmS : kS.findMethod "rint" "(D)D" = some mS.idx := by
    have h := hnS
    simp only [State.methodNamed?, Option.bind_eq_bind, Option.pure_def] at h
    rw [show yJ2_rint.cls = "java/lang/StrictMath" from rfl, hfS] at h
    simp only [Option.bind_some, hkS] at h
    cases hfm : kS.findMethod yJ2_rint.name yJ2_rint.desc with
    | none => rw [hfm] at h; cases h
    | some j => rw [hfm] at h; simp at h; rw [← h]; exact hfm
  have h : At U g.method c below := by rw [hg]; exact X.here
  obtain ⟨g₀, hg0⟩ := Option.isSome_iff_exists.mp h.top
  obtain ⟨fs, hr⟩ := State.topJava?_eq_some.mp hg0
  have hcur : U.cur < U.threads.size := State.cur_lt_of_frames hr
  have htail : U.frames.tail = fs := by rw [hr]; rfl
  have eFirst : (U.setFrames (.native (riN mk b) :: .java g :: U.frames.tail)).pushFrame (.invoking ⟨mS.cls, mS.idx⟩ #[.double b]) = U.setFrames (.invoking mS #[.double b] :: .native (riN mk b) :: .java g :: fs) := by
    rw [State.pushFrame, State.frames_setFrames _ hcur, State.setFrames_setFrames, htail]
  have hloS : 2 * g.monitorRoom + (g.stack.map fun v => v.category).sum + (6 + 11) + (48 * n + 1024) ≤ R.locals := Nat.le_trans (Nat.add_le_add_right (Nat.add_le_add_right hW _) _) hlo
  have hloM : 2 * g.monitorRoom + (g.stack.map fun v => v.category).sum + (2 + 11) + 0 ≤ R.locals := by omega
  have hroomS : (U.calling g mS #[.double b]).hasRoom e.platform { frames := n + 1, locals := 48 * n + 1024, cells := 0, slots := 0 } = true :=
    X.room_calling hsize hmethS hcodeS (R' := { frames := n + 1, locals := 48 * n + 1024, cells := 0, slots := 0 }) (by show n + 1 + 1 ≤ R.frames; omega) (by rw [hlocS]; exact hloS) (by show c0 + 0 ≤ R.cells; omega) (by show s0 + 0 ≤ R.slots; omega)
  rw [State.calling_eq h.top, htail] at hroomS
  have happ : (D.headSpec (ws_ yJ2_rint cJ2_rint 6 (some .double)) { frames := n, cells := 0, slots := 0, locals := 48 * n }).appliesLoose yJ2_rint e.platform ((U.setFrames (.native (riN mk b) :: .java g :: U.frames.tail)).pushFrame (.invoking ⟨mS.cls, mS.idx⟩ #[.double b])) = true := by
    rw [eFirst]
    refine (Spec.appliesLoose_iff (State.frames_setFrames _ hcur)).mpr ⟨h.running, by simpa using h.runnable, by simpa using h.alone, hnS, rfl, State.classRipe_of (s := U.setFrames _) hkS hiS, ri_room hcur (Nat.zero_le _) hroomS, ?_⟩
    rw [Cond.before_setFrames]
    exact atoms_intro fun w hw => hpay w hw _ _ X.warmed
  obtain ⟨s₂, hfe, hh2, hsteps⟩ := ri_steps p X.admits X.cas X.clock (below := below) (g := g) (c := c) h.top h.above h.running h.runnable h.alone h.code [] hkP hxP hbootP hkname hmnM hmdM hsigM hcodeM' hlocalsM hlocksM
    (X.room_calling hsize hmethM hcodeM' (R' := {}) (by show 0 + 1 ≤ R.frames; omega) (by rw [hlocalsM]; exact hloM) (by show c0 + 0 ≤ R.cells; omega) (by show s0 + 0 ≤ R.slots; omega))
    hfS hkS hiS hmS hM happ hn hdg
  obtain ⟨-, hW₂, e2, q2, q3, q4, q5, q6⟩ := id hfe
  have hW' : U.WarmedH s₂.vm := hW₂
  have e3 : s₂ = ({ U.setFrames s₂.frames with heap := s₂.heap, slotsUsed := s₂.slotsUsed } : State).setVm s₂.vm := by
    have h1 : s₂ = ({ s₂ with vm := ((U.setFrames (.native (riN mk b) :: .java g :: U.frames.tail)).pushFrame (.invoking ⟨mS.cls, mS.idx⟩ #[.double b])).vm } : State).setVm s₂.vm := rfl
    rw [e2, eFirst, State.setFrames_setFrames] at h1
    exact h1
  have hs₂ : s₂.setFrames (.java { g with pc := g.pc + len, stack := .double r :: g.stack } :: U.frames.tail) = (({ U with heap := s₂.heap, slotsUsed := s₂.slotsUsed } : State).setVm s₂.vm).setTop { g with pc := g.pc + len, stack := .double r :: g.stack } := by
    have hr' : (({ U with heap := s₂.heap, slotsUsed := s₂.slotsUsed } : State).setVm s₂.vm).frames = .java g₀ :: fs := hr
    rw [State.setTop_of_frames _ hr', htail]
    conv => lhs; rw [e3]
    show (({ U.setFrames s₂.frames with heap := s₂.heap, slotsUsed := s₂.slotsUsed } : State).setVm s₂.vm).setFrames _ = _
    have e4 : ∀ F G : List Frame, (({ U.setFrames F with heap := s₂.heap, slotsUsed := s₂.slotsUsed } : State).setVm s₂.vm).setFrames G = (({ U with heap := s₂.heap, slotsUsed := s₂.slotsUsed } : State).setVm s₂.vm).setFrames G := fun F G => by
      show ({ (U.setFrames F).setFrames G with heap := s₂.heap, slotsUsed := s₂.slotsUsed } : State).setVm s₂.vm = _
      rw [State.setFrames_setFrames]; rfl
    exact e4 _ _
  have hsame : U.sameButNew ({ U with heap := s₂.heap, slotsUsed := s₂.slotsUsed } : State) [] 0 0 := by
    refine ⟨?_, q2, q3, q4, q5, q6⟩
    obtain ⟨t, ht, -⟩ := State.frames_cons hr
    show ({ U with heap := s₂.heap, slotsUsed := s₂.slotsUsed } : State) = { U.setFrames U.frames with heap := s₂.heap, slotsUsed := s₂.slotsUsed }
    rw [State.setFrames_self ht]
  subst hg
  refine ⟨some (.double r), ⟨(({ U with heap := s₂.heap, slotsUsed := s₂.slotsUsed } : State).setVm s₂.vm), Ls ++ [], c0 + 0, s0 + 0⟩,
    ⟨X.admits, X.cas, X.clock, X.frames, X.room, X.hears, X.method, X.code, (X.here.setHeapUsed s₂.heap s₂.slotsUsed).setVm hW'.alike, X.tail, State.WarmedH.trans X.warmed hW', X.limits, X.bytes, X.same.trans (hsame.setVm s.vm)⟩,
    ⟨rfl, hh2, List.append_nil _, rfl, rfl⟩, ?_⟩
  show Steps p.tables e below _ ((({ U with heap := s₂.heap, slotsUsed := s₂.slotsUsed } : State).setVm s₂.vm).setTop { g with pc := g.pc + len, stack := .double r :: g.stack })
  rw [← hs₂]
  exact hsteps
