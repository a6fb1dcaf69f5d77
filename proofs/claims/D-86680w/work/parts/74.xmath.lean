/-! methods of Math that the machine runs by an entry of its own: one row for all whose entry changes nothing -/
theorem ov_steps (p : Program) {e : Env} {below : List Frame} {s target : State} {g : JFrame} {c : Code} {m : MethodId} {meth : Method} {k : Class} {cm : Code} {vs : Array Value} {r : Value} {row : NativeRow} (acts : List Action)
    (h1 : s.topJava?.isSome) (h2 : ∃ mid, s.frames.tail = mid ++ below) (h3 : s.status = .running) (h4 : s.curStatus? = some .runnable) (h5 : s.alone = true) (h6 : s.code? g.method = some c)
    (hk : s.vm.classes[m.cls]? = some k) (hx : k.methods[m.idx]? = some meth) (hboot : k.loader = none) (hkn : overriddenIn.contains k.name = true) (hrow : NativeRow.find? p.tables.natives k.name meth.name meth.desc = some row)
    (hc : meth.code = some cm) (hl : meth.locks = false) (hroom : (s.calling g m vs).hasRoom e.platform {} = true)
    (hvs : ((argsToLocals vs cm.maxLocals).toList.filterMap fun | .val v => some v | _ => none).toArray.extract 0 (meth.sig.parameters.length + (if meth.isStatic then 0 else 1)) = vs)
    (hrun : ∀ S : State, ∃ acts, (row.sem vs).run e S = .ok (some r) S acts) {ig : Instr} {len : Nat} (hdg : decode c.code g.pc = .ok (ig, len))
    (hrest : Steps p.tables e below (s.setTop { g with pc := g.pc + len, stack := r :: g.stack }) target) : Steps p.tables e below (doInvoke e (s.setTop g) acts m vs).1 target := by
  obtain ⟨g0, hg0⟩ := Option.isSome_iff_exists.mp h1
  obtain ⟨fs, hfs⟩ := State.topJava?_eq_some.mp hg0
  obtain ⟨mid, hmid⟩ := h2
  have hcur : s.cur < s.threads.size := State.cur_lt_of_frames hfs
  have hm : s.vm.method? m = some meth := by simp [Vm.method?, hk, hx]
  have htop : s.setTop g = s.setFrames (.java g :: fs) := State.setTop_of_frames _ hfs
  have htail : s.frames.tail = fs := by rw [hfs]; rfl
  have hfull : e.platform.stackFull (s.setTop g).me (s.setTop g).frames cm.maxLocals = false := by
    have hfc := State.frames_calling h1 g m vs
    obtain ⟨-, r2, -, r4⟩ := State.hasRoom_stack hroom
    rw [State.localsInUse_invoking hfc (meth := meth) (c := cm) hm hc] at r4
    rw [hfc, htail] at r2
    rw [htail] at r4
    have hw := stackUse_le_stackWeight (.java g :: fs)
    rw [State.calling_eq h1, State.stackLimits_setFrames] at r2 r4
    rw [htop, State.frames_setFrames _ hcur]
    have e1 : ({} : Room).frames = 0 := rfl
    have e2 : ({} : Room).locals = 0 := rfl
    exact Platform.stackFull_eq_false (by rw [State.stackLimits_setFrames]; simp only [List.length_cons] at r2 ⊢; omega) (by rw [State.stackLimits_setFrames]; omega)
  rw [(doInvoke_java (s := s.setTop g) (e := e) (acts := acts) (args := vs) (meth := meth) (code := cm) hm hc hl hfull).1]
  have hU : (s.setTop g).pushFrame (.java { method := m, pc := 0, locals := argsToLocals vs cm.maxLocals, stack := [], locked := none }) = s.setFrames (.java (entryFrame m vs cm.maxLocals) :: .java g :: fs) := by
    rw [State.pushFrame, State.frames_setTop _ hfs, htop, State.setFrames_setFrames]
    rfl
  rw [hU]
  have hf1 : (s.setFrames (.java (entryFrame m vs cm.maxLocals) :: .java g :: fs)).frames = .java (entryFrame m vs cm.maxLocals) :: .java g :: fs := State.frames_setFrames _ hcur
  have hov : overridden p.tables e (s.setFrames (.java (entryFrame m vs cm.maxLocals) :: .java g :: fs)) (entryFrame m vs cm.maxLocals) = some row := by
    have hk2 : (s.setFrames (.java (entryFrame m vs cm.maxLocals) :: .java g :: fs)).vm.classes[(entryFrame m vs cm.maxLocals).method.cls]? = some k := hk
    have hx2 : k.methods[(entryFrame m vs cm.maxLocals).method.idx]? = some meth := hx
    have hp : ((entryFrame m vs cm.maxLocals).pc != 0) = false := rfl
    unfold overridden
    rw [hp, hk2]
    have hm2 : k.name ∈ overriddenIn := by simpa using hkn
    simp [hm2, hboot, hx2, hrow]
  have hac : argCount (s.setFrames (.java (entryFrame m vs cm.maxLocals) :: .java g :: fs)) m = meth.sig.parameters.length + (if meth.isStatic then 0 else 1) := by
    show (match (s.vm.classes[m.cls]?).bind (·.methods[m.idx]?) with | some x => x.sig.parameters.length + (if x.isStatic then 0 else 1) | none => 0) = _
    rw [hk]
    show (match k.methods[m.idx]? with | some x => x.sig.parameters.length + (if x.isStatic then 0 else 1) | none => 0) = _
    rw [hx]
  obtain ⟨acts2, hr2⟩ := hrun (s.setFrames (.native { method := m, args := vs } :: .java g :: fs))
  have hcode : ∀ F : List Frame, (s.setFrames F).code? g.method = some c := by
    intro F
    have := h6
    rw [State.code?_eq] at this ⊢
    simpa [State.setFrames] using this
  have hho : handOver (s.setFrames (.native { method := m, args := vs } :: .java g :: fs)) (some r) (.java g :: fs) = some (.java { g with pc := g.pc + len, stack := r :: g.stack } :: fs) := by
    simp [handOver, hcode, hdg, Except.toOption]
  have hstep : (stepThread p.tables e (s.setFrames (.java (entryFrame m vs cm.maxLocals) :: .java g :: fs))).1 = s.setTop { g with pc := g.pc + len, stack := r :: g.stack } := by
    unfold stepThread
    simp only [hf1, hov]
    have e1 : (entryFrame m vs cm.maxLocals).method = m := rfl
    have e2 : (entryFrame m vs cm.maxLocals).locals = argsToLocals vs cm.maxLocals := rfl
    have e3 : (entryFrame m vs cm.maxLocals).locked = none := rfl
    rw [e1, e2, e3, hac]
    suffices hq : ∀ w : Array Value, w = vs → (afterNative e { method := m, args := w } (.java g :: fs) ((row.sem w).run e ((s.setFrames (.java (entryFrame m vs cm.maxLocals) :: .java g :: fs)).setFrames (.native { method := m, args := w } :: .java g :: fs)))).1 = s.setTop { g with pc := g.pc + len, stack := r :: g.stack } from hq _ hvs
    intro w hw
    rw [hw]
    rw [State.setFrames_setFrames, hr2]
    simp only [afterNative]
    rw [doReturn_native (f := { method := m, args := vs }) (below := .java g :: fs) (State.frames_setFrames _ hcur) rfl hho, State.setFrames_setFrames, ← State.setTop_of_frames _ hfs]
  refine Steps.head ⟨h3, by simpa using h4, by simpa using h5⟩ ⟨.java (entryFrame m vs cm.maxLocals) :: .java g :: mid, by rw [hf1]; rw [hfs] at hmid; simp at hmid; simp [hmid], by simp, by simp⟩ ?_
  rw [hstep]
  exact hrest
section TX7_
variable {p : Program} {l : Launch} {e : Env} {R : Room} {s : State} {m : MethodId} {args : Array Value} {below : List Frame} {meth : Method} {c : Code} {H : Heap} {locs : List Loc} {cells slots : Nat} {Q : State → Prop}
variable {pc : Nat} {ls : Array Slot} {rest : List Value}
theorem ov_pays {y : MethodName} {b : ByteArray} {ml n Wd len : Nat} {ret : Option FieldType} {vs : Array Value} {r : Value} {row : NativeRow} (hcode : (Cond.code y b ml ret).before args s = true) (hstat : (Cond.static y).before args s = true) (hcl : overriddenIn.contains y.cls = true) (hrow : NativeRow.find? p.tables.natives y.cls y.name y.desc = some row) (hpn : ∀ sig, parseMethodDescriptor y.desc = some sig → sig.parameters.length = n)
    (hvs : ((argsToLocals vs ml).toList.filterMap fun | .val v => some v | _ => none).toArray.extract 0 n = vs) (hrun : ∀ S : State, ∃ acts, (row.sem vs).run e S = .ok (some r) S acts) (hfr : 1 ≤ R.frames) (hlo : Wd + (ml + 11) ≤ R.locals) :
    Back l R p e below s args y len Wd (fun A a' => A.cells ≤ R.cells ∧ A.slots ≤ R.slots ∧ a' = vs) (fun A _ v B => v = some r ∧ B = A) := by
  intro m meth c A g ig mk a' X hg hsize hdg hW hnamed ⟨hc, hs, ha'⟩
  subst ha'
  have hcodeU : (Cond.code y b ml ret).before args A.U = true := Cond.tabsOnly_warm (args' := args) (T := A.U) X.warmed _ rfl hcode
  have hstatU : (Cond.static y).before args A.U = true := Cond.tabsOnly_warm (args' := args) (T := A.U) X.warmed _ rfl hstat
  obtain ⟨methM, cM, hmethM, hcodeM, -, hlocM, -, hlocksM, -, hsigM⟩ := Cond.code_spec hnamed hcodeU
  obtain ⟨kP, hkP, hkname⟩ := className_of_methodNamed hnamed
  obtain ⟨hmnM, hmdM⟩ := name_of_methodNamed hnamed hmethM
  have hst : methM.isStatic = true := Cond.static_spec hnamed hmethM hstatU
  have hxP : kP.methods[mk.idx]? = some methM := by simpa [Vm.method?, hkP] using hmethM
  have hbootP : kP.loader = none := Vm.bootOf_findClass (findClass_of_methodNamed hnamed) hkP
  refine ⟨some r, A, X, ⟨rfl, rfl⟩, ?_⟩
  exact ov_steps p (row := row) (r := r) [] X.here.top X.here.above X.here.running X.here.runnable X.here.alone (by rw [hg]; exact X.here.code) hkP hxP hbootP (by rw [hkname]; exact hcl) (by rw [hkname, hmnM, hmdM]; exact hrow) hcodeM hlocksM
    (X.room_calling hsize hmethM hcodeM (R' := {}) (by show 0 + 1 ≤ R.frames; omega) (by rw [hlocM]; show _ + (ml + 11) + 0 ≤ R.locals; omega) (by show A.cells + 0 ≤ R.cells; omega) (by show A.slots + 0 ≤ R.slots; omega)) (by rw [hlocM, hpn _ hsigM, hst]; exact hvs) hrun hdg (Steps.refl _)
/-- such a call in a walk -/
theorem va_ov {cc b : ByteArray} {y : MethodName} {ml n : Nat} {ret : Option FieldType} {As : List Value} {r : Value} {row : NativeRow} {st0 : List Value} (hexec : p.tables.exec = Jvm.exec) (hb : c.code = cc) (hml : c.maxLocals = ls.size) {own : String} {index : Nat} (hown : s.vm.findClass own = some m.cls) (hlink : (Cond.methodLink own index y).before args s = true) (hstat : (Cond.static y).before args s = true) (hini : (Cond.initialized y.cls).before args s = true) (hcode : (Cond.code y b ml ret).before args s = true)
    (hd : y.cls ≠ "java/lang/invoke/MethodHandle" ∧ y.cls ≠ "java/lang/invoke/VarHandle") (hcl : overriddenIn.contains y.cls = true) (hrow : NativeRow.find? p.tables.natives y.cls y.name y.desc = some row) (hpn : (parseMethodDescriptor y.desc).map (fun d => d.parameters.length) = some n) (hn : As.length = n) (hvs : ((argsToLocals As.toArray ml).toList.filterMap fun | .val v => some v | _ => none).toArray.extract 0 n = As.toArray) (hrun : ∀ S : State, ∃ acts, (row.sem As.toArray).run e S = .ok (some r) S acts)
    (hframes : 1 ≤ R.frames) (hlocals : (rest.map fun v => v.category).sum + (ml + 11) ≤ R.locals) (hc : cells ≤ R.cells) (hs : slots ≤ R.slots) (hst : st0 = As.reverse ++ rest) (hdg : decode cc pc = .ok (.invokestatic index, 3))
    (kk : W p l e R s m args below meth c H locs cells slots Q (F0 m (pc + 3) ls (r :: rest))) : W p l e R s m args below meth c H locs cells slots Q (F0 m pc ls st0) := by
  intro T hT X
  have hpn2 : ∀ sig, parseMethodDescriptor y.desc = some sig → sig.parameters.length = n := fun sig h => by rw [h] at hpn; exact Option.some.inj hpn
  obtain ⟨mk, hnamed⟩ := Cond.code_named hcode
  obtain ⟨methM, cM, hmethM, -, -, -, -, -, -, hsigM⟩ := Cond.code_spec hnamed hcode
  obtain ⟨r2, vm2, ⟨T2, L2, c2, n2⟩, hW2, X2, ⟨hr2, hB2⟩, come4⟩ := X.staticBack hexec (own := own) (index := index) (y := y) hown hlink hstat hini hnamed hmethM hsigM hd
    (ov_pays (Wd := (rest.map fun v => v.category).sum) hcode hstat hcl hrow hpn2 hvs hrun hframes hlocals) (g := F0 m pc ls st0) rfl hml.symm (Steps.refl _) (argsL := As) (rest := rest)
    (fun sig hs => by rw [hpn2 _ hs]; exact hn) hst (by show 2 * 0 + _ ≤ _; omega) (by rw [hb]; exact hdg)
    (fun vmx hWx => ⟨hc, hs, rfl⟩)
  simp only [Prod.mk.injEq] at hB2
  obtain ⟨rfl, rfl, rfl, rfl⟩ := hB2
  subst hr2
  obtain ⟨t, a1, b1⟩ := kk (T.setVm vm2) hT X2
  exact ⟨t, come4.trans a1, b1⟩
end TX7_
def ovA : NativeRow := (NativeRow.find? Native.java_lang_Math.nans.rows "java/lang/Math" "abs" "(D)D").get (by decide +kernel)
def ovM : NativeRow := (NativeRow.find? Native.java_lang_Math.nans.rows "java/lang/Math" "max" "(DD)D").get (by decide +kernel)
set_option maxRecDepth 100000 in
theorem ovA_row (p : Program) : NativeRow.find? p.tables.natives "java/lang/Math" "abs" "(D)D" = some ovA := by cases p <;> rfl
set_option maxRecDepth 100000 in
theorem ovM_row (p : Program) : NativeRow.find? p.tables.natives "java/lang/Math" "max" "(DD)D" = some ovM := by cases p <;> rfl
theorem ov_run {e : Env} {S : State} {x : Sem (Option Value)} {v : Option Value} (h : wpRun x (fun w s2 _ => w = v ∧ s2 = S) (fun _ _ _ => False) e S) : ∃ acts, x.run e S = .ok v S acts := by
  have h2 := (wpRun_iff_run _ _ _ _ _).mp h
  cases hr : x.run e S with
  | ok w s2 acts => rw [hr] at h2; obtain ⟨rfl, rfl⟩ := h2; exact ⟨_, rfl⟩
  | ctl q s2 acts => rw [hr] at h2; cases q <;> exact h2.elim
theorem ovA_run {a : UInt64} (ha : vf_n64 a) (e : Env) (S : State) : ∃ acts, (ovA.sem #[.double a]).run e S = .ok (some (.double (a &&& 0x7fffffffffffffff))) S acts := by
  have hn : (a &&& 0x7fffffffffffffff) &&& 0x7fffffffffffffff ≤ 0x7ff0000000000000 := by rw [UInt64.and_assoc, UInt64.and_self]; exact ha
  have hsem : ovA.sem #[.double a] = (do
      let r ← anyNaN64 (a &&& 0x7fffffffffffffff)
      mark "nat.java_lang_Math.abs"
      Pure.pure (some (.double r))) := rfl
  refine ov_run ?_
  rw [hsem]
  simp [jvm, wpRun, anyNaN64, hn]
theorem ovM_run {a b : UInt64} (ha : FP.dIsNaN a = false) (hb : FP.dIsNaN b = false) (e : Env) (S : State) : ∃ acts, (ovM.sem #[.double a, .double b]).run e S = .ok (some (.double (Native.java_lang_Math.nans.pick64 true a b))) S acts := by
  have hsem : ovM.sem #[.double a, .double b] = (do
      let r ← if FP.dIsNaN a then anyNaN64 a else if FP.dIsNaN b then anyNaN64 b else Pure.pure (Native.java_lang_Math.nans.pick64 true a b)
      mark "nat.java_lang_Math.max"
      Pure.pure (some (.double r))) := rfl
  refine ov_run ?_
  rw [hsem]
  simp [jvm, wpRun, ha, hb]
