/-! static methods over the panel's world -/
section TX6_
variable {p : Program} {l : Launch} {e : Env} {R : Room} {s : State} {m : MethodId} {args : Array Value} {below : List Frame} {meth : Method} {c : Code} {H : Heap} {locs : List Loc} {cells slots : Nat} {Q : State → Prop}
variable {cc : ByteArray} {pc nL : Nat} {ls : Array Slot} {rest st0 : List Value} {D : va_G} {dA : Nat → ClassId} {A : Nat → Prop} {C C' : tp_C} {d d' : md_T} {j j' : xj_T} {own : String}
theorem xx_startF {y : MethodName} {n h : Nat} {ret : Option FieldType} {As : List Value} {o : Option Value} (hy : plainFor y = true) (hc : y.cls = own) (hle : (lg_sl As).length ≤ n)
    (body : ∀ (p : Program) (e : Env) (s : State) (m : MethodId) (below : List Frame) (meth : Method) (c : Code) (ls : Array Slot), CallFix p m c cc n s As.toArray lw_all own → meth.sig.returnType = ret → meth.locks = false → xG D dA (xA dA C d j) C d j s s.heap [] → lv_has ls n (lv_args 0 As) → W p l e (rm_ h) s m As.toArray below meth c s.heap [] 0 0 (MQ below (fun _ st oc t => oc = .returned o ∧ xI D dA (xA dA C d j) C' d' j' t ∧ va_F (xA dA C d j) st t) As.toArray s 0 0 (xA dA C d j)) (F0 m 0 ls [])) : xC l D dA y cc n ret h As C d j o C' d' j' := by
  refine va_MetF (cc := cc) (maxL := n) (ret := ret) hy rfl ?_
  intro p e s m args below meth c s₁ B hml hv
  obtain ⟨rfl, ⟨hP, hK, hD⟩, hT⟩ := hv
  have hts := atoms_spec (ws := ws_ y cc n ret) B.pre
  have hts : ∀ w ∈ lw_all, w.before _ s = true := fun w h => hts w (List.mem_cons_of_mem _ h)
  have hown : s.vm.findClass own = some m.cls := by rw [← hc]; exact findClass_of_methodNamed B.named
  have hl := lv_entry As (n := n) hle
  rw [lg_entry_eq]
  exact body p e s m below meth c _ ⟨B.exec, B.bytes, hml, hown, hts⟩ B.returns B.notSynchronized ⟨hP, hK, hD, va_S.rf, hT⟩ hl
theorem xx_callS {y : MethodName} {b : ByteArray} {L n index h : Nat} {r : Option FieldType} {As : List Value} {o : Option Value} (S : CallFix p m c cc nL s args lw_all own) (G : xG D dA A C d j s H locs) (hM : xC l D dA y b L r h As C d j o C' d' j') (q1 : Cond.methodLink own index y ∈ lw_all) (q2 : Cond.static y ∈ lw_all) (q3 : Cond.initialized y.cls ∈ lw_all) (q4 : Cond.code y b L r ∈ lw_all)
    (hd : y.cls ≠ "java/lang/invoke/MethodHandle" ∧ y.cls ≠ "java/lang/invoke/VarHandle" ∧ (parseMethodDescriptor y.desc).map (fun d => d.parameters.length) = some n) (hR : h + 1 ≤ R.frames ∧ 8 + (L + 11) + 48 * h ≤ R.locals) (hn : As.length = n) (hsz : ls.size = nL) (hst : st0 = As.reverse ++ rest) (hW : (rest.map fun v => v.category).sum ≤ 8) (hdg : decode cc pc = .ok (.invokestatic index, 3)) (hf : cells ≤ R.cells ∧ slots ≤ R.slots)
    (kk : ∀ (H1 : Heap) (locs1 : List Loc), xG D dA A C' d' j' s H1 locs1 → W p l e R s m args below meth c H1 locs1 cells slots Q (F0 m (pc + 3) ls (o.toList ++ rest))) : W p l e R s m args below meth c H locs cells slots Q (F0 m pc ls st0) := by
  have hr := va_runS (As := As) (rest := rest) (g := F0 m pc ls st0) (locs := locs) (cells := cells) (slots := slots) (H := H) (below := below) (meth := meth) (e := e) S hM (va_cwS (R := R) n S.2.2.2.2 (lw_S q1 q2 q3 q4) rfl rfl rfl hd hR) ⟨xI_blind, xx_pre G⟩ rfl hn hsz hst (lv_room hW) hdg hf
  exact xx_after (mc := 0) (ms := 0) (As := As) G hr kk
theorem xx_gets (S : CallFix p m c cc nL s args lw_all own) (G : xG D dA A C d j s H locs) {index : Nat} (hq : Cond.fieldLink own index "java/lang/Math" "negativeZeroDoubleBits" "J" ∈ lw_all) (hdg : decode cc pc = .ok (.getstatic index, 3))
    (kk : W p l e R s m args below meth c H locs cells slots Q (F0 m (pc + 3) ls (.long (-9223372036854775808) :: rest))) : W p l e R s m args below meth c H locs cells slots Q (F0 m pc ls rest) := by
  obtain ⟨hP, hK, hD, hS, hT⟩ := G
  exact va_gets S.1 S.2.1 hT.2.2.2.2 hS S.2.2.2.1 (S.2.2.2.2 _ hq) (fun x h => h) hdg kk
end TX6_
