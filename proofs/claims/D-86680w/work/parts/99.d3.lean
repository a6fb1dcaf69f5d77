set_option maxRecDepth 100000
set_option maxHeartbeats 4000000
theorem dJ2_rint_0 : decode cJ2_rint 0 = .ok (.ldc2_w 93, 3) := by decide +kernel
theorem dJ2_rint_3 : decode cJ2_rint 3 = .ok (.dstore_n 2, 1) := by decide +kernel
theorem dJ2_rint_4 : decode cJ2_rint 4 = .ok (.dconst 1, 1) := by decide +kernel
theorem dJ2_rint_5 : decode cJ2_rint 5 = .ok (.dload_n 0, 1) := by decide +kernel
theorem dJ2_rint_6 : decode cJ2_rint 6 = .ok (.invokestatic 95, 3) := by decide +kernel
theorem dJ2_rint_9 : decode cJ2_rint 9 = .ok (.dstore 4, 2) := by decide +kernel
theorem dJ2_rint_11 : decode cJ2_rint 11 = .ok (.dload_n 0, 1) := by decide +kernel
theorem dJ2_rint_12 : decode cJ2_rint 12 = .ok (.invokestatic 98, 3) := by decide +kernel
theorem dJ2_rint_15 : decode cJ2_rint 15 = .ok (.dstore_n 0, 1) := by decide +kernel
theorem dJ2_rint_16 : decode cJ2_rint 16 = .ok (.dload_n 0, 1) := by decide +kernel
theorem dJ2_rint_17 : decode cJ2_rint 17 = .ok (.dload_n 2, 1) := by decide +kernel
theorem dJ2_rint_18 : decode cJ2_rint 18 = .ok (.dcmp .g, 1) := by decide +kernel
theorem dJ2_rint_19 : decode cJ2_rint 19 = .ok (.ifCond .ge 9, 3) := by decide +kernel
theorem dJ2_rint_22 : decode cJ2_rint 22 = .ok (.dload_n 2, 1) := by decide +kernel
theorem dJ2_rint_23 : decode cJ2_rint 23 = .ok (.dload_n 0, 1) := by decide +kernel
theorem dJ2_rint_24 : decode cJ2_rint 24 = .ok (.dadd, 1) := by decide +kernel
theorem dJ2_rint_25 : decode cJ2_rint 25 = .ok (.dload_n 2, 1) := by decide +kernel
theorem dJ2_rint_26 : decode cJ2_rint 26 = .ok (.dsub, 1) := by decide +kernel
theorem dJ2_rint_27 : decode cJ2_rint 27 = .ok (.dstore_n 0, 1) := by decide +kernel
theorem dJ2_rint_28 : decode cJ2_rint 28 = .ok (.dload 4, 2) := by decide +kernel
theorem dJ2_rint_30 : decode cJ2_rint 30 = .ok (.dload_n 0, 1) := by decide +kernel
theorem dJ2_rint_31 : decode cJ2_rint 31 = .ok (.dmul, 1) := by decide +kernel
theorem dJ2_rint_32 : decode cJ2_rint 32 = .ok (.dreturn, 1) := by decide +kernel
theorem dX0_isSetting_0 : decode cX0_isSetting 0 = .ok (.iload_n 0, 1) := by decide +kernel
theorem dX0_isSetting_1 : decode cX0_isSetting 1 = .ok (.tableswitch 113 10 13 #[31, 40, 72, 81], 31) := by decide +kernel
theorem dX0_isSetting_32 : decode cX0_isSetting 32 = .ok (.lload_n 1, 1) := by decide +kernel
theorem dX0_isSetting_33 : decode cX0_isSetting 33 = .ok (.ldc2_w 112, 3) := by decide +kernel
theorem dX0_isSetting_36 : decode cX0_isSetting 36 = .ok (.dconst 1, 1) := by decide +kernel
theorem dX0_isSetting_37 : decode cX0_isSetting 37 = .ok (.invokestatic 114, 3) := by decide +kernel
theorem dX0_isSetting_40 : decode cX0_isSetting 40 = .ok (.ireturn, 1) := by decide +kernel
theorem dX0_isSetting_41 : decode cX0_isSetting 41 = .ok (.lload_n 1, 1) := by decide +kernel
theorem dX0_isSetting_42 : decode cX0_isSetting 42 = .ok (.dconst 1, 1) := by decide +kernel
theorem dX0_isSetting_43 : decode cX0_isSetting 43 = .ok (.ldc2_w 118, 3) := by decide +kernel
theorem dX0_isSetting_46 : decode cX0_isSetting 46 = .ok (.invokestatic 114, 3) := by decide +kernel
theorem dX0_isSetting_49 : decode cX0_isSetting 49 = .ok (.ifCond .eq 22, 3) := by decide +kernel
theorem dX0_isSetting_52 : decode cX0_isSetting 52 = .ok (.lload_n 1, 1) := by decide +kernel
theorem dX0_isSetting_53 : decode cX0_isSetting 53 = .ok (.invokestatic 106, 3) := by decide +kernel
theorem dX0_isSetting_56 : decode cX0_isSetting 56 = .ok (.invokestatic 120, 3) := by decide +kernel
theorem dX0_isSetting_59 : decode cX0_isSetting 59 = .ok (.lload_n 1, 1) := by decide +kernel
theorem dX0_isSetting_60 : decode cX0_isSetting 60 = .ok (.invokestatic 106, 3) := by decide +kernel
theorem dX0_isSetting_63 : decode cX0_isSetting 63 = .ok (.dcmp .l, 1) := by decide +kernel
theorem dX0_isSetting_64 : decode cX0_isSetting 64 = .ok (.ifCond .ne 7, 3) := by decide +kernel
theorem dX0_isSetting_67 : decode cX0_isSetting 67 = .ok (.iconst 1, 1) := by decide +kernel
theorem dX0_isSetting_68 : decode cX0_isSetting 68 = .ok (.goto 4, 3) := by decide +kernel
theorem dX0_isSetting_71 : decode cX0_isSetting 71 = .ok (.iconst 0, 1) := by decide +kernel
theorem dX0_isSetting_72 : decode cX0_isSetting 72 = .ok (.ireturn, 1) := by decide +kernel
theorem dX0_isSetting_73 : decode cX0_isSetting 73 = .ok (.lload_n 1, 1) := by decide +kernel
theorem dX0_isSetting_74 : decode cX0_isSetting 74 = .ok (.dconst 0, 1) := by decide +kernel
theorem dX0_isSetting_75 : decode cX0_isSetting 75 = .ok (.ldc2_w 126, 3) := by decide +kernel
theorem dX0_isSetting_78 : decode cX0_isSetting 78 = .ok (.invokestatic 114, 3) := by decide +kernel
theorem dX0_isSetting_81 : decode cX0_isSetting 81 = .ok (.ireturn, 1) := by decide +kernel
theorem dX0_isSetting_82 : decode cX0_isSetting 82 = .ok (.lload_n 1, 1) := by decide +kernel
theorem dX0_isSetting_83 : decode cX0_isSetting 83 = .ok (.dconst 0, 1) := by decide +kernel
theorem dX0_isSetting_84 : decode cX0_isSetting 84 = .ok (.ldc2_w 128, 3) := by decide +kernel
theorem dX0_isSetting_87 : decode cX0_isSetting 87 = .ok (.invokestatic 114, 3) := by decide +kernel
theorem dX0_isSetting_90 : decode cX0_isSetting 90 = .ok (.ifCond .eq 22, 3) := by decide +kernel
theorem dX0_isSetting_93 : decode cX0_isSetting 93 = .ok (.lload_n 1, 1) := by decide +kernel
theorem dX0_isSetting_94 : decode cX0_isSetting 94 = .ok (.invokestatic 106, 3) := by decide +kernel
theorem dX0_isSetting_97 : decode cX0_isSetting 97 = .ok (.invokestatic 120, 3) := by decide +kernel
theorem dX0_isSetting_100 : decode cX0_isSetting 100 = .ok (.lload_n 1, 1) := by decide +kernel
theorem dX0_isSetting_101 : decode cX0_isSetting 101 = .ok (.invokestatic 106, 3) := by decide +kernel
theorem dX0_isSetting_104 : decode cX0_isSetting 104 = .ok (.dcmp .l, 1) := by decide +kernel
theorem dX0_isSetting_105 : decode cX0_isSetting 105 = .ok (.ifCond .ne 7, 3) := by decide +kernel
theorem dX0_isSetting_108 : decode cX0_isSetting 108 = .ok (.iconst 1, 1) := by decide +kernel
theorem dX0_isSetting_109 : decode cX0_isSetting 109 = .ok (.goto 4, 3) := by decide +kernel
theorem dX0_isSetting_112 : decode cX0_isSetting 112 = .ok (.iconst 0, 1) := by decide +kernel
theorem dX0_isSetting_113 : decode cX0_isSetting 113 = .ok (.ireturn, 1) := by decide +kernel
theorem dX0_isSetting_114 : decode cX0_isSetting 114 = .ok (.lload_n 1, 1) := by decide +kernel
theorem dX0_isSetting_115 : decode cX0_isSetting 115 = .ok (.dconst 0, 1) := by decide +kernel
theorem dX0_isSetting_116 : decode cX0_isSetting 116 = .ok (.dconst 0, 1) := by decide +kernel
theorem dX0_isSetting_117 : decode cX0_isSetting 117 = .ok (.invokestatic 114, 3) := by decide +kernel
theorem dX0_isSetting_120 : decode cX0_isSetting 120 = .ok (.ireturn, 1) := by decide +kernel
/-! contracts with any room -/
section TR_
variable {p : Program} {l : Launch} {e : Env} {R : Room} {s : State} {m : MethodId} {args : Array Value} {below : List Frame} {meth : Method} {c : Code} {H : Heap} {locs : List Loc} {cells slots : Nat} {Q : State → Prop}
variable {cc : ByteArray} {pc nL : Nat} {ls : Array Slot} {rest st0 : List Value} {D : va_G} {dA : Nat → ClassId} {A : Nat → Prop} {C C' : tp_C} {d d' : md_T} {j j' : xj_T} {own : String} {P : Option Value → tp_C → md_T → xj_T → Prop}
/-- a method that reads and writes nothing -/
def sR (l : Launch) (y : MethodName) (b : ByteArray) (L : Nat) (r : Option FieldType) (R0 : Room) (As : List Value) (o : Option Value) : Prop :=
  Met l y (ws_ y b L r) R0 (fun v _ => v = As.toArray) (fun _ st oc t => oc = .returned o ∧ t.heap = st.heap) 0 0 (fun _ => False)
theorem ss_startR {y : MethodName} {n : Nat} {R0 : Room} {ret : Option FieldType} {As : List Value} {o : Option Value} (hy : plainName y.cls = true) (hc : y.cls = own) (hle : (lg_sl As).length ≤ n)
    (body : ∀ (p : Program) (e : Env) (s : State) (m : MethodId) (below : List Frame) (meth : Method) (c : Code) (ls : Array Slot), CallFix p m c cc n s As.toArray lw_all own → meth.sig.returnType = ret → meth.locks = false → lv_has ls n (lv_args 0 As) → W p l e R0 s m As.toArray below meth c s.heap [] 0 0 (MQ below (sQ o) As.toArray s 0 0 (fun _ => False)) (F0 m 0 ls [])) : sR l y cc n ret R0 As o := by
  refine Met.ofW (cc := cc) (maxL := n) (ret := ret) hy rfl ?_
  intro p e s m args below meth c s₁ B hml hv
  have hv : args = As.toArray := hv
  subst hv
  have hts := atoms_spec (ws := ws_ y cc n ret) B.pre
  have hts : ∀ w ∈ lw_all, w.before _ s = true := fun w h => hts w (List.mem_cons_of_mem _ h)
  have hown : s.vm.findClass own = some m.cls := by rw [← hc]; exact findClass_of_methodNamed B.named
  have hl := lv_entry As (n := n) hle
  rw [lg_entry_eq]
  exact body p e s m below meth c _ ⟨B.exec, B.bytes, hml, hown, hts⟩ B.returns B.notSynchronized hl
theorem sR_call {y : MethodName} {b : ByteArray} {L nL n index : Nat} {R0 : Room} {r : Option FieldType} {own : String} {As : List Value} {o : Option Value} (S : CallFix p m c cc nL s args lw_all own) (hM : sR l y b L r R0 As o) (q1 : Cond.methodLink own index y ∈ lw_all) (q2 : Cond.static y ∈ lw_all) (q3 : Cond.initialized y.cls ∈ lw_all) (q4 : Cond.code y b L r ∈ lw_all)
    (hd : y.cls ≠ "java/lang/invoke/MethodHandle" ∧ y.cls ≠ "java/lang/invoke/VarHandle" ∧ (parseMethodDescriptor y.desc).map (fun d => d.parameters.length) = some n) (hR : R0.frames + 1 ≤ R.frames ∧ 8 + (L + 11) + R0.locals ≤ R.locals) (hn : As.length = n) (hsz : ls.size = nL) (hst : st0 = As.reverse ++ rest) (hW : (rest.map fun v => v.category).sum ≤ 8) (hdg : decode cc pc = .ok (.invokestatic index, 3)) (hf : cells ≤ R.cells ∧ slots ≤ R.slots)
    (kk : W p l e R s m args below meth c H locs cells slots Q (F0 m (pc + 3) ls (o.toList ++ rest))) (h0 : R0.cells = 0 := by rfl) (h1 : R0.slots = 0 := by rfl) : W p l e R s m args below meth c H locs cells slots Q (F0 m pc ls st0) := by
  have hr := va_runS (As := As) (rest := rest) (g := F0 m pc ls st0) (locs := locs) (cells := cells) (slots := slots) (H := H) (below := below) (meth := meth) (e := e) S hM (va_cwS (R := R) n S.2.2.2.2 (lw_S q1 q2 q3 q4) rfl h0 h1 hd hR) ⟨fun _ _ _ _ q => q, fun _ _ _ => rfl⟩ rfl hn hsz hst (lv_room hW) hdg hf
  intro T hT X
  obtain ⟨v, st₀, t, T', L', h0, X', hL, e1, e2, ⟨hv, hh⟩, st⟩ := hr T hT X
  cases hv
  obtain ⟨t2, a1, b1⟩ := kk T' (by rw [e1, hh, h0]) (Stand.forget X' (fun q h => (hL q h).elim))
  exact ⟨t2, st t2 a1, b1⟩
/-- a method of the panel -/
def xR (l : Launch) (D : va_G) (dA : Nat → ClassId) (y : MethodName) (b : ByteArray) (L : Nat) (r : Option FieldType) (R0 : Room) (As : List Value) (C : tp_C) (d : md_T) (j : xj_T) (P : Option Value → tp_C → md_T → xj_T → Prop) : Prop :=
  ∀ sz : Nat, Met l y (ws_ y b L r) R0 (va_Pc As (fun U => U.heap.size = sz ∧ xI D dA (xA dA C d j) C d j U ∧ xT (xA dA C d j) U)) (xQN D dA C d j sz P) R0.cells R0.slots (xB (xA dA C d j) sz)
theorem xx_startR {y : MethodName} {n : Nat} {R0 : Room} {ret : Option FieldType} {As : List Value} (hy : plainName y.cls = true) (hc : y.cls = own) (hle : (lg_sl As).length ≤ n)
    (body : ∀ (p : Program) (e : Env) (s : State) (m : MethodId) (below : List Frame) (meth : Method) (c : Code) (ls : Array Slot), CallFix p m c cc n s As.toArray lw_all own → meth.sig.returnType = ret → meth.locks = false → xG D dA (xB (xA dA C d j) s.heap.size) C d j s s.heap [] → lv_has ls n (lv_args 0 As) → W p l e R0 s m As.toArray below meth c s.heap [] 0 0 (MQ below (xQN D dA C d j s.heap.size P) As.toArray s R0.cells R0.slots (xB (xA dA C d j) s.heap.size)) (F0 m 0 ls [])) : xR l D dA y cc n ret R0 As C d j P := by
  intro sz
  refine Met.ofW (cc := cc) (maxL := n) (ret := ret) hy rfl ?_
  intro p e s m args below meth c s₁ B hml hv
  obtain ⟨rfl, rfl, ⟨hP, hK, hD⟩, hT⟩ := hv
  have hts := atoms_spec (ws := ws_ y cc n ret) B.pre
  have hts : ∀ w ∈ lw_all, w.before _ s = true := fun w h => hts w (List.mem_cons_of_mem _ h)
  have hown : s.vm.findClass own = some m.cls := by rw [← hc]; exact findClass_of_methodNamed B.named
  have hl := lv_entry As (n := n) hle
  rw [lg_entry_eq]
  exact body p e s m below meth c _ ⟨B.exec, B.bytes, hml, hown, hts⟩ B.returns B.notSynchronized ⟨hP, hK, hD.weaken (fun _ _ _ h => Or.inl h), va_S.rf, xT_grow hT⟩ hl
theorem xx_callPR {y : MethodName} {b : ByteArray} {L n index : Nat} {R0 : Room} {r : Option FieldType} {As : List Value} (S : CallFix p m c cc nL s args lw_all own) (G : xG D dA A C d j s H locs) (hA : ∀ q, s.heap.size ≤ q → A q) (hM : xR l D dA y b L r R0 (.ref (jA j 0) :: As) C d j P) (q1 : Cond.methodLink own index y ∈ lw_all) (q2 : Cond.instanceMethod y ∈ lw_all) (q3 : Cond.selects RX0 y y ∈ lw_all) (q4 : Cond.code y b L r ∈ lw_all)
    (hd : y.cls = RX0 ∧ y.cls ≠ "java/lang/invoke/MethodHandle" ∧ y.cls ≠ "java/lang/invoke/VarHandle" ∧ (parseMethodDescriptor y.desc).map (fun d => d.parameters.length) = some n) (hR : R0.frames + 1 ≤ R.frames ∧ 8 + (L + 11) + R0.locals ≤ R.locals) (hn : As.length = n) (hsz : ls.size = nL) (hst : st0 = As.reverse ++ .ref (jA j 0) :: rest) (hW : (rest.map fun v => v.category).sum ≤ 8) (hdg : decode cc pc = .ok (.invokevirtual index, 3)) (hf : cells + R0.cells ≤ R.cells ∧ slots + R0.slots ≤ R.slots)
    (kk : ∀ (o : Option Value) (C' : tp_C) (d' : md_T) (j' : xj_T) (H1 : Heap) (locs1 : List Loc), P o C' d' j' → xG D dA A C' d' j' s H1 locs1 → H.size ≤ H1.size → (∀ q, q < H.size → ¬ xA dA C d j q → H1[q]? = H[q]?) → (∀ q, xA dA C' d' j' q → xA dA C d j q ∨ H.size ≤ q) → W p l e R s m args below meth c H1 locs1 (cells + R0.cells) (slots + R0.slots) Q (F0 m (pc + 3) ls (o.toList ++ rest))) : W p l e R s m args below meth c H locs cells slots Q (F0 m pc ls st0) := by
  obtain ⟨hP, hK, hD, hS, hT⟩ := id G
  obtain ⟨q0, h2, -⟩ := wr_pos (N := 130) (r := 0) (by decide) (xW_p (dA := dA) (C := C) (d := d) (j := j) (r := 0) (by decide) rfl)
  have hr := va_runV (As := As) (rest := rest) (g := F0 m pc ls st0) (locs := locs) (cells := cells) (slots := slots) (H := H) (below := below) (meth := meth) (e := e) S (hM H.size) (cwV (R := R) (C := RX0) n S.2.2.2.2 (lw_V q1 q2 q3 q52 q4) rfl rfl rfl hd hR) ⟨xI_blindN, va_recv hK hP (ci := 0) (q0 := q0) rfl h2, xx_preN G⟩ rfl hn hsz hst (lv_room hW) hdg hf
  exact xx_afterN G hA hr kk
/-- Math.rint in a walk -/
theorem va_rint {n index : Nat} {b r : UInt64} (S : CallFix p m c cc nL s args lw_all own) (hM : sC l yJ2_rint cJ2_rint 6 (some .double) n [.double b] (some (.double r))) (hn : vf_n64 r) (q0 : Cond.methodLink own index yJ1_rint ∈ lw_all) (q1 : Cond.code yJ1_rint cJ1_rint 2 (some .double) ∈ lw_all) (q2 : Cond.code yJ2_rint cJ2_rint 6 (some .double) ∈ lw_all) (q3 : Cond.initialized "java/lang/StrictMath" ∈ lw_all) (q4 : Cond.static yJ1_rint ∈ lw_all) (q5 : Cond.initialized "java/lang/Math" ∈ lw_all)
    (hsz : ls.size = nL) (hfr : n + 2 ≤ R.frames) (hlo : (rest.map fun v => v.category).sum + (6 + 11) + (48 * n + 1024) ≤ R.locals) (hc : cells ≤ R.cells) (hs : slots ≤ R.slots) (hdg : decode cc pc = .ok (.invokestatic index, 3))
    (kk : W p l e R s m args below meth c H locs cells slots Q (F0 m (pc + 3) ls (.double r :: rest))) : W p l e R s m args below meth c H locs cells slots Q (F0 m pc ls (.double b :: rest)) := by
  obtain ⟨hx, hb, hml, hown, hts⟩ := S
  intro T hT X
  obtain ⟨mk, hnamed⟩ := Cond.code_named (hts _ q1)
  obtain ⟨methM, cM, hmethM, -, -, -, -, -, -, hsigM⟩ := Cond.code_spec hnamed (hts _ q1)
  have hsig2 : parseMethodDescriptor "(D)D" = some { parameters := [.double], returnType := some .double } := by decide +kernel
  obtain ⟨r2, vm2, ⟨T2, L2, c2, n2⟩, hW2, X2, ⟨hr2, hB1, hB2, hB3, hB4⟩, come4⟩ := X.staticBack hx (own := own) (index := index) (y := yJ1_rint) hown (hts _ q0) (hts _ q4) (hts _ q5) hnamed hmethM hsigM (by decide)
    (ri_pays (Wd := (rest.map fun v => v.category).sum) hts q1 q2 q3 hM hn hfr hlo) (g := F0 m pc ls (.double b :: rest)) rfl (hsz.trans hml.symm) (Steps.refl _) (argsL := [.double b]) (rest := rest)
    (fun sig hs => by have hs : parseMethodDescriptor "(D)D" = some sig := hs; rw [hsig2] at hs; cases hs; rfl) rfl (by show 2 * 0 + _ ≤ _; omega) (by rw [hb]; exact hdg) (fun vmx hWx => ⟨hc, hs, rfl⟩)
  dsimp only [Pt.U, Pt.locs, Pt.cells, Pt.slots] at hB1 hB2 hB3 hB4 X2
  subst hr2; subst hB2; subst hB3; subst hB4
  obtain ⟨t, a1, b1⟩ := kk T2 (hB1.trans hT) X2
  exact ⟨t, come4.trans a1, b1⟩
end TR_
def ovC : NativeRow := (NativeRow.find? Native.java_lang_Math.nans.rows "java/lang/Math" "copySign" "(DD)D").get (by decide +kernel)
set_option maxRecDepth 100000 in
theorem ovC_row (p : Program) : NativeRow.find? p.tables.natives "java/lang/Math" "copySign" "(DD)D" = some ovC := by cases p <;> rfl
theorem ovC_run {b : UInt64} (hb : FP.dIsNaN b = false) (e : Env) (S : State) : ∃ acts, (ovC.sem #[.double FP.dconst1, .double b]).run e S = .ok (some (.double (csD b))) S acts := by
  have hsem : ovC.sem #[.double FP.dconst1, .double b] = (do
      let negative ← Native.java_lang_Math.nans.signOf (FP.dIsNaN b) (b >>> 63 == 1)
      mark "nat.java_lang_Math.copySign"
      Pure.pure (some (.double ((FP.dconst1 &&& 0x7fffffffffffffff) ||| (if negative then 0x8000000000000000 else 0))))) := rfl
  refine ov_run ?_
  rw [hsem]
  unfold csD
  simp [jvm, wpRun, Native.java_lang_Math.nans.signOf, hb]
theorem ri_ok {x : UInt64} (hx : fD x) (h0 : 0 ≤ zD x) (h1 : zD x ≤ ((1000000 * 2 ^ 1074 : Nat) : Int)) : FP.dIsNaN x = false ∧ vf_n64 x ∧ vf_n64 (FP.dadd k52 (abD x)) ∧ vf_n64 (FP.dsub (FP.dadd k52 (abD x)) k52) ∧ vf_n64 (FP.dmul (csD x) (abD x)) ∧ vf_n64 (FP.dmul (csD x) (FP.dsub (FP.dadd k52 (abD x)) k52)) := by
  have hn : vf_n64 x := by obtain ⟨s, c, q, h⟩ := hx; rw [nD_val, h]; simp
  obtain ⟨a1, a2, a3⟩ := abD_z hx
  rw [if_neg (by omega)] at a2
  have hp : 1000000 * 2 ^ 1074 < 2 ^ 1127 := by
    refine Nat.lt_of_lt_of_le (Nat.mul_lt_mul_of_pos_right (show 1000000 < 2 ^ 20 by decide) (Nat.two_pow_pos _)) ?_
    rw [← Nat.pow_add]; exact Nat.pow_le_pow_right (by decide) (by omega)
  have b : bD 1127 (abD x) := by
    rw [bD_z a1, a2]
    generalize 1000000 * 2 ^ 1074 = V at h1 hp
    generalize 2 ^ 1127 = W_ at hp ⊢
    omega
  have b1 : bD 1129 (FP.dadd k52 (abD x)) := bD_add bD_k52 b
  have b2 : bD 1131 (FP.dsub (FP.dadd k52 (abD x)) k52) := bD_sub b1 (bD_up bD_k52)
  exact ⟨dnan_f hn, hn, bD_n b1, bD_n b2, bD_n (bD_mul (cs_b x) b), bD_n (bD_mul (cs_b x) b2)⟩
theorem ovC_d : yJ1_copySign.cls ≠ "java/lang/invoke/MethodHandle" ∧ yJ1_copySign.cls ≠ "java/lang/invoke/VarHandle" := by decide
theorem ovC_p : (parseMethodDescriptor yJ1_copySign.desc).map (fun d => d.parameters.length) = some 2 := by decide +kernel
theorem is_0 {k : Nat} {b : Int64} (h1 : ¬ k = 10) (h2 : ¬ k = 11) (h3 : ¬ k = 12) (h4 : ¬ k = 13) : (nbB b && wiB b.toUInt64 FP.dconst0 FP.dconst0) = (nbB b && stB k b.toUInt64) := by
  unfold stB
  rw [if_neg h1, if_neg h2, if_neg h3, if_neg h4]
  cases hn : nbB b
  · rfl
  · show wiB _ _ _ = fx_eq _ _
    unfold wiB fx_ge fx_le fx_eq
    cases FP.dcmp b.toUInt64 FP.dconst0 with
    | none => rfl
    | some o => cases o <;> rfl
theorem is_w {b : Int64} {lo hi : UInt64} (hl : fD lo) (hh : fD hi) (h0 : 0 ≤ zD lo) (h6 : zD hi ≤ ((1000000 * 2 ^ 1074 : Nat) : Int)) (h : (nbB b && wiB b.toUInt64 lo hi) = true) : fD b.toUInt64 ∧ 0 ≤ zD b.toUInt64 ∧ zD b.toUInt64 ≤ ((1000000 * 2 ^ 1074 : Nat) : Int) := by
  rw [Bool.and_eq_true] at h
  obtain ⟨a1, a2, a3⟩ := wi_fin hl hh h.2
  exact ⟨a1, Int.le_trans h0 a2, Int.le_trans a3 h6⟩
theorem is_f {u v w_ : Bool} (h : (u && v) = false) : (u && (v && w_)) = false := by rw [← Bool.and_assoc, h]; rfl
theorem is_z1 : 0 ≤ zD FP.dconst1 := by rw [zD_1]; exact Int.natCast_nonneg _
theorem is_z0 : 0 ≤ zD FP.dconst0 := by rw [zD_0]; exact Int.le_refl _
theorem is_z16 : zD 4625196817309499392 ≤ ((1000000 * 2 ^ 1074 : Nat) : Int) := by
  rw [zD_16]
  generalize 2 ^ 1074 = V
  omega
theorem is_z6 : zD 4696837146684686336 ≤ ((1000000 * 2 ^ 1074 : Nat) : Int) := by rw [zD_1e6]; exact Int.le_refl _
theorem st_J2_rint (l : Launch) (x : UInt64) (hx_ : fD x) (h0 : 0 ≤ zD x) (h1 : zD x ≤ ((1000000 * 2 ^ 1074 : Nat) : Int)) : sC l yJ2_rint cJ2_rint 6 (some .double) 1 [.double x] (some (.double (riD x))) := by
  refine ss_startF (own := RJ2) (by decide +kernel) rfl (Nat.le_of_ble_eq_true rfl) ?_
  intro p0 e0 s0 mid bl0 me0 co0 ls S hr hlk hl
  have hx := S.1; have hb := S.2.1; have hml := S.2.2.1; have hown := S.2.2.2.1; have hts := S.2.2.2.2
  have hl : lv_has ls 6 [(0, .double x)] := hl
  obtain ⟨n1, n2, n3, n4, n5, n6⟩ := ri_ok hx_ h0 h1
  refine lv_ldc2d hx hb hown (hts _ q174) dJ2_rint_0 ?_
  refine lv_dstore_n (lv' := [(2, .double 4841369599423283200), (0, .double x)]) hx hb dJ2_rint_3 rfl hl (by decide) rfl (fun ls hl => ?_)
  refine lv_dconst1 hx hb dJ2_rint_4 ?_
  refine lv_dload_n hx hb dJ2_rint_5 rfl (lv_at hl 1 rfl) ?_
  refine va_ov (As := [.double FP.dconst1, .double x]) (rest := []) (row := ovC) (r := .double (csD x)) hx hb (hml.trans hl.1.symm) hown (hts _ q175) (hts _ q176) (hts _ q56) (hts _ q177) ovC_d ovA_c (ovC_row _) ovC_p rfl rfl (fun S => ovC_run n1 _ S) (Nat.le_of_ble_eq_true rfl) (Nat.le_of_ble_eq_true rfl) (Nat.zero_le _) (Nat.zero_le _) rfl dJ2_rint_6 ?_
  refine lv_dstore (lv' := [(4, .double (csD x)), (2, .double 4841369599423283200), (0, .double x)]) hx hb dJ2_rint_9 hl (by decide) rfl (fun ls hl => ?_)
  refine lv_dload_n hx hb dJ2_rint_11 rfl (lv_at hl 2 rfl) ?_
  refine va_ov (As := [.double x]) (rest := []) (row := ovA) (r := .double (abD x)) hx hb (hml.trans hl.1.symm) hown (hts _ q184) (hts _ q185) (hts _ q56) (hts _ q186) ovA_d ovA_c (ovA_row _) ovA_p rfl rfl (fun S => ovA_run2 n2 _ S) (Nat.le_of_ble_eq_true rfl) (Nat.le_of_ble_eq_true rfl) (Nat.zero_le _) (Nat.zero_le _) rfl dJ2_rint_12 ?_
  refine lv_dstore_n (lv' := [(0, .double (abD x)), (4, .double (csD x)), (2, .double 4841369599423283200)]) hx hb dJ2_rint_15 rfl hl (by decide) rfl (fun ls hl => ?_)
  refine lv_dload_n hx hb dJ2_rint_16 rfl (lv_at hl 0 rfl) ?_
  refine lv_dload_n hx hb dJ2_rint_17 rfl (lv_at hl 2 rfl) ?_
  refine fx_jgge (tgt := 28) hx hb dJ2_rint_18 dJ2_rint_19 (by decide) (fun c_19 => ?_) (fun c_19 => ?_)
  · refine lv_dload hx hb dJ2_rint_28 (lv_at hl 1 rfl) ?_
    refine lv_dload_n hx hb dJ2_rint_30 rfl (lv_at hl 0 rfl) ?_
    refine lv_dmul hx hb dJ2_rint_31 (by first | exact n6 | exact n5) ?_
    exact ss_dret S hr hlk (by unfold riD rnA; rw [if_neg (by rw [show fx_lt (abD x) k52 = false from c_19]; decide)]) dJ2_rint_32
  · refine lv_dload_n hx hb dJ2_rint_22 rfl (lv_at hl 2 rfl) ?_
    refine lv_dload_n hx hb dJ2_rint_23 rfl (lv_at hl 0 rfl) ?_
    refine lv_dadd hx hb dJ2_rint_24 n3 ?_
    refine lv_dload_n hx hb dJ2_rint_25 rfl (lv_at hl 2 rfl) ?_
    refine lv_dsub hx hb dJ2_rint_26 n4 ?_
    refine lv_dstore_n (lv' := [(0, .double (FP.dsub (FP.dadd 4841369599423283200 (abD x)) 4841369599423283200)), (4, .double (csD x)), (2, .double 4841369599423283200)]) hx hb dJ2_rint_27 rfl hl (by decide) rfl (fun ls hl => ?_)
    refine lv_dload hx hb dJ2_rint_28 (lv_at hl 1 rfl) ?_
    refine lv_dload_n hx hb dJ2_rint_30 rfl (lv_at hl 0 rfl) ?_
    refine lv_dmul hx hb dJ2_rint_31 (by first | exact n6 | exact n5) ?_
    exact ss_dret S hr hlk (by unfold riD rnA; rw [if_pos (show fx_lt (abD x) k52 = true from c_19)]; rfl) dJ2_rint_32
theorem st_X0_isSetting (l : Launch) (k : Nat) (b : Int64) (hk : k < 14) : sR l yX0_isSetting cX0_isSetting 3 (some .boolean) { frames := 3, cells := 0, slots := 0, locals := 1100 } [.int (nI k), .long b] (some (.int (bI (nbB b && stB k b.toUInt64)))) := by
  refine ss_startR (own := RX0) (by decide) rfl (Nat.le_of_ble_eq_true rfl) ?_
  intro p0 e0 s0 mid bl0 me0 co0 ls S hr hlk hl
  have hx := S.1; have hb := S.2.1; have hml := S.2.2.1; have hown := S.2.2.2.1; have hts := S.2.2.2.2
  have hl : lv_has ls 3 [(0, .int (nI k)), (1, .long b)] := hl
  refine lv_iload_n hx hb dX0_isSetting_0 rfl (lv_at hl 0 rfl) ?_
  rcases (show (k = 10) ∨ (k = 11) ∨ (k = 12) ∨ (k = 13) ∨ (k = 0 ∨ k = 1 ∨ k = 2 ∨ k = 3 ∨ k = 4 ∨ k = 5 ∨ k = 6 ∨ k = 7 ∨ k = 8 ∨ k = 9) by omega) with c_1 | c_1 | c_1 | c_1 | c_1
  · refine sw_in (off := 31) (tgt := 32) [10] (by simp [c_1]) hx hb dX0_isSetting_1 (by decide) (by decide) ?_
    refine lv_lload_n hx hb dX0_isSetting_32 rfl (lv_at hl 1 rfl) ?_
    refine lv_ldc2d hx hb hown (hts _ q155) dX0_isSetting_33 ?_
    refine lv_dconst1 hx hb dX0_isSetting_36 ?_
    refine sC_call (As := [.long b, .double 13830554455654793216, .double FP.dconst1]) (rest := []) S (st_X0_isWithin l b 13830554455654793216 FP.dconst1) q156 q157 q52 q158 hd_X0_isWithin ⟨Nat.le_of_ble_eq_true rfl, Nat.le_of_ble_eq_true rfl⟩ rfl hl.1 rfl (Nat.le_of_ble_eq_true rfl) dX0_isSetting_37 ⟨Nat.zero_le _, Nat.zero_le _⟩ ?_
    refine W.eq (g2 := F0 mid 40 ls [.int (bI (nbB b && wiB b.toUInt64 13830554455654793216 FP.dconst1))]) rfl ?_
    exact ss_zret S hr hlk (by first | rfl | exact bb_nar _) (by rw [c_1]; rfl) dX0_isSetting_40
  · refine sw_in (off := 40) (tgt := 41) [11] (by simp [c_1]) hx hb dX0_isSetting_1 (by decide) (by decide) ?_
    refine lv_lload_n hx hb dX0_isSetting_41 rfl (lv_at hl 1 rfl) ?_
    refine lv_dconst1 hx hb dX0_isSetting_42 ?_
    refine lv_ldc2d hx hb hown (hts _ q167) dX0_isSetting_43 ?_
    refine sC_call (As := [.long b, .double FP.dconst1, .double 4625196817309499392]) (rest := []) S (st_X0_isWithin l b FP.dconst1 4625196817309499392) q156 q157 q52 q158 hd_X0_isWithin ⟨Nat.le_of_ble_eq_true rfl, Nat.le_of_ble_eq_true rfl⟩ rfl hl.1 rfl (Nat.le_of_ble_eq_true rfl) dX0_isSetting_46 ⟨Nat.zero_le _, Nat.zero_le _⟩ ?_
    refine W.eq (g2 := F0 mid 49 ls [.int (bI (nbB b && wiB b.toUInt64 FP.dconst1 4625196817309499392))]) rfl ?_
    refine bb_eq (tgt := 71) hx hb dX0_isSetting_49 (by decide) (fun c_49 => ?_) (fun c_49 => ?_)
    · refine lv_iconst (v := nI 0) hx hb dX0_isSetting_71 (by decide) ?_
      exact ss_zret S hr hlk (by first | rfl | exact bb_nar _) (bI_f (by rw [c_1]; exact is_f c_49)) dX0_isSetting_72
    · obtain ⟨w1, w2, w3⟩ := is_w fD_1 fD_16 is_z1 is_z16 c_49
      obtain ⟨w4, w5⟩ := rn_set w1 w2 w3
      have wn := (Bool.and_eq_true _ _).mp c_49
      refine lv_lload_n hx hb dX0_isSetting_52 rfl (lv_at hl 1 rfl) ?_
      refine vn_l2d hx hb (hml.trans hl.1.symm) hown (hts _ q164) (hts _ q166) (hts _ q165) (hts _ q55) (nb_sn (nb_n wn.1)) (Nat.le_of_ble_eq_true rfl) (Nat.le_of_ble_eq_true rfl) dX0_isSetting_53 ?_
      refine va_rint (rest := []) S (st_J2_rint l (b).toUInt64 w1 w2 w3) (bD_n w4) q168 q170 q173 q57 q169 q56 hl.1 (Nat.le_of_ble_eq_true rfl) (Nat.le_of_ble_eq_true rfl) (Nat.zero_le _) (Nat.zero_le _) dX0_isSetting_56 ?_
      refine lv_lload_n hx hb dX0_isSetting_59 rfl (lv_at hl 1 rfl) ?_
      refine vn_l2d hx hb (hml.trans hl.1.symm) hown (hts _ q164) (hts _ q166) (hts _ q165) (hts _ q55) (nb_sn (nb_n wn.1)) (Nat.le_of_ble_eq_true rfl) (Nat.le_of_ble_eq_true rfl) dX0_isSetting_60 ?_
      refine fx_jlne (tgt := 71) hx hb dX0_isSetting_63 dX0_isSetting_64 (by decide) (fun c_64 => ?_) (fun c_64 => ?_)
      · refine lv_iconst (v := nI 0) hx hb dX0_isSetting_71 (by decide) ?_
        exact ss_zret S hr hlk (by first | rfl | exact bb_nar _) (bI_f (by first | (simp only [Bool.and_eq_true] at *; simp_all [stB]) | simp [stB, c_1, c_49, c_64])) dX0_isSetting_72
      · refine lv_iconst (v := nI 1) hx hb dX0_isSetting_67 (by decide) ?_
        refine lv_goto (tgt := 72) hx hb dX0_isSetting_68 (by decide) ?_
        exact ss_zret S hr hlk (by first | rfl | exact bb_nar _) (bI_t (by first | (simp only [Bool.and_eq_true] at *; simp_all [stB]) | simp [stB, c_1, c_49, c_64])) dX0_isSetting_72
  · refine sw_in (off := 72) (tgt := 73) [12] (by simp [c_1]) hx hb dX0_isSetting_1 (by decide) (by decide) ?_
    refine lv_lload_n hx hb dX0_isSetting_73 rfl (lv_at hl 1 rfl) ?_
    refine lv_dconst0 hx hb dX0_isSetting_74 ?_
    refine lv_ldc2d hx hb hown (hts _ q187) dX0_isSetting_75 ?_
    refine sC_call (As := [.long b, .double FP.dconst0, .double 4609434218613702656]) (rest := []) S (st_X0_isWithin l b FP.dconst0 4609434218613702656) q156 q157 q52 q158 hd_X0_isWithin ⟨Nat.le_of_ble_eq_true rfl, Nat.le_of_ble_eq_true rfl⟩ rfl hl.1 rfl (Nat.le_of_ble_eq_true rfl) dX0_isSetting_78 ⟨Nat.zero_le _, Nat.zero_le _⟩ ?_
    refine W.eq (g2 := F0 mid 81 ls [.int (bI (nbB b && wiB b.toUInt64 FP.dconst0 4609434218613702656))]) rfl ?_
    exact ss_zret S hr hlk (by first | rfl | exact bb_nar _) (by rw [c_1]; rfl) dX0_isSetting_81
  · refine sw_in (off := 81) (tgt := 82) [13] (by simp [c_1]) hx hb dX0_isSetting_1 (by decide) (by decide) ?_
    refine lv_lload_n hx hb dX0_isSetting_82 rfl (lv_at hl 1 rfl) ?_
    refine lv_dconst0 hx hb dX0_isSetting_83 ?_
    refine lv_ldc2d hx hb hown (hts _ q188) dX0_isSetting_84 ?_
    refine sC_call (As := [.long b, .double FP.dconst0, .double 4696837146684686336]) (rest := []) S (st_X0_isWithin l b FP.dconst0 4696837146684686336) q156 q157 q52 q158 hd_X0_isWithin ⟨Nat.le_of_ble_eq_true rfl, Nat.le_of_ble_eq_true rfl⟩ rfl hl.1 rfl (Nat.le_of_ble_eq_true rfl) dX0_isSetting_87 ⟨Nat.zero_le _, Nat.zero_le _⟩ ?_
    refine W.eq (g2 := F0 mid 90 ls [.int (bI (nbB b && wiB b.toUInt64 FP.dconst0 4696837146684686336))]) rfl ?_
    refine bb_eq (tgt := 112) hx hb dX0_isSetting_90 (by decide) (fun c_90 => ?_) (fun c_90 => ?_)
    · refine lv_iconst (v := nI 0) hx hb dX0_isSetting_112 (by decide) ?_
      exact ss_zret S hr hlk (by first | rfl | exact bb_nar _) (bI_f (by rw [c_1]; exact is_f c_90)) dX0_isSetting_113
    · obtain ⟨w1, w2, w3⟩ := is_w fD_0 fD_1e6 is_z0 is_z6 c_90
      obtain ⟨w4, w5⟩ := rn_set w1 w2 w3
      have wn := (Bool.and_eq_true _ _).mp c_90
      refine lv_lload_n hx hb dX0_isSetting_93 rfl (lv_at hl 1 rfl) ?_
      refine vn_l2d hx hb (hml.trans hl.1.symm) hown (hts _ q164) (hts _ q166) (hts _ q165) (hts _ q55) (nb_sn (nb_n wn.1)) (Nat.le_of_ble_eq_true rfl) (Nat.le_of_ble_eq_true rfl) dX0_isSetting_94 ?_
      refine va_rint (rest := []) S (st_J2_rint l (b).toUInt64 w1 w2 w3) (bD_n w4) q168 q170 q173 q57 q169 q56 hl.1 (Nat.le_of_ble_eq_true rfl) (Nat.le_of_ble_eq_true rfl) (Nat.zero_le _) (Nat.zero_le _) dX0_isSetting_97 ?_
      refine lv_lload_n hx hb dX0_isSetting_100 rfl (lv_at hl 1 rfl) ?_
      refine vn_l2d hx hb (hml.trans hl.1.symm) hown (hts _ q164) (hts _ q166) (hts _ q165) (hts _ q55) (nb_sn (nb_n wn.1)) (Nat.le_of_ble_eq_true rfl) (Nat.le_of_ble_eq_true rfl) dX0_isSetting_101 ?_
      refine fx_jlne (tgt := 112) hx hb dX0_isSetting_104 dX0_isSetting_105 (by decide) (fun c_105 => ?_) (fun c_105 => ?_)
      · refine lv_iconst (v := nI 0) hx hb dX0_isSetting_112 (by decide) ?_
        exact ss_zret S hr hlk (by first | rfl | exact bb_nar _) (bI_f (by first | (simp only [Bool.and_eq_true] at *; simp_all [stB]) | simp [stB, c_1, c_90, c_105])) dX0_isSetting_113
      · refine lv_iconst (v := nI 1) hx hb dX0_isSetting_108 (by decide) ?_
        refine lv_goto (tgt := 113) hx hb dX0_isSetting_109 (by decide) ?_
        exact ss_zret S hr hlk (by first | rfl | exact bb_nar _) (bI_t (by first | (simp only [Bool.and_eq_true] at *; simp_all [stB]) | simp [stB, c_1, c_90, c_105])) dX0_isSetting_113
  · refine sw_out (tgt := 114) [0, 1, 2, 3, 4, 5, 6, 7, 8, 9] (by rcases c_1 with h | h | h | h | h | h | h | h | h | h <;> simp [h]) hx hb dX0_isSetting_1 (by decide) (by decide) ?_
    refine lv_lload_n hx hb dX0_isSetting_114 rfl (lv_at hl 1 rfl) ?_
    refine lv_dconst0 hx hb dX0_isSetting_115 ?_
    refine lv_dconst0 hx hb dX0_isSetting_116 ?_
    refine sC_call (As := [.long b, .double FP.dconst0, .double FP.dconst0]) (rest := []) S (st_X0_isWithin l b FP.dconst0 FP.dconst0) q156 q157 q52 q158 hd_X0_isWithin ⟨Nat.le_of_ble_eq_true rfl, Nat.le_of_ble_eq_true rfl⟩ rfl hl.1 rfl (Nat.le_of_ble_eq_true rfl) dX0_isSetting_117 ⟨Nat.zero_le _, Nat.zero_le _⟩ ?_
    refine W.eq (g2 := F0 mid 120 ls [.int (bI (nbB b && wiB b.toUInt64 FP.dconst0 FP.dconst0))]) rfl ?_
    exact ss_zret S hr hlk (by first | rfl | exact bb_nar _) (by exact congrArg bI (is_0 (by omega) (by omega) (by omega) (by omega))) dX0_isSetting_120
