/-! rows over the panel's world -/
def yX2_wideOut : MethodName := ⟨RX2, "wideOut", "(I)D"⟩
def yX2_narrowOut : MethodName := ⟨RX2, "narrowOut", "(I)F"⟩
def kC (k : Nat) : String := match k with
  | 0 => RX3 | 1 => RX4 | 2 => RX6 | 3 => RX7 | 4 => RX8 | 5 => RX9 | 6 => RX10 | 7 => RX11 | 8 => RX12 | 9 => RX13 | 10 => RX14 | 11 => RX15 | 12 => RX16 | _ => RX17
def kT (k : Nat) : u_T := match k with
  | 0 => TX3 | 1 => TX4 | 2 => TX6 | 3 => TX7 | 4 => TX8 | 5 => TX9 | 6 => TX10 | 7 => TX11 | 8 => TX12 | 9 => TX13 | 10 => TX14 | 11 => TX15 | 12 => TX16 | _ => TX17
def kTy (k : Nat) : Nat → FieldType := match k with
  | 0 => tyX3 | 1 => tyX4 | 2 => tyX6 | 3 => tyX7 | 4 => tyX8 | 5 => tyX9 | 6 => tyX10 | 7 => tyX11 | 8 => tyX12 | 9 => tyX13 | 10 => tyX14 | 11 => tyX15 | 12 => tyX16 | _ => tyX17
theorem k14 {P : Nat → Prop} (h0 : P 0) (h1 : P 1) (h2 : P 2) (h3 : P 3) (h4 : P 4) (h5 : P 5) (h6 : P 6) (h7 : P 7) (h8 : P 8) (h9 : P 9) (h10 : P 10) (h11 : P 11) (h12 : P 12) (h13 : P 13) {k : Nat} (hk : k < 14) : P k := by
  match k, hk with
  | 0, _ => exact h0
  | 1, _ => exact h1
  | 2, _ => exact h2
  | 3, _ => exact h3
  | 4, _ => exact h4
  | 5, _ => exact h5
  | 6, _ => exact h6
  | 7, _ => exact h7
  | 8, _ => exact h8
  | 9, _ => exact h9
  | 10, _ => exact h10
  | 11, _ => exact h11
  | 12, _ => exact h12
  | 13, _ => exact h13
  | n + 14, h => omega
theorem k_cl {k : Nat} (h : k < 14) : tp_cl[k + 2]? = some (kC k, kT k, kN k) := k14 (P := fun k => tp_cl[k + 2]? = some (kC k, kT k, kN k)) rfl rfl rfl rfl rfl rfl rfl rfl rfl rfl rfl rfl rfl rfl h
theorem k_in {k : Nat} (h : k < 14) : ∀ w ∈ u_ws (kC k) (kT k) (kN k), w ∈ lw_all := k14 (P := fun k => ∀ w ∈ u_ws (kC k) (kT k) (kN k), w ∈ lw_all) in_X3 in_X4 in_X6 in_X7 in_X8 in_X9 in_X10 in_X11 in_X12 in_X13 in_X14 in_X15 in_X16 in_X17 h
theorem k_ty {k : Nat} (h : k < 14) : ∀ f, f < kN k → parseFieldDescriptor (kT k f).2.2.1 = some (kTy k f) := k14 (P := fun k => ∀ f, f < kN k → parseFieldDescriptor (kT k f).2.2.1 = some (kTy k f)) tyX3_ok tyX4_ok tyX6_ok tyX7_ok tyX8_ok tyX9_ok tyX10_ok tyX11_ok tyX12_ok tyX13_ok tyX14_ok tyX15_ok tyX16_ok tyX17_ok h
theorem k_nm {k : Nat} (h : k < 14) : ∀ a, a < kN k → ∀ b, b < kN k → a ≠ b → (kT k a).2.1 ≠ (kT k b).2.1 := k14 (P := fun k => ∀ a, a < kN k → ∀ b, b < kN k → a ≠ b → (kT k a).2.1 ≠ (kT k b).2.1) nmX3 nmX4 nmX6 nmX7 nmX8 nmX9 nmX10 nmX11 nmX12 nmX13 nmX14 nmX15 nmX16 nmX17 h
theorem k_T : ∀ k, k < 14 → ∀ f, f < 11 → kT k f = TX3 f := by decide +kernel
theorem k_Ty : ∀ k, k < 14 → ∀ f, f < 11 → kTy k f = tyX3 f := by decide +kernel
theorem k_11 (k : Nat) : 11 ≤ kN k := by unfold kN; split <;> omega
/-- what the tables say beside the words that ride: arrays of modules, casts, the two open methods, the static -/
def xT (A : Nat → Prop) (U : State) : Prop := va_AO "TwinPanel$Module" U ∧ (∀ k, k < 14 → va_Nw (.castable (kC k) "TwinPanel$Module") U) ∧ va_Nw (.declares yX2_wideOut) U ∧ va_Nw (.declares yX2_narrowOut) U ∧ va_Z "java/lang/Math" "negativeZeroDoubleBits" "J" (.long (-9223372036854775808)) A U U.heap
theorem xT_warm {A B : Nat → Prop} {s U : State} (hW : s.WarmedH U.vm) (hB : ∀ q, B q → A q) (hk : ∀ a : Nat, a < s.heap.size → ¬ A a → U.heap[a]? = s.heap[a]?) (h : xT A s) : xT B U :=
  ⟨va_AO.moved hW.alike h.1, fun k hk => va_Nw.warmC hW (h.2.1 k hk), va_Nw.warmD hW h.2.2.1, va_Nw.warmD hW h.2.2.2.1, ((va_Z.moved hW.alike h.2.2.2.2).kept hk).narrow hB⟩
theorem xT_same {A : Nat → Prop} {s U : State} (hv : s.vm = U.vm) (hh : U.heap = s.heap) (h : xT A s) : xT A U :=
  ⟨va_AO.moved (by rw [hv]; exact Vm.Alike.refl _) h.1, fun k hk => va_Nw.same rfl hv (h.2.1 k hk), va_Nw.same rfl hv h.2.2.1, va_Nw.same rfl hv h.2.2.2.1, by rw [hh]; exact va_Z.moved (by rw [hv]; exact Vm.Alike.refl _) h.2.2.2.2⟩
def xI (D : va_G) (dA : Nat → ClassId) (A : Nat → Prop) (C : tp_C) (d : md_T) (j : xj_T) (U : State) : Prop := va_P D tp_cl (xL dA C d j) U.heap ∧ va_K D tp_cl (tp_ty dA) U ∧ va_D A (xL dA C d j)
def xG (D : va_G) (dA : Nat → ClassId) (A : Nat → Prop) (C : tp_C) (d : md_T) (j : xj_T) (s : State) (H : Heap) (locs : List Loc) : Prop := va_P D tp_cl (xL dA C d j) H ∧ va_K D tp_cl (tp_ty dA) s ∧ va_D A (xL dA C d j) ∧ va_S A s.heap H locs ∧ xT A s
theorem xG_d {D : va_G} {dA : Nat → ClassId} {A : Nat → Prop} {C C' : tp_C} {d d' : md_T} {j j' : xj_T} {s : State} {H : Heap} {locs : List Loc} (e : xL dA C d j = xL dA C' d' j') (G : xG D dA A C d j s H locs) : xG D dA A C' d' j' s H locs := by
  unfold xG at G ⊢; rw [← e]; exact G
/-- a contract over the panel's world, nothing made -/
def xC (l : Launch) (D : va_G) (dA : Nat → ClassId) (y : MethodName) (b : ByteArray) (L : Nat) (r : Option FieldType) (h : Nat) (As : List Value) (C : tp_C) (d : md_T) (j : xj_T) (o : Option Value) (C' : tp_C) (d' : md_T) (j' : xj_T) : Prop :=
  Met l y (ws_ y b L r) (rm_ h) (va_Pc As (fun U => xI D dA (xA dA C d j) C d j U ∧ xT (xA dA C d j) U)) (fun _ st oc t => oc = .returned o ∧ xI D dA (xA dA C d j) C' d' j' t ∧ va_F (xA dA C d j) st t) 0 0 (xA dA C d j)
theorem xA_in {dA : Nat → ClassId} {C : tp_C} {d : md_T} {j : xj_T} {A : Nat → Prop} (h : va_D A (xL dA C d j)) : ∀ q, xA dA C d j q → A q := by
  rintro q ⟨r, x, hr, hx⟩
  exact (wr_D.mp h).2 r (q, x) hr hx
theorem xA_D {dA : Nat → ClassId} {C : tp_C} {d : md_T} {j : xj_T} {A : Nat → Prop} (h : va_D A (xL dA C d j)) : va_D (xA dA C d j) (xL dA C d j) := wr_D.mpr ⟨(wr_D.mp h).1, fun r q hr hq => ⟨r, q.2, hr, hq⟩⟩
section TX1_
variable {p : Program} {l : Launch} {e : Env} {R : Room} {s : State} {m : MethodId} {args : Array Value} {below : List Frame} {meth : Method} {c : Code} {H : Heap} {locs : List Loc} {cells slots : Nat} {Q : State → Prop}
variable {cc : ByteArray} {pc nL : Nat} {ls : Array Slot} {rest st0 : List Value} {D : va_G} {dA : Nat → ClassId} {A : Nat → Prop} {C C' : tp_C} {d d' : md_T} {j j' : xj_T} {own : String}
theorem xx_start {y : MethodName} {n h : Nat} {ret : Option FieldType} {As : List Value} {o : Option Value} (hy : plainName y.cls = true) (hc : y.cls = own) (hle : (lg_sl As).length ≤ n)
    (body : ∀ (p : Program) (e : Env) (s : State) (m : MethodId) (below : List Frame) (meth : Method) (c : Code) (ls : Array Slot), CallFix p m c cc n s As.toArray lw_all own → meth.sig.returnType = ret → meth.locks = false → xG D dA (xA dA C d j) C d j s s.heap [] → lv_has ls n (lv_args 0 As) → W p l e (rm_ h) s m As.toArray below meth c s.heap [] 0 0 (MQ below (fun _ st oc t => oc = .returned o ∧ xI D dA (xA dA C d j) C' d' j' t ∧ va_F (xA dA C d j) st t) As.toArray s 0 0 (xA dA C d j)) (F0 m 0 ls [])) : xC l D dA y cc n ret h As C d j o C' d' j' := by
  refine Met.ofW (cc := cc) (maxL := n) (ret := ret) hy rfl ?_
  intro p e s m args below meth c s₁ B hml hv
  obtain ⟨rfl, ⟨hP, hK, hD⟩, hT⟩ := hv
  have hts := atoms_spec (ws := ws_ y cc n ret) B.pre
  have hts : ∀ w ∈ lw_all, w.before _ s = true := fun w h => hts w (List.mem_cons_of_mem _ h)
  have hown : s.vm.findClass own = some m.cls := by rw [← hc]; exact findClass_of_methodNamed B.named
  have hl := lv_entry As (n := n) hle
  rw [lg_entry_eq]
  exact body p e s m below meth c _ ⟨B.exec, B.bytes, hml, hown, hts⟩ B.returns B.notSynchronized ⟨hP, hK, hD, va_S.rf, hT⟩ hl
/-- behind a call whose contract is over the panel's world -/
theorem xx_after {mc ms : Nat} {As : List Value} {o : Option Value} (G : xG D dA A C d j s H locs) (hr : va_Run p l e R s m args below meth c H locs cells slots 0 0 (F0 m pc ls st0) rest (fun st oc t => oc = .returned o ∧ xI D dA (xA dA C d j) C' d' j' t ∧ va_F (xA dA C d j) st t) (xA dA C d j))
    (kk : ∀ (H1 : Heap) (locs1 : List Loc), xG D dA A C' d' j' s H1 locs1 → W p l e R s m args below meth c H1 locs1 cells slots Q (F0 m (pc + 3) ls (o.toList ++ rest))) : W p l e R s m args below meth c H locs cells slots Q (F0 m pc ls st0) := by
  obtain ⟨hP, hK, hD, hS, hT⟩ := G
  refine wr_call hr (fun v st₀ t L h0 hvm hq hL => ?_)
  obtain ⟨hv, ⟨hP1, hK1, hD1⟩, hz, hk⟩ := hq
  cases hv
  rw [h0] at hz hk
  have hin := xA_in hD
  refine kk t.heap (locs ++ L) ⟨hP1, va_K.moved hvm.symm hK1, hD1.weaken (fun _ q _ h => hin q.1 h), ⟨Nat.le_trans hS.1 hz, fun q h1 h2 => ?_, fun q hq => ?_⟩, hT⟩
  · rw [hk q (Nat.lt_of_lt_of_le h1 hS.1) (fun z => h2 (hin q z))]; exact hS.2.1 q h1 h2
  · rcases List.mem_append.mp hq with h | h
    · exact hS.2.2 q h
    · exact hin _ (hL q h)
theorem xI_blind {As : List Value} : FrameBlind (va_Pc As (fun U => xI D dA A C d j U ∧ xT A U)) := fun a U g mk q => ⟨q.1, ⟨q.2.1.1, va_K.moved (Vm.Alike.refl U.vm) q.2.1.2.1, q.2.1.2.2⟩, xT_same rfl rfl q.2.2⟩
theorem xx_pre (G : xG D dA A C d j s H locs) {As : List Value} : ∀ U : State, U.heap = H → s.WarmedH U.vm → va_Pc As (fun U => xI D dA (xA dA C d j) C d j U ∧ xT (xA dA C d j) U) As.toArray U := by
  obtain ⟨hP, hK, hD, hS, hT⟩ := G
  intro U hU hW
  exact ⟨rfl, ⟨by rw [hU]; exact hP, va_K.moved hW.alike hK, xA_D hD⟩, xT_warm hW (xA_in hD) (fun a h1 h2 => by rw [hU]; exact hS.2.1 a h1 h2) hT⟩
/-- the receiver is the panel -/
theorem xx_callP {y : MethodName} {b : ByteArray} {L n index h : Nat} {r : Option FieldType} {As : List Value} {o : Option Value} (S : CallFix p m c cc nL s args lw_all own) (G : xG D dA A C d j s H locs) (hM : xC l D dA y b L r h (.ref (jA j 0) :: As) C d j o C' d' j') (q1 : Cond.methodLink own index y ∈ lw_all) (q2 : Cond.instanceMethod y ∈ lw_all) (q3 : Cond.selects RX0 y y ∈ lw_all) (q4 : Cond.code y b L r ∈ lw_all)
    (hd : y.cls = RX0 ∧ y.cls ≠ "java/lang/invoke/MethodHandle" ∧ y.cls ≠ "java/lang/invoke/VarHandle" ∧ (parseMethodDescriptor y.desc).map (fun d => d.parameters.length) = some n) (hR : h + 1 ≤ R.frames ∧ 8 + (L + 11) + 48 * h ≤ R.locals) (hn : As.length = n) (hsz : ls.size = nL) (hst : st0 = As.reverse ++ .ref (jA j 0) :: rest) (hW : (rest.map fun v => v.category).sum ≤ 8) (hdg : decode cc pc = .ok (.invokevirtual index, 3)) (hf : cells ≤ R.cells ∧ slots ≤ R.slots)
    (kk : ∀ (H1 : Heap) (locs1 : List Loc), xG D dA A C' d' j' s H1 locs1 → W p l e R s m args below meth c H1 locs1 cells slots Q (F0 m (pc + 3) ls (o.toList ++ rest))) : W p l e R s m args below meth c H locs cells slots Q (F0 m pc ls st0) := by
  obtain ⟨hP, hK, hD, hS, hT⟩ := id G
  obtain ⟨q0, h2, -⟩ := wr_pos (N := 130) (r := 0) (by decide) (xW_p (dA := dA) (C := C) (d := d) (j := j) (r := 0) (by decide) rfl)
  have hr := va_runV (As := As) (rest := rest) (g := F0 m pc ls st0) (locs := locs) (cells := cells) (slots := slots) (H := H) (below := below) (meth := meth) (e := e) S hM (cwV (R := R) (C := RX0) n S.2.2.2.2 (lw_V q1 q2 q3 q52 q4) rfl rfl rfl hd hR) ⟨xI_blind, va_recv hK hP (ci := 0) (q0 := q0) rfl h2, xx_pre G⟩ rfl hn hsz hst (lv_room hW) hdg hf
  exact xx_after (mc := 0) (ms := 0) (As := As) G hr kk
/-- the receiver is a module -/
theorem xx_callM {x y : MethodName} {b : ByteArray} {L n index h mm : Nat} {r : Option FieldType} {owner : String} {As : List Value} {o : Option Value} (S : CallFix p m c cc nL s args lw_all own) (G : xG D dA A C d j s H locs) (hmm : mm < cN C) (hN : cN C ≤ 20) (hk : cK C mm < 14) (hM : xC l D dA y b L r h (.ref (jA j (xr mm 0)) :: As) C d j o C' d' j')
    (cw : va_CU R s args own (kC (cK C mm)) owner index x y b L r (ws_ y b L r) (rm_ h) 0 0 n) (hn : As.length = n) (hsz : ls.size = nL) (hst : st0 = As.reverse ++ .ref (jA j (xr mm 0)) :: rest) (hW : (rest.map fun v => v.category).sum ≤ 8) (hdg : decode cc pc = .ok (.invokevirtual index, 3)) (hf : cells ≤ R.cells ∧ slots ≤ R.slots)
    (kk : ∀ (H1 : Heap) (locs1 : List Loc), xG D dA A C' d' j' s H1 locs1 → W p l e R s m args below meth c H1 locs1 cells slots Q (F0 m (pc + 3) ls (o.toList ++ rest))) : W p l e R s m args below meth c H locs cells slots Q (F0 m pc ls st0) := by
  obtain ⟨hP, hK, hD, hS, hT⟩ := id G
  obtain ⟨q0, h2, -⟩ := wr_pos (N := 130) (r := xr mm 0) (xr_lt (by decide) (by omega)) (xW_m (dA := dA) (C := C) (d := d) (j := j) (m := mm) (i := 0) (by decide) hmm rfl)
  have hr := va_runU (As := As) (rest := rest) (g := F0 m pc ls st0) (locs := locs) (cells := cells) (slots := slots) (H := H) (below := below) (meth := meth) (e := e) S hM cw ⟨xI_blind, va_recv hK hP (ci := cK C mm + 2) (q0 := q0) (k_cl hk) h2, xx_pre G⟩ rfl hn hsz hst (lv_room hW) hdg hf
  exact xx_after (mc := 0) (ms := 0) (As := As) G hr kk
/-- a module's field is read -/
theorem xx_getM (S : CallFix p m c cc nL s args lw_all own) (G : xG D dA A C d j s H locs) {mm : Nat} (hmm : mm < cN C) (hN : cN C ≤ 20) (hk : cK C mm < 14) (f : Nat) (hf : f < kN (cK C mm)) {index : Nat} {ref : String} (hq : (Cond.fieldLink own index ref (kT (cK C mm) f).2.1 (kT (cK C mm) f).2.2.1).before args s = true) (hsame : ∀ x, s.fieldFound? (kT (cK C mm) f).1 (kT (cK C mm) f).2.1 (kT (cK C mm) f).2.2.1 = some x → s.fieldFound? ref (kT (cK C mm) f).2.1 (kT (cK C mm) f).2.2.1 = some x) {v : Value} (hv : xV C d j mm f = v) (hdg : decode cc pc = .ok (.getfield index, 3))
    (kk : W p l e R s m args below meth c H locs cells slots Q (F0 m (pc + 3) ls (v :: rest))) : W p l e R s m args below meth c H locs cells slots Q (F0 m pc ls (.ref (jA j (xr mm 0)) :: rest)) := by
  obtain ⟨hx, hb, hml, hown, hts⟩ := S
  obtain ⟨hP, hK, hD, hS, hT⟩ := G
  obtain ⟨q0, h2, -⟩ := wr_pos (N := 130) (r := xr mm 0) (xr_lt (by decide) (by omega)) (xW_m (dA := dA) (C := C) (d := d) (j := j) (m := mm) (i := 0) (by decide) hmm rfl)
  exact va_get (D := D) (ci := cK C mm + 2) (C := kC (cK C mm)) (T := kT (cK C mm)) (N := kN (cK C mm)) hx hb hts (k_in hk) hown hK hP q0 h2 (k_cl hk) f hf hq hsame (xFs_at hf hv) hdg kk
/-- a field that all modules have, named by the class Module -/
theorem xx_get11 (S : CallFix p m c cc nL s args lw_all own) (G : xG D dA A C d j s H locs) {mm : Nat} (hmm : mm < cN C) (hN : cN C ≤ 20) (hk : cK C mm < 14) (f : Nat) (hf : f < 11) {index : Nat} (hq : Cond.fieldLink own index RX2 (TX3 f).2.1 (TX3 f).2.2.1 ∈ lw_all) (h1 : (TX3 f).1 = RX2) {v : Value} (hv : xV C d j mm f = v) (hdg : decode cc pc = .ok (.getfield index, 3))
    (kk : W p l e R s m args below meth c H locs cells slots Q (F0 m (pc + 3) ls (v :: rest))) : W p l e R s m args below meth c H locs cells slots Q (F0 m pc ls (.ref (jA j (xr mm 0)) :: rest)) := by
  have hf2 : f < kN (cK C mm) := Nat.lt_of_lt_of_le hf (k_11 _)
  have e := k_T (cK C mm) hk f hf
  exact xx_getM (ref := RX2) S G hmm hN hk f hf2 (by rw [e]; exact S.2.2.2.2 _ hq) (fun x h => by rw [e] at h ⊢; rw [h1] at h; exact h) hv hdg kk
/-- the panel's field is read -/
theorem xx_getP (S : CallFix p m c cc nL s args lw_all own) (G : xG D dA A C d j s H locs) (f : Nat) (hf : f < 17) {index : Nat} (hq : Cond.fieldLink own index RX0 (TX0 f).2.1 (TX0 f).2.2.1 ∈ lw_all) (h1 : (TX0 f).1 = RX0) {v : Value} (hv : xPV C d j f = v) (hdg : decode cc pc = .ok (.getfield index, 3))
    (kk : W p l e R s m args below meth c H locs cells slots Q (F0 m (pc + 3) ls (v :: rest))) : W p l e R s m args below meth c H locs cells slots Q (F0 m pc ls (.ref (jA j 0) :: rest)) := by
  obtain ⟨hx, hb, hml, hown, hts⟩ := S
  obtain ⟨hP, hK, hD, hS, hT⟩ := G
  obtain ⟨q0, h2, -⟩ := wr_pos (N := 130) (r := 0) (by decide) (xW_p (dA := dA) (C := C) (d := d) (j := j) (r := 0) (by decide) rfl)
  exact va_get (D := D) (ci := 0) (C := RX0) (T := TX0) (N := 17) hx hb hts in_X0 hown hK hP q0 h2 rfl f hf (hts _ hq) (fun x h => by rw [h1] at h; exact h) (xPs_at hf hv) hdg kk
end TX1_
