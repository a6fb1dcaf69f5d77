/-! contracts over any world of roles; objects and arrays are made -/
def gA (w : wr_F) : Nat → Prop := fun q => ∃ r x, r < 130 ∧ w r = some (q, x)
def gI (D : va_G) (dA : Nat → ClassId) (A : Nat → Prop) (w : wr_F) (U : State) : Prop := va_P D tp_cl (wr_l 130 w) U.heap ∧ va_K D tp_cl (tp_ty dA) U ∧ va_D A (wr_l 130 w)
abbrev gQN (D : va_G) (dA : Nat → ClassId) (w : wr_F) (sz : Nat) (P : Option Value → wr_F → Prop) : Array Value → State → Outcome → State → Prop := fun _ st oc t => (∃ o w', oc = .returned o ∧ P o w' ∧ gI D dA (xB (gA w) sz) w' t) ∧ va_F (gA w) st t
def gN (l : Launch) (D : va_G) (dA : Nat → ClassId) (y : MethodName) (b : ByteArray) (L : Nat) (r : Option FieldType) (h mc ms : Nat) (As : List Value) (w : wr_F) (P : Option Value → wr_F → Prop) : Prop :=
  ∀ sz : Nat, Met l y (ws_ y b L r) (rmN h mc ms) (va_Pc As (fun U => U.heap.size = sz ∧ gI D dA (gA w) w U ∧ xT (gA w) U)) (gQN D dA w sz P) mc ms (xB (gA w) sz)
section TA2_
variable {p : Program} {l : Launch} {e : Env} {R : Room} {s : State} {m : MethodId} {args : Array Value} {below : List Frame} {meth : Method} {c : Code} {H : Heap} {locs : List Loc} {cells slots : Nat} {Q : State → Prop}
variable {cc : ByteArray} {pc nL : Nat} {ls : Array Slot} {rest st0 : List Value} {D : va_G} {dA : Nat → ClassId} {A : Nat → Prop} {own : String} {w : wr_F} {P : Option Value → wr_F → Prop}
theorem gA_in (h : va_D A (wr_l 130 w)) : ∀ q, gA w q → A q := by
  rintro q ⟨r, x, hr, hx⟩
  exact (wr_D.mp h).2 r (q, x) hr hx
theorem gA_D (h : va_D A (wr_l 130 w)) : va_D (gA w) (wr_l 130 w) := wr_D.mpr ⟨(wr_D.mp h).1, fun r q hr hq => ⟨r, q.2, hr, hq⟩⟩
theorem ww_start {y : MethodName} {n h mc ms : Nat} {ret : Option FieldType} {As : List Value} (hy : plainName y.cls = true) (hc : y.cls = own) (hle : (lg_sl As).length ≤ n)
    (body : ∀ (p : Program) (e : Env) (s : State) (m : MethodId) (below : List Frame) (meth : Method) (c : Code) (ls : Array Slot), CallFix p m c cc n s As.toArray lw_all own → meth.sig.returnType = ret → meth.locks = false → meth.name = y.name → wG D dA (xB (gA w) s.heap.size) w s s.heap [] → lv_has ls n (lv_args 0 As) → W p l e (rmN h mc ms) s m As.toArray below meth c s.heap [] 0 0 (MQ below (gQN D dA w s.heap.size P) As.toArray s mc ms (xB (gA w) s.heap.size)) (F0 m 0 ls [])) : gN l D dA y cc n ret h mc ms As w P := by
  intro sz
  refine Met.ofW (cc := cc) (maxL := n) (ret := ret) hy rfl ?_
  intro p e s m args below meth c s₁ B hml hv
  obtain ⟨rfl, rfl, ⟨hP, hK, hD⟩, hT⟩ := hv
  have hts := atoms_spec (ws := ws_ y cc n ret) B.pre
  have hts : ∀ w ∈ lw_all, w.before _ s = true := fun w h => hts w (List.mem_cons_of_mem _ h)
  have hown : s.vm.findClass own = some m.cls := by rw [← hc]; exact findClass_of_methodNamed B.named
  have hl := lv_entry As (n := n) hle
  rw [lg_entry_eq]
  exact body p e s m below meth c _ ⟨B.exec, B.bytes, hml, hown, hts⟩ B.returns B.notSynchronized (name_of_methodNamed B.named B.method).1 ⟨hP, hK, hD.weaken (fun _ _ _ h => Or.inl h), va_S.rf, xT_grow hT⟩ hl
theorem gN_F {w0 : wr_F} {t : State} (h : va_S (xB (gA w0) s.heap.size) s.heap H locs) (ht : t.heap = H) : va_F (gA w0) s t := ⟨by rw [ht]; exact h.1, fun q h1 h2 => by rw [ht]; exact h.2.1 q h1 (fun z => z.elim h2 (fun z => by omega))⟩
theorem ww_vretN {w0 : wr_F} {mc ms : Nat} (S : CallFix p m c cc nL s args lw_all own) (hr : meth.sig.returnType = none) (hlocks : meth.locks = false) (G : wG D dA (xB (gA w0) s.heap.size) w s H locs) (hc : cells ≤ mc) (hs : slots ≤ ms) (hP : P none w) (hdg : decode cc pc = .ok (.return_, 1)) : W p l e R s m args below meth c H locs cells slots (MQ below (gQN D dA w0 s.heap.size P) args s mc ms (xB (gA w0) s.heap.size)) (F0 m pc ls []) := by
  obtain ⟨hPP, hK, hD, hS, hT⟩ := G
  refine W.widen hc hs ?_
  exact W.vret S.1 S.2.1 hr (fun t ht hW => ⟨⟨none, w, rfl, hP, by rw [ht]; exact hPP, va_K.moved hW.alike hK, hD⟩, gN_F hS ht⟩) hS.2.2 hdg
/-- behind a call that makes cells -/
theorem ww_afterN {mc ms : Nat} (G : wG D dA A w s H locs) (hA : ∀ q, s.heap.size ≤ q → A q) (hr : va_Run p l e R s m args below meth c H locs cells slots mc ms (F0 m pc ls st0) rest (fun st oc t => (∃ o w', oc = .returned o ∧ P o w' ∧ gI D dA (xB (gA w) H.size) w' t) ∧ va_F (gA w) st t) (xB (gA w) H.size))
    (kk : ∀ (o : Option Value) (w' : wr_F) (H1 : Heap) (locs1 : List Loc), P o w' → wG D dA A w' s H1 locs1 → H.size ≤ H1.size → (∀ q, q < H.size → ¬ gA w q → H1[q]? = H[q]?) → (∀ q, gA w' q → gA w q ∨ H.size ≤ q) → W p l e R s m args below meth c H1 locs1 (cells + mc) (slots + ms) Q (F0 m (pc + 3) ls (o.toList ++ rest))) : W p l e R s m args below meth c H locs cells slots Q (F0 m pc ls st0) := by
  obtain ⟨hP, hK, hD, hS, hT⟩ := G
  refine wr_call hr (fun v st₀ t L h0 hvm hq hL => ?_)
  obtain ⟨⟨o, w', hv, hp, hP1, hK1, hD1⟩, hz, hk⟩ := hq
  cases hv
  rw [h0] at hz hk
  have hin := gA_in hD
  have hB : ∀ q, xB (gA w) H.size q → A q := fun q h => h.elim (hin q) (fun h => hA q (Nat.le_trans hS.1 h))
  refine kk _ w' t.heap (locs ++ L) hp ⟨hP1, va_K.moved hvm.symm hK1, hD1.weaken (fun _ q _ h => hB q.1 h), ⟨Nat.le_trans hS.1 hz, fun q h1 h2 => ?_, fun q hq => ?_⟩, hT⟩ hz (fun q h1 h2 => hk q h1 h2) (fun q hq => ?_)
  · rw [hk q (Nat.lt_of_lt_of_le h1 hS.1) (fun z => h2 (hin q z))]; exact hS.2.1 q h1 h2
  · rcases List.mem_append.mp hq with h | h
    · exact hS.2.2 q h
    · exact hB _ (hL q h)
  · obtain ⟨r, x, hr', hx⟩ := hq
    exact (wr_D.mp hD1).2 r (q, x) hr' hx
theorem gI_blind {As : List Value} {sz : Nat} : FrameBlind (va_Pc As (fun U => U.heap.size = sz ∧ gI D dA A w U ∧ xT A U)) := fun a U g mk q => ⟨q.1, q.2.1, ⟨q.2.2.1.1, va_K.moved (Vm.Alike.refl U.vm) q.2.2.1.2.1, q.2.2.1.2.2⟩, xT_same rfl rfl q.2.2.2⟩
theorem ww_pre (G : wG D dA A w s H locs) {As : List Value} : ∀ U : State, U.heap = H → s.WarmedH U.vm → va_Pc As (fun U => U.heap.size = H.size ∧ gI D dA (gA w) w U ∧ xT (gA w) U) As.toArray U := by
  obtain ⟨hP, hK, hD, hS, hT⟩ := G
  intro U hU hW
  exact ⟨rfl, by rw [hU], ⟨by rw [hU]; exact hP, va_K.moved hW.alike hK, gA_D hD⟩, xT_warm hW (gA_in hD) (fun a h1 h2 => by rw [hU]; exact hS.2.1 a h1 h2) hT⟩
/-- a constructor is called -/
theorem ww_callI {y : MethodName} {b : ByteArray} {L n index h mc ms a : Nat} {As : List Value} (S : CallFix p m c cc nL s args lw_all own) (G : wG D dA A w s H locs) (hA : ∀ q, s.heap.size ≤ q → A q) (hM : gN l D dA y b L none h mc ms (.ref a :: As) w P) (q1 : Cond.methodLink own index y ∈ lw_all) (q2 : Cond.instanceMethod y ∈ lw_all) (q3 : Cond.initialized y.cls ∈ lw_all) (q4 : Cond.code y b L none ∈ lw_all)
    (hy : y.name = "<init>") (hd : y.cls ≠ "java/lang/invoke/MethodHandle" ∧ y.cls ≠ "java/lang/invoke/VarHandle" ∧ (parseMethodDescriptor y.desc).map (fun d => d.parameters.length) = some n) (hR : h + 1 ≤ R.frames ∧ 8 + (L + 11) + 48 * h ≤ R.locals) (hn : As.length = n) (hsz : ls.size = nL) (hst : st0 = As.reverse ++ .ref a :: rest) (hW : (rest.map fun v => v.category).sum ≤ 8) (hdg : decode cc pc = .ok (.invokespecial index, 3)) (hf : cells + mc ≤ R.cells ∧ slots + ms ≤ R.slots)
    (kk : ∀ (o : Option Value) (w' : wr_F) (H1 : Heap) (locs1 : List Loc), P o w' → wG D dA A w' s H1 locs1 → H.size ≤ H1.size → (∀ q, q < H.size → ¬ gA w q → H1[q]? = H[q]?) → (∀ q, gA w' q → gA w q ∨ H.size ≤ q) → W p l e R s m args below meth c H1 locs1 (cells + mc) (slots + ms) Q (F0 m (pc + 3) ls (o.toList ++ rest))) : W p l e R s m args below meth c H locs cells slots Q (F0 m pc ls st0) := by
  have hts := S.2.2.2.2
  have hr := va_runI (As := As) (rest := rest) (g := F0 m pc ls st0) (locs := locs) (cells := cells) (slots := slots) (H := H) (below := below) (meth := meth) (e := e) S (hM H.size) (cwI (R := R) n hts (lw_meth q4) rfl rfl rfl (hts _ q3) (hts _ q1) (hts _ q2) hy hd hR) ⟨gI_blind, ww_pre G⟩ rfl hn hsz hst (lv_room hW) hdg hf
  exact ww_afterN G hA hr kk
/-- Object's constructor -/
theorem ww_obj (S : CallFix p m c cc nL s args lw_all own) {index a : Nat} (q1 : Cond.methodLink own index Lib.objectInit ∈ lw_all) (q2 : Cond.instanceMethod Lib.objectInit ∈ lw_all) (q3 : Cond.code Lib.objectInit ⟨#[0xb1]⟩ 1 none ∈ lw_all) (hsz : ls.size = nL) (hdg : decode cc pc = .ok (.invokespecial index, 3)) (hf : 1 ≤ R.frames) (hl : (rest.map fun v => v.category).sum + 12 ≤ R.locals) (kk : W p l e R s m args below meth c H locs cells slots Q (F0 m (pc + 3) ls rest)) : W p l e R s m args below meth c H locs cells slots Q (F0 m pc ls (.ref a :: rest)) := by
  obtain ⟨hx, hb, hml, hown, hts⟩ := S
  exact W.objInit hx hb hown (hts _ q1) (hts _ q2) (hts _ q3) rfl (hsz.trans hml.symm) rfl hdg hf (by show 2 * 0 + _ + 12 ≤ _; omega) kk
/-- an object is made -/
theorem oo_new {ci : Nat} {Cl : String} {T : u_T} {N : Nat} (S : CallFix p m c cc nL s args lw_all own) (G : wG D dA A w s H locs) (hA : ∀ q, s.heap.size ≤ q → A q) (hc : tp_cl[ci]? = some (Cl, T, N)) (hin : ∀ w ∈ u_ws Cl T N, w ∈ lw_all) (ty : Nat → FieldType) (hty : ∀ k, k < N → parseFieldDescriptor (T k).2.2.1 = some (ty k)) {index : Nat} (q1 : Cond.classLink own index Cl ∈ lw_all) (q2 : Cond.instantiable Cl N ∈ lw_all) (q3 : Cond.initialized Cl ∈ lw_all) {r : Nat} (hr : r < 130) (hw : w r = none) (hcells : cells + 1 ≤ R.cells) (hslots : slots + N ≤ R.slots) (hdg : decode cc pc = .ok (.new index, 3))
    (kk : ∀ (q : Nat) (H1 : Heap), wG D dA A (wr_s w r (q, .inr (ci, (List.range N).map (fun f => defaultValue (ty f))))) s H1 locs → W p l e R s m args below meth c H1 locs (cells + 1) (slots + N) Q (F0 m (pc + 3) ls (.ref q :: rest))) : W p l e R s m args below meth c H locs cells slots Q (F0 m pc ls rest) := by
  obtain ⟨hx, hb, hml, hown, hts⟩ := S
  obtain ⟨hP, hK, hD, hS, hT⟩ := G
  refine va_new (ci := ci) (C := Cl) (T := T) (N := N) (fs := (List.range N).map (fun f => defaultValue (ty f))) hx hb hts hin ty hty hown (hts _ q1) (hts _ q2) (hts _ q3) hK hP hD hS hA hc (fun j hj => ?_) hcells hslots hdg (fun q H1 hP1 hD1 hS1 => ?_)
  · show _ = ((List.range N).map (fun f => defaultValue (ty f))).getD j .null
    rw [List.getD_eq_getElem?_getD, List.getElem?_map, List.getElem?_range hj]; rfl
  · obtain ⟨a1, a2⟩ := wG_new hr hw hP1 hD1
    exact kk q H1 ⟨a1, hK, a2, hS1, hT⟩
/-- an object's field is written -/
theorem oo_put {ci : Nat} {Cl : String} {T : u_T} {N : Nat} (S : CallFix p m c cc nL s args lw_all own) (G : wG D dA A w s H locs) (hc : tp_cl[ci]? = some (Cl, T, N)) (hin : ∀ w ∈ u_ws Cl T N, w ∈ lw_all) (ty : Nat → FieldType) (hty : ∀ k, k < N → parseFieldDescriptor (T k).2.2.1 = some (ty k)) (hnm : ∀ a, a < N → ∀ b, b < N → a ≠ b → (T a).2.1 ≠ (T b).2.1) {r a : Nat} {fs : List Value} (hr : r < 130) (hw : w r = some (a, .inr (ci, fs))) (hl : fs.length = N) (f : Nat) (hf : f < N) {index : Nat} {ref : String} (hq : Cond.fieldLink own index ref (T f).2.1 (T f).2.2.1 ∈ lw_all) (hsame : ∀ x, s.fieldFound? (T f).1 (T f).2.1 (T f).2.2.1 = some x → s.fieldFound? ref (T f).2.1 (T f).2.2.1 = some x) (hfin : (T f).2.2.2 = false ∨ ((T f).2.2.2 = true ∧ meth.name = "<init>" ∧ (T f).1 = own)) {v : Value} (hn : narrow (ty f) v = v) (hfit : fits (ty f) v = true) (hdg : decode cc pc = .ok (.putfield index, 3))
    (kk : ∀ (H1 : Heap) (locs1 : List Loc), wG D dA A (wr_s w r (a, .inr (ci, fs.set f v))) s H1 locs1 → W p l e R s m args below meth c H1 locs1 cells slots Q (F0 m (pc + 3) ls rest)) : W p l e R s m args below meth c H locs cells slots Q (F0 m pc ls (v :: .ref a :: rest)) := by
  obtain ⟨hx, hb, hml, hown, hts⟩ := S
  obtain ⟨hP, hK, hD, hS, hT⟩ := G
  obtain ⟨q0, h2, h3⟩ := wr_pos (N := 130) hr hw
  rcases hfin with hfin | ⟨hfin, hin2, hdecl⟩
  · refine va_put (D := D) (ci := ci) (C := Cl) (T := T) (N := N) hx hb hts hin ty hty hnm hown hK hP hD hS q0 h2 hc f hf (hts _ hq) hsame hfin (hty f hf) hn hfit (by rw [hl]; exact hf) hdg (fun H1 locs1 hP1 hD1 hS1 => ?_)
    rw [h3] at hP1 hD1
    exact kk H1 locs1 ⟨hP1, hK, hD1, hS1, hT⟩
  · refine va_putF (D := D) (ci := ci) (C := Cl) (T := T) (N := N) hx hb hts hin ty hty hnm hown hK hP hD hS q0 h2 hc f hf (hts _ hq) hsame hfin hin2 hdecl (hty f hf) hn hfit (by rw [hl]; exact hf) hdg (fun H1 locs1 hP1 hD1 hS1 => ?_)
    rw [h3] at hP1 hD1
    exact kk H1 locs1 ⟨hP1, hK, hD1, hS1, hT⟩
theorem oo_get {ci : Nat} {Cl : String} {T : u_T} {N : Nat} (S : CallFix p m c cc nL s args lw_all own) (G : wG D dA A w s H locs) (hc : tp_cl[ci]? = some (Cl, T, N)) (hin : ∀ w ∈ u_ws Cl T N, w ∈ lw_all) {r a : Nat} {fs : List Value} (hr : r < 130) (hw : w r = some (a, .inr (ci, fs))) (f : Nat) (hf : f < N) {index : Nat} {ref : String} (hq : Cond.fieldLink own index ref (T f).2.1 (T f).2.2.1 ∈ lw_all) (hsame : ∀ x, s.fieldFound? (T f).1 (T f).2.1 (T f).2.2.1 = some x → s.fieldFound? ref (T f).2.1 (T f).2.2.1 = some x) {v : Value} (hv : fs[f]? = some v) (hdg : decode cc pc = .ok (.getfield index, 3))
    (kk : W p l e R s m args below meth c H locs cells slots Q (F0 m (pc + 3) ls (v :: rest))) : W p l e R s m args below meth c H locs cells slots Q (F0 m pc ls (.ref a :: rest)) := by
  obtain ⟨hx, hb, hml, hown, hts⟩ := S
  obtain ⟨hP, hK, hD, hS, hT⟩ := G
  obtain ⟨q0, h2, -⟩ := wr_pos (N := 130) hr hw
  exact va_get (D := D) (ci := ci) (C := Cl) (T := T) (N := N) hx hb hts hin hown hK hP q0 h2 hc f hf (hts _ hq) hsame hv hdg kk
/-- arrays are made -/
theorem oo_newI (S : CallFix p m c cc nL s args lw_all own) (G : wG D dA A w s H locs) (hA : ∀ q, s.heap.size ≤ q → A q) {r n : Nat} (hr : r < 130) (hw : w r = none) (hn : n ≤ 1000) (hcells : cells + 1 ≤ R.cells) (hslots : slots + n ≤ R.slots) (hdg : decode cc pc = .ok (.newarray .int, 2))
    (kk : ∀ (q : Nat) (H1 : Heap), wG D dA A (wr_s w r (q, e_I (dA 0) n (fun _ => 0))) s H1 locs → W p l e R s m args below meth c H1 locs (cells + 1) (slots + n) Q (F0 m (pc + 2) ls (.ref q :: rest))) : W p l e R s m args below meth c H locs cells slots Q (F0 m pc ls (.int (nI n) :: rest)) := by
  obtain ⟨hx, hb, hml, hown, hts⟩ := S
  obtain ⟨hP, hK, hD, hS, hT⟩ := G
  refine va_newa hx hb (atype := .int) (hts _ q141) (ty := .int) rfl hK hP hD hS hA (n := nI n) (N' := n) (a0 := (n, .inl (fun _ => 0))) (fun cA => rfl) (nI_pos (by omega)) (nI_clamp (by omega)) (by show n * 4 ≤ _; omega) hcells hslots hdg (fun q cA H1 hK1 hP1 hD1 hS1 => ?_)
  have e1 : cA = dA 0 := by
    have h1 := (hK1.2 (tp_ty dA).length (cA, .int) (by rw [List.getElem?_append_right (Nat.le_refl _)]; simp)).2
    have h2 := (hK.2 0 (dA 0, .int) rfl).2
    exact Option.some.inj (h1.symm.trans h2)
  subst e1
  obtain ⟨a1, a2⟩ := wG_new hr hw hP1 hD1
  exact kk q H1 ⟨a1, hK, a2, hS1, hT⟩
theorem oo_newZ (S : CallFix p m c cc nL s args lw_all own) (G : wG D dA A w s H locs) (hA : ∀ q, s.heap.size ≤ q → A q) {r n : Nat} (hr : r < 130) (hw : w r = none) (hn : n ≤ 1000) (hcells : cells + 1 ≤ R.cells) (hslots : slots + n ≤ R.slots) (hdg : decode cc pc = .ok (.newarray .boolean, 2))
    (kk : ∀ (q : Nat) (H1 : Heap), wG D dA A (wr_s w r (q, e_I (dA 1) n (fun _ => 0))) s H1 locs → W p l e R s m args below meth c H1 locs (cells + 1) (slots + n) Q (F0 m (pc + 2) ls (.ref q :: rest))) : W p l e R s m args below meth c H locs cells slots Q (F0 m pc ls (.int (nI n) :: rest)) := by
  obtain ⟨hx, hb, hml, hown, hts⟩ := S
  obtain ⟨hP, hK, hD, hS, hT⟩ := G
  refine va_newa hx hb (atype := .boolean) (hts _ q144) (ty := .boolean) rfl hK hP hD hS hA (n := nI n) (N' := n) (a0 := (n, .inl (fun _ => 0))) (fun cA => rfl) (nI_pos (by omega)) (nI_clamp (by omega)) (by show n * 1 ≤ _; omega) hcells hslots hdg (fun q cA H1 hK1 hP1 hD1 hS1 => ?_)
  have e1 : cA = dA 1 := by
    have h1 := (hK1.2 (tp_ty dA).length (cA, .boolean) (by rw [List.getElem?_append_right (Nat.le_refl _)]; simp)).2
    have h2 := (hK.2 1 (dA 1, .boolean) rfl).2
    exact Option.some.inj (h1.symm.trans h2)
  subst e1
  obtain ⟨a1, a2⟩ := wG_new hr hw hP1 hD1
  exact kk q H1 ⟨a1, hK, a2, hS1, hT⟩
theorem oo_newL (S : CallFix p m c cc nL s args lw_all own) (G : wG D dA A w s H locs) (hA : ∀ q, s.heap.size ≤ q → A q) {r n : Nat} (hr : r < 130) (hw : w r = none) (hn : n ≤ 1000) (hcells : cells + 1 ≤ R.cells) (hslots : slots + n ≤ R.slots) (hdg : decode cc pc = .ok (.newarray .long, 2))
    (kk : ∀ (q : Nat) (H1 : Heap), wG D dA A (wr_s w r (q, e_L (dA 4) n (fun _ => 0))) s H1 locs → W p l e R s m args below meth c H1 locs (cells + 1) (slots + n) Q (F0 m (pc + 2) ls (.ref q :: rest))) : W p l e R s m args below meth c H locs cells slots Q (F0 m pc ls (.int (nI n) :: rest)) := by
  obtain ⟨hx, hb, hml, hown, hts⟩ := S
  obtain ⟨hP, hK, hD, hS, hT⟩ := G
  refine va_newa hx hb (atype := .long) (hts _ q143) (ty := .long) rfl hK hP hD hS hA (n := nI n) (N' := n) (a0 := (n, .inr (.inl (fun _ => 0)))) (fun cA => rfl) (nI_pos (by omega)) (nI_clamp (by omega)) (by show n * 8 ≤ _; omega) hcells hslots hdg (fun q cA H1 hK1 hP1 hD1 hS1 => ?_)
  have e1 : cA = dA 4 := by
    have h1 := (hK1.2 (tp_ty dA).length (cA, .long) (by rw [List.getElem?_append_right (Nat.le_refl _)]; simp)).2
    have h2 := (hK.2 4 (dA 4, .long) rfl).2
    exact Option.some.inj (h1.symm.trans h2)
  subst e1
  obtain ⟨a1, a2⟩ := wG_new hr hw hP1 hD1
  exact kk q H1 ⟨a1, hK, a2, hS1, hT⟩
theorem oo_newQ (S : CallFix p m c cc nL s args lw_all own) (G : wG D dA A w s H locs) (hA : ∀ q, s.heap.size ≤ q → A q) {r n index : Nat} (q1 : Cond.classLink own index "TwinPanel$Module" ∈ lw_all) (hr : r < 130) (hw : w r = none) (hn : n ≤ 1000) (hcells : cells + 1 ≤ R.cells) (hslots : slots + n ≤ R.slots) (hdg : decode cc pc = .ok (.anewarray index, 3))
    (kk : ∀ (q : Nat) (H1 : Heap), wG D dA A (wr_s w r (q, e_Q (dA 5) n (fun _ => none))) s H1 locs → W p l e R s m args below meth c H1 locs (cells + 1) (slots + n) Q (F0 m (pc + 3) ls (.ref q :: rest))) : W p l e R s m args below meth c H locs cells slots Q (F0 m pc ls (.int (nI n) :: rest)) := by
  obtain ⟨hx, hb, hml, hown, hts⟩ := S
  obtain ⟨hP, hK, hD, hS, hT⟩ := G
  refine va_newq hx hb hown (hts _ q1) hT.1 hK hP hD hS hA (n := nI n) (N' := n) (nI_pos (by omega)) (nI_clamp (by omega)) (by omega) hcells hslots hdg (fun q cA H1 hK1 hP1 hD1 hS1 => ?_)
  have e1 : cA = dA 5 := by
    have h1 := (hK1.2 (tp_ty dA).length (cA, .object "TwinPanel$Module") (by rw [List.getElem?_append_right (Nat.le_refl _)]; simp)).2
    have h2 := (hK.2 5 (dA 5, .object "TwinPanel$Module") rfl).2
    obtain ⟨_, _, _, _, _, h3⟩ := h1
    obtain ⟨_, _, _, _, _, h4⟩ := h2
    exact Option.some.inj (h3.symm.trans h4)
  subst e1
  obtain ⟨a1, a2⟩ := wG_new hr hw hP1 hD1
  exact kk q H1 ⟨a1, hK, a2, hS1, hT⟩
end TA2_
