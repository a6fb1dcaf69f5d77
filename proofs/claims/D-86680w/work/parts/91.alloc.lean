/-! contracts that make cells -/
def xB (A : Nat → Prop) (z : Nat) : Nat → Prop := fun q => A q ∨ z ≤ q
abbrev rmN (h mc ms : Nat) : Room := { frames := h, cells := mc, slots := ms, locals := 48 * h }
abbrev xQN (D : va_G) (dA : Nat → ClassId) (C : tp_C) (d : md_T) (j : xj_T) (sz : Nat) (P : Option Value → tp_C → md_T → xj_T → Prop) : Array Value → State → Outcome → State → Prop := fun _ st oc t => (∃ o C' d' j', oc = .returned o ∧ P o C' d' j' ∧ xI D dA (xB (xA dA C d j) sz) C' d' j' t) ∧ va_F (xA dA C d j) st t
def xN (l : Launch) (D : va_G) (dA : Nat → ClassId) (y : MethodName) (b : ByteArray) (L : Nat) (r : Option FieldType) (h mc ms : Nat) (As : List Value) (C : tp_C) (d : md_T) (j : xj_T) (P : Option Value → tp_C → md_T → xj_T → Prop) : Prop :=
  ∀ sz : Nat, Met l y (ws_ y b L r) (rmN h mc ms) (va_Pc As (fun U => U.heap.size = sz ∧ xI D dA (xA dA C d j) C d j U ∧ xT (xA dA C d j) U)) (xQN D dA C d j sz P) mc ms (xB (xA dA C d j) sz)
theorem xT_grow {A : Nat → Prop} {s : State} (h : xT A s) : xT (xB A s.heap.size) s := by
  refine ⟨h.1, h.2.1, h.2.2.1, h.2.2.2.1, ?_⟩
  obtain ⟨cf, kf, fi, f, a, cell, h1, h2, h3, h4, h5, h6, h7, h8⟩ := h.2.2.2.2
  refine ⟨cf, kf, fi, f, a, cell, h1, h2, h3, h4, h5, h6, h7, ?_⟩
  rintro (q | q)
  · exact h8 q
  · have := (Array.getElem?_eq_some_iff.mp h5).1; omega
section TA1_
variable {p : Program} {l : Launch} {e : Env} {R : Room} {s : State} {m : MethodId} {args : Array Value} {below : List Frame} {meth : Method} {c : Code} {H : Heap} {locs : List Loc} {cells slots : Nat} {Q : State → Prop}
variable {cc : ByteArray} {pc nL : Nat} {ls : Array Slot} {rest st0 : List Value} {D : va_G} {dA : Nat → ClassId} {A : Nat → Prop} {C C' : tp_C} {d d' : md_T} {j j' : xj_T} {own : String} {P : Option Value → tp_C → md_T → xj_T → Prop}
theorem xx_startN {y : MethodName} {n h mc ms : Nat} {ret : Option FieldType} {As : List Value} (hy : plainName y.cls = true) (hc : y.cls = own) (hle : (lg_sl As).length ≤ n)
    (body : ∀ (p : Program) (e : Env) (s : State) (m : MethodId) (below : List Frame) (meth : Method) (c : Code) (ls : Array Slot), CallFix p m c cc n s As.toArray lw_all own → meth.sig.returnType = ret → meth.locks = false → xG D dA (xB (xA dA C d j) s.heap.size) C d j s s.heap [] → lv_has ls n (lv_args 0 As) → W p l e (rmN h mc ms) s m As.toArray below meth c s.heap [] 0 0 (MQ below (xQN D dA C d j s.heap.size P) As.toArray s mc ms (xB (xA dA C d j) s.heap.size)) (F0 m 0 ls [])) : xN l D dA y cc n ret h mc ms As C d j P := by
  intro sz
  refine Met.ofW (cc := cc) (maxL := n) (ret := ret) hy rfl ?_
  intro p e s m args below meth c s₁ B hml hv
  obtain ⟨rfl, rfl, ⟨hP, hK, hD⟩, hT⟩ := hv
  have hts := atoms_spec (ws := ws_ y cc n ret) B.pre
  have hts : ∀ w ∈ lw_all, w.before _ s = true := fun w h => hts w (List.mem_cons_of_mem _ h)
  have hown : s.vm.findClass own = some m.cls := by rw [← hc]; exact findClass_of_methodNamed B.named
  have hl := lv_entry As (n := n) hle
  rw [lg_entry_eq]
  exact body p e s m below meth c _ ⟨B.exec, B.bytes, hml, hown, hts⟩ B.returns B.notSynchronized ⟨hP, hK, hD.weaken (fun _ _ _ h => Or.inl h), va_S.rf, xT_grow hT⟩ hl
theorem xN_F {C0 : tp_C} {d0 : md_T} {j0 : xj_T} {t : State} (h : va_S (xB (xA dA C0 d0 j0) s.heap.size) s.heap H locs) (ht : t.heap = H) : va_F (xA dA C0 d0 j0) s t := ⟨by rw [ht]; exact h.1, fun q h1 h2 => by rw [ht]; exact h.2.1 q h1 (fun z => z.elim h2 (fun z => by omega))⟩
theorem xx_vretN {C0 : tp_C} {d0 : md_T} {j0 : xj_T} {mc ms : Nat} (S : CallFix p m c cc nL s args lw_all own) (hr : meth.sig.returnType = none) (hlocks : meth.locks = false) (G : xG D dA (xB (xA dA C0 d0 j0) s.heap.size) C d j s H locs) (hc : cells ≤ mc) (hs : slots ≤ ms) (hP : P none C d j) (hdg : decode cc pc = .ok (.return_, 1)) : W p l e R s m args below meth c H locs cells slots (MQ below (xQN D dA C0 d0 j0 s.heap.size P) args s mc ms (xB (xA dA C0 d0 j0) s.heap.size)) (F0 m pc ls []) := by
  obtain ⟨hPP, hK, hD, hS, hT⟩ := G
  refine W.widen hc hs ?_
  exact W.vret S.1 S.2.1 hr (fun t ht hW => ⟨⟨none, C, d, j, rfl, hP, by rw [ht]; exact hPP, va_K.moved hW.alike hK, hD⟩, xN_F hS ht⟩) hS.2.2 hdg
theorem xx_iretN {C0 : tp_C} {d0 : md_T} {j0 : xj_T} {mc ms : Nat} {v : Int32} (S : CallFix p m c cc nL s args lw_all own) (hr : meth.sig.returnType = some .int) (hlocks : meth.locks = false) (G : xG D dA (xB (xA dA C0 d0 j0) s.heap.size) C d j s H locs) (hc : cells ≤ mc) (hs : slots ≤ ms) (hP : P (some (.int v)) C d j) (hdg : decode cc pc = .ok (.ireturn, 1)) : W p l e R s m args below meth c H locs cells slots (MQ below (xQN D dA C0 d0 j0 s.heap.size P) args s mc ms (xB (xA dA C0 d0 j0) s.heap.size)) (F0 m pc ls [.int v]) := by
  obtain ⟨hPP, hK, hD, hS, hT⟩ := G
  refine W.widen hc hs ?_
  exact W.iret S.1 S.2.1 hr (fun t ht hW => ⟨⟨_, C, d, j, rfl, hP, by rw [ht]; exact hPP, va_K.moved hW.alike hK, hD⟩, xN_F hS ht⟩) hS.2.2 hdg
theorem xx_lretN {C0 : tp_C} {d0 : md_T} {j0 : xj_T} {mc ms : Nat} {v : Int64} (S : CallFix p m c cc nL s args lw_all own) (hr : meth.sig.returnType = some .long) (hlocks : meth.locks = false) (G : xG D dA (xB (xA dA C0 d0 j0) s.heap.size) C d j s H locs) (hc : cells ≤ mc) (hs : slots ≤ ms) (hP : P (some (.long v)) C d j) (hdg : decode cc pc = .ok (.lreturn, 1)) : W p l e R s m args below meth c H locs cells slots (MQ below (xQN D dA C0 d0 j0 s.heap.size P) args s mc ms (xB (xA dA C0 d0 j0) s.heap.size)) (F0 m pc ls [.long v]) := by
  obtain ⟨hPP, hK, hD, hS, hT⟩ := G
  refine W.widen hc hs ?_
  exact W.lret S.1 S.2.1 hr (fun t ht hW => ⟨⟨_, C, d, j, rfl, hP, by rw [ht]; exact hPP, va_K.moved hW.alike hK, hD⟩, xN_F hS ht⟩) hS.2.2 hdg
/-- behind a call that makes cells -/
theorem xx_afterN {mc ms : Nat} (G : xG D dA A C d j s H locs) (hA : ∀ q, s.heap.size ≤ q → A q) (hr : va_Run p l e R s m args below meth c H locs cells slots mc ms (F0 m pc ls st0) rest (fun st oc t => (∃ o C' d' j', oc = .returned o ∧ P o C' d' j' ∧ xI D dA (xB (xA dA C d j) H.size) C' d' j' t) ∧ va_F (xA dA C d j) st t) (xB (xA dA C d j) H.size))
    (kk : ∀ (o : Option Value) (C' : tp_C) (d' : md_T) (j' : xj_T) (H1 : Heap) (locs1 : List Loc), P o C' d' j' → xG D dA A C' d' j' s H1 locs1 → H.size ≤ H1.size → (∀ q, q < H.size → ¬ xA dA C d j q → H1[q]? = H[q]?) → (∀ q, xA dA C' d' j' q → xA dA C d j q ∨ H.size ≤ q) → W p l e R s m args below meth c H1 locs1 (cells + mc) (slots + ms) Q (F0 m (pc + 3) ls (o.toList ++ rest))) : W p l e R s m args below meth c H locs cells slots Q (F0 m pc ls st0) := by
  obtain ⟨hP, hK, hD, hS, hT⟩ := G
  refine wr_call hr (fun v st₀ t L h0 hvm hq hL => ?_)
  obtain ⟨⟨o, C', d', j', hv, hp, hP1, hK1, hD1⟩, hz, hk⟩ := hq
  cases hv
  rw [h0] at hz hk
  have hin := xA_in hD
  have hB : ∀ q, xB (xA dA C d j) H.size q → A q := fun q h => h.elim (hin q) (fun h => hA q (Nat.le_trans hS.1 h))
  refine kk _ C' d' j' t.heap (locs ++ L) hp ⟨hP1, va_K.moved hvm.symm hK1, hD1.weaken (fun _ q _ h => hB q.1 h), ⟨Nat.le_trans hS.1 hz, fun q h1 h2 => ?_, fun q hq => ?_⟩, hT⟩ hz (fun q h1 h2 => hk q h1 h2) (fun q hq => ?_)
  · rw [hk q (Nat.lt_of_lt_of_le h1 hS.1) (fun z => h2 (hin q z))]; exact hS.2.1 q h1 h2
  · rcases List.mem_append.mp hq with h | h
    · exact hS.2.2 q h
    · exact hB _ (hL q h)
  · obtain ⟨r, x, hr', hx⟩ := hq
    exact (wr_D.mp hD1).2 r (q, x) hr' hx
theorem xI_blindN {As : List Value} {sz : Nat} : FrameBlind (va_Pc As (fun U => U.heap.size = sz ∧ xI D dA A C d j U ∧ xT A U)) := fun a U g mk q => ⟨q.1, q.2.1, ⟨q.2.2.1.1, va_K.moved (Vm.Alike.refl U.vm) q.2.2.1.2.1, q.2.2.1.2.2⟩, xT_same rfl rfl q.2.2.2⟩
theorem xx_preN (G : xG D dA A C d j s H locs) {As : List Value} : ∀ U : State, U.heap = H → s.WarmedH U.vm → va_Pc As (fun U => U.heap.size = H.size ∧ xI D dA (xA dA C d j) C d j U ∧ xT (xA dA C d j) U) As.toArray U := fun U hU hW => ⟨rfl, by rw [hU], (xx_pre (As := As) G U hU hW).2⟩
theorem xx_callPN {y : MethodName} {b : ByteArray} {L n index h mc ms : Nat} {r : Option FieldType} {As : List Value} (S : CallFix p m c cc nL s args lw_all own) (G : xG D dA A C d j s H locs) (hA : ∀ q, s.heap.size ≤ q → A q) (hM : xN l D dA y b L r h mc ms (.ref (jA j 0) :: As) C d j P) (q1 : Cond.methodLink own index y ∈ lw_all) (q2 : Cond.instanceMethod y ∈ lw_all) (q3 : Cond.selects RX0 y y ∈ lw_all) (q4 : Cond.code y b L r ∈ lw_all)
    (hd : y.cls = RX0 ∧ y.cls ≠ "java/lang/invoke/MethodHandle" ∧ y.cls ≠ "java/lang/invoke/VarHandle" ∧ (parseMethodDescriptor y.desc).map (fun d => d.parameters.length) = some n) (hR : h + 1 ≤ R.frames ∧ 8 + (L + 11) + 48 * h ≤ R.locals) (hn : As.length = n) (hsz : ls.size = nL) (hst : st0 = As.reverse ++ .ref (jA j 0) :: rest) (hW : (rest.map fun v => v.category).sum ≤ 8) (hdg : decode cc pc = .ok (.invokevirtual index, 3)) (hf : cells + mc ≤ R.cells ∧ slots + ms ≤ R.slots)
    (kk : ∀ (o : Option Value) (C' : tp_C) (d' : md_T) (j' : xj_T) (H1 : Heap) (locs1 : List Loc), P o C' d' j' → xG D dA A C' d' j' s H1 locs1 → H.size ≤ H1.size → (∀ q, q < H.size → ¬ xA dA C d j q → H1[q]? = H[q]?) → (∀ q, xA dA C' d' j' q → xA dA C d j q ∨ H.size ≤ q) → W p l e R s m args below meth c H1 locs1 (cells + mc) (slots + ms) Q (F0 m (pc + 3) ls (o.toList ++ rest))) : W p l e R s m args below meth c H locs cells slots Q (F0 m pc ls st0) := by
  obtain ⟨hP, hK, hD, hS, hT⟩ := id G
  obtain ⟨q0, h2, -⟩ := wr_pos (N := 130) (r := 0) (by decide) (xW_p (dA := dA) (C := C) (d := d) (j := j) (r := 0) (by decide) rfl)
  have hr := va_runV (As := As) (rest := rest) (g := F0 m pc ls st0) (locs := locs) (cells := cells) (slots := slots) (H := H) (below := below) (meth := meth) (e := e) S (hM H.size) (cwV (R := R) (C := RX0) n S.2.2.2.2 (lw_V q1 q2 q3 q52 q4) rfl rfl rfl hd hR) ⟨xI_blindN, va_recv hK hP (ci := 0) (q0 := q0) rfl h2, xx_preN G⟩ rfl hn hsz hst (lv_room hW) hdg hf
  exact xx_afterN G hA hr kk
theorem xx_callMN {x y : MethodName} {b : ByteArray} {L n index h mc ms mm : Nat} {r : Option FieldType} {owner : String} {As : List Value} (S : CallFix p m c cc nL s args lw_all own) (G : xG D dA A C d j s H locs) (hA : ∀ q, s.heap.size ≤ q → A q) (hmm : mm < cN C) (hN : cN C ≤ 20) (hk : cK C mm < 14) (hM : xN l D dA y b L r h mc ms (.ref (jA j (xr mm 0)) :: As) C d j P)
    (cw : va_CU R s args own (kC (cK C mm)) owner index x y b L r (ws_ y b L r) (rmN h mc ms) mc ms n) (hn : As.length = n) (hsz : ls.size = nL) (hst : st0 = As.reverse ++ .ref (jA j (xr mm 0)) :: rest) (hW : (rest.map fun v => v.category).sum ≤ 8) (hdg : decode cc pc = .ok (.invokevirtual index, 3)) (hf : cells + mc ≤ R.cells ∧ slots + ms ≤ R.slots)
    (kk : ∀ (o : Option Value) (C' : tp_C) (d' : md_T) (j' : xj_T) (H1 : Heap) (locs1 : List Loc), P o C' d' j' → xG D dA A C' d' j' s H1 locs1 → H.size ≤ H1.size → (∀ q, q < H.size → ¬ xA dA C d j q → H1[q]? = H[q]?) → (∀ q, xA dA C' d' j' q → xA dA C d j q ∨ H.size ≤ q) → W p l e R s m args below meth c H1 locs1 (cells + mc) (slots + ms) Q (F0 m (pc + 3) ls (o.toList ++ rest))) : W p l e R s m args below meth c H locs cells slots Q (F0 m pc ls st0) := by
  obtain ⟨hP, hK, hD, hS, hT⟩ := id G
  obtain ⟨q0, h2, -⟩ := wr_pos (N := 130) (r := xr mm 0) (xr_lt (by decide) (by omega)) (xW_m (dA := dA) (C := C) (d := d) (j := j) (m := mm) (i := 0) (by decide) hmm rfl)
  have hr := va_runU (As := As) (rest := rest) (g := F0 m pc ls st0) (locs := locs) (cells := cells) (slots := slots) (H := H) (below := below) (meth := meth) (e := e) S (hM H.size) cw ⟨xI_blindN, va_recv hK hP (ci := cK C mm + 2) (q0 := q0) (k_cl hk) h2, xx_preN G⟩ rfl hn hsz hst (lv_room hW) hdg hf
  exact xx_afterN G hA hr kk
/-- an overriding method that makes cells -/
theorem xx_cwON {n index L h mc ms : Nat} {x y : MethodName} {b : ByteArray} {r : Option FieldType} {owner Cl : String} (hts : ∀ w ∈ lw_all, w.before args s = true) (q1 : Cond.methodLink own index x ∈ lw_all) (q2 : Cond.sameMethod x.cls owner x.name x.desc ∈ lw_all) (q0 : Cond.instanceMethod ⟨owner, x.name, x.desc⟩ ∈ lw_all) (q3 : Cond.selects Cl x y ∈ lw_all) (q4 : Cond.instanceMethod y ∈ lw_all) (q5 : Cond.initialized y.cls ∈ lw_all) (q6 : Cond.code y b L r ∈ lw_all) {b0 : ByteArray} {m0 : Nat} {r0 : Option FieldType} (h0 : Cond.code ⟨owner, x.name, x.desc⟩ b0 m0 r0 ∈ lw_all) (hd : owner ≠ "java/lang/invoke/MethodHandle" ∧ owner ≠ "java/lang/invoke/VarHandle" ∧ (parseMethodDescriptor x.desc).map (fun d => d.parameters.length) = some n) (hR : h + 1 ≤ R.frames ∧ 8 + (L + 11) + 48 * h ≤ R.locals) : va_CU R s args own Cl owner index x y b L r (ws_ y b L r) (rmN h mc ms) mc ms n := va_cwO n hts (lw_O q1 q2 q0 q3 q4 q5 q6) rfl rfl rfl h0 hd hR
/-- worlds of roles: a cell is made -/
theorem wG_new {w : wr_F} {r q : Nat} {x : va_E} (hr : r < 130) (hw : w r = none) (hP : va_P D tp_cl (wr_l 130 w ++ [(q, x)]) H) (hD : va_D A (wr_l 130 w ++ [(q, x)])) : va_P D tp_cl (wr_l 130 (wr_s w r (q, x))) H ∧ va_D A (wr_l 130 (wr_s w r (q, x))) := by
  have last : (wr_l 130 w ++ [(q, x)])[(wr_l 130 w).length]? = some (q, x) := by rw [List.getElem?_append_right (Nat.le_refl _)]; simp
  have lft : ∀ {k : Nat} {y : Nat × va_E}, (wr_l 130 w)[k]? = some y → (wr_l 130 w ++ [(q, x)])[k]? = some y := fun hk => by rw [List.getElem?_append_left (List.getElem?_eq_some_iff.mp hk).1]; exact hk
  have hP0 : va_P D tp_cl (wr_l 130 w) H := fun k y hk => hP k y (lft hk)
  have hD0 : va_D A (wr_l 130 w) := ⟨fun i k p y hi hk hxy => hD.1 i k p y (lft hi) (lft hk) hxy, fun k y hk => hD.2 k y (lft hk)⟩
  have ne : ∀ r' y, r' < 130 → w r' = some y → y.1 ≠ q := fun r' y hr' hy e => by
    obtain ⟨k, h1, -⟩ := wr_pos hr' hy
    have h2 := hD.1 k _ _ _ (lft h1) last e
    have h3 := (List.getElem?_eq_some_iff.mp h1).1
    omega
  refine ⟨wr_P.mpr (fun r' y hr' hy => ?_), wr_D.mpr ⟨fun i k p' y hi hk hpi hyk hxy => ?_, fun r' y hr' hy => ?_⟩⟩
  · unfold wr_s at hy
    split at hy
    · cases hy; exact hP _ _ last
    · exact wr_P.mp hP0 r' y hr' hy
  · unfold wr_s at hpi hyk
    split at hpi <;> split at hyk
    · omega
    · cases hpi; exact absurd hxy.symm (ne k y hk hyk)
    · cases hyk; exact absurd hxy (ne i p' hi hpi)
    · exact (wr_D.mp hD0).1 i k p' y hi hk hpi hyk hxy
  · unfold wr_s at hy
    split at hy
    · cases hy; exact hD.2 _ _ last
    · exact (wr_D.mp hD0).2 r' y hr' hy
/-- part of a world, the roles moved -/
theorem wG_sub {w w' : wr_F} (f : Nat → Nat) (hf : ∀ r, r < 130 → ∀ y, w' r = some y → f r < 130 ∧ w (f r) = some y) (hi : ∀ r r', r < 130 → r' < 130 → (w' r).isSome = true → (w' r').isSome = true → f r = f r' → r = r') (G : wG D dA A w s H locs) : wG D dA A w' s H locs := by
  obtain ⟨hP, hK, hD, hS, hT⟩ := G
  refine ⟨wr_P.mpr (fun r y hr hy => wr_P.mp hP _ y (hf r hr y hy).1 (hf r hr y hy).2), hK, wr_D.mpr ⟨fun i k p' y hi' hk hpi hyk hxy => ?_, fun r y hr hy => (wr_D.mp hD).2 _ y (hf r hr y hy).1 (hf r hr y hy).2⟩, hS, hT⟩
  exact hi i k hi' hk (by rw [hpi]; rfl) (by rw [hyk]; rfl) ((wr_D.mp hD).1 _ _ p' y (hf i hi' p' hpi).1 (hf k hk y hyk).1 (hf i hi' p' hpi).2 (hf k hk y hyk).2 hxy)
/-- an array of doubles is made -/
theorem ww_newD {w : wr_F} (S : CallFix p m c cc nL s args lw_all own) (G : wG D dA A w s H locs) (hA : ∀ q, s.heap.size ≤ q → A q) {r n : Nat} (hr : r < 130) (hw : w r = none) (hn : n ≤ 1000) (hcells : cells + 1 ≤ R.cells) (hslots : slots + n ≤ R.slots) (hdg : decode cc pc = .ok (.newarray .double, 2))
    (kk : ∀ (q : Nat) (H1 : Heap), wG D dA A (wr_s w r (q, e_D (dA 2) n (fun _ => FP.dconst0))) s H1 locs → W p l e R s m args below meth c H1 locs (cells + 1) (slots + n) Q (F0 m (pc + 2) ls (.ref q :: rest))) : W p l e R s m args below meth c H locs cells slots Q (F0 m pc ls (.int (nI n) :: rest)) := by
  obtain ⟨hx, hb, hml, hown, hts⟩ := S
  obtain ⟨hP, hK, hD, hS, hT⟩ := G
  refine va_newa hx hb (atype := .double) (hts _ q142) (ty := .double) rfl hK hP hD hS hA (n := nI n) (N' := n) (a0 := (n, .inr (.inr (.inr (.inl (fun _ => FP.dconst0)))))) (fun cA => rfl) (nI_pos (by omega)) (nI_clamp (by omega)) (by show n * 8 ≤ _; omega) hcells hslots hdg (fun q cA H1 hK1 hP1 hD1 hS1 => ?_)
  have e1 : cA = dA 2 := by
    have h1 := (hK1.2 (tp_ty dA).length (cA, .double) (by rw [List.getElem?_append_right (Nat.le_refl _)]; simp)).2
    have h2 := (hK.2 2 (dA 2, .double) rfl).2
    exact Option.some.inj (h1.symm.trans h2)
  subst e1
  obtain ⟨a1, a2⟩ := wG_new hr hw hP1 hD1
  exact kk q H1 ⟨a1, hK, a2, hS1, hT⟩
theorem ww_newF {w : wr_F} (S : CallFix p m c cc nL s args lw_all own) (G : wG D dA A w s H locs) (hA : ∀ q, s.heap.size ≤ q → A q) {r n : Nat} (hr : r < 130) (hw : w r = none) (hn : n ≤ 1000) (hcells : cells + 1 ≤ R.cells) (hslots : slots + n ≤ R.slots) (hdg : decode cc pc = .ok (.newarray .float, 2))
    (kk : ∀ (q : Nat) (H1 : Heap), wG D dA A (wr_s w r (q, e_F (dA 3) n (fun _ => FP.fconst0))) s H1 locs → W p l e R s m args below meth c H1 locs (cells + 1) (slots + n) Q (F0 m (pc + 2) ls (.ref q :: rest))) : W p l e R s m args below meth c H locs cells slots Q (F0 m pc ls (.int (nI n) :: rest)) := by
  obtain ⟨hx, hb, hml, hown, hts⟩ := S
  obtain ⟨hP, hK, hD, hS, hT⟩ := G
  refine va_newa hx hb (atype := .float) (hts _ q333) (ty := .float) rfl hK hP hD hS hA (n := nI n) (N' := n) (a0 := (n, .inr (.inr (.inl (fun _ => FP.fconst0))))) (fun cA => rfl) (nI_pos (by omega)) (nI_clamp (by omega)) (by show n * 4 ≤ _; omega) hcells hslots hdg (fun q cA H1 hK1 hP1 hD1 hS1 => ?_)
  have e1 : cA = dA 3 := by
    have h1 := (hK1.2 (tp_ty dA).length (cA, .float) (by rw [List.getElem?_append_right (Nat.le_refl _)]; simp)).2
    have h2 := (hK.2 3 (dA 3, .float) rfl).2
    exact Option.some.inj (h1.symm.trans h2)
  subst e1
  obtain ⟨a1, a2⟩ := wG_new hr hw hP1 hD1
  exact kk q H1 ⟨a1, hK, a2, hS1, hT⟩
/-- a module's field is written -/
theorem ww_put {w : wr_F} (S : CallFix p m c cc nL s args lw_all own) (G : wG D dA A w s H locs) {r a k : Nat} {fs : List Value} (hr : r < 130) (hw : w r = some (a, .inr (k + 2, fs))) (hk : k < 14) (hl : fs.length = kN k) (f : Nat) (hf : f < kN k) {index : Nat} {ref : String} (hq : Cond.fieldLink own index ref (kT k f).2.1 (kT k f).2.2.1 ∈ lw_all) (hsame : ∀ x, s.fieldFound? (kT k f).1 (kT k f).2.1 (kT k f).2.2.1 = some x → s.fieldFound? ref (kT k f).2.1 (kT k f).2.2.1 = some x) (hfin : (kT k f).2.2.2 = false) {v : Value} (hn : narrow (kTy k f) v = v) (hfit : fits (kTy k f) v = true) (hdg : decode cc pc = .ok (.putfield index, 3))
    (kk : ∀ (H1 : Heap) (locs1 : List Loc), wG D dA A (wr_s w r (a, .inr (k + 2, fs.set f v))) s H1 locs1 → W p l e R s m args below meth c H1 locs1 cells slots Q (F0 m (pc + 3) ls rest)) : W p l e R s m args below meth c H locs cells slots Q (F0 m pc ls (v :: .ref a :: rest)) := by
  obtain ⟨hx, hb, hml, hown, hts⟩ := S
  obtain ⟨hP, hK, hD, hS, hT⟩ := G
  obtain ⟨q0, h2, h3⟩ := wr_pos (N := 130) hr hw
  refine va_put (D := D) (ci := k + 2) (C := kC k) (T := kT k) (N := kN k) hx hb hts (k_in hk) (kTy k) (k_ty hk) (k_nm hk) hown hK hP hD hS q0 h2 (k_cl hk) f hf (hts _ hq) hsame hfin (k_ty hk f hf) hn hfit (by rw [hl]; exact hf) hdg (fun H1 locs1 hP1 hD1 hS1 => ?_)
  rw [h3] at hP1 hD1
  exact kk H1 locs1 ⟨hP1, hK, hD1, hS1, hT⟩
end TA1_
