/-! a twin: a new panel beside the panel -/
def fr_ (z : Nat) : Nat → Prop := fun q => z ≤ q
theorem xT_fr {A : Nat → Prop} {s : State} (h : xT A s) : xT (fr_ s.heap.size) s := by
  refine ⟨h.1, h.2.1, h.2.2.1, h.2.2.2.1, ?_⟩
  obtain ⟨cf, kf, fi, f, a, cell, h1, h2, h3, h4, h5, h6, h7, h8⟩ := h.2.2.2.2
  refine ⟨cf, kf, fi, f, a, cell, h1, h2, h3, h4, h5, h6, h7, fun q => ?_⟩
  have := (Array.getElem?_eq_some_iff.mp h5).1
  unfold fr_ at q; omega
/-- the contract of a method that leaves the panel as it is and makes a world of its own -/
abbrev tQ (D : va_G) (dA : Nat → ClassId) (sz : Nat) (P : Option Value → wr_F → Prop) : Array Value → State → Outcome → State → Prop := fun _ st oc t => (∃ o w', oc = .returned o ∧ P o w' ∧ gI D dA (fr_ sz) w' t) ∧ va_F (fr_ sz) st t
def tN (l : Launch) (D : va_G) (dA : Nat → ClassId) (y : MethodName) (b : ByteArray) (L : Nat) (r : Option FieldType) (h mc ms : Nat) (As : List Value) (C : tp_C) (d : md_T) (j : xj_T) (P : Option Value → wr_F → Prop) : Prop :=
  ∀ sz : Nat, Met l y (ws_ y b L r) (rmN h mc ms) (va_Pc As (fun U => U.heap.size = sz ∧ xI D dA (xA dA C d j) C d j U ∧ xT (xA dA C d j) U)) (tQ D dA sz P) mc ms (fr_ sz)
section TE1_
variable {p : Program} {l : Launch} {e : Env} {R : Room} {s : State} {m : MethodId} {args : Array Value} {below : List Frame} {meth : Method} {c : Code} {H : Heap} {locs : List Loc} {cells slots : Nat} {Q : State → Prop}
variable {cc : ByteArray} {pc nL : Nat} {ls : Array Slot} {rest st0 : List Value} {D : va_G} {dA : Nat → ClassId} {A : Nat → Prop} {own : String} {w : wr_F} {P : Option Value → wr_F → Prop} {C C' : tp_C} {d d' : md_T} {j j' : xj_T}
theorem tt_start {y : MethodName} {n h mc ms : Nat} {ret : Option FieldType} {As : List Value} (hy : plainName y.cls = true) (hc : y.cls = own) (hle : (lg_sl As).length ≤ n)
    (body : ∀ (p : Program) (e : Env) (s : State) (m : MethodId) (below : List Frame) (meth : Method) (c : Code) (ls : Array Slot), CallFix p m c cc n s As.toArray lw_all own → meth.sig.returnType = ret → meth.locks = false → xI D dA (xA dA C d j) C d j s → xT (xA dA C d j) s → wG D dA (fr_ s.heap.size) (fun _ => none) s s.heap [] → lv_has ls n (lv_args 0 As) → W p l e (rmN h mc ms) s m As.toArray below meth c s.heap [] 0 0 (MQ below (tQ D dA s.heap.size P) As.toArray s mc ms (fr_ s.heap.size)) (F0 m 0 ls [])) : tN l D dA y cc n ret h mc ms As C d j P := by
  intro sz
  refine Met.ofW (cc := cc) (maxL := n) (ret := ret) hy rfl ?_
  intro p e s m args below meth c s₁ B hml hv
  obtain ⟨rfl, rfl, hI, hT⟩ := hv
  have hts := atoms_spec (ws := ws_ y cc n ret) B.pre
  have hts : ∀ w ∈ lw_all, w.before _ s = true := fun w h => hts w (List.mem_cons_of_mem _ h)
  have hown : s.vm.findClass own = some m.cls := by rw [← hc]; exact findClass_of_methodNamed B.named
  have hl := lv_entry As (n := n) hle
  rw [lg_entry_eq]
  exact body p e s m below meth c _ ⟨B.exec, B.bytes, hml, hown, hts⟩ B.returns B.notSynchronized hI hT ⟨by rw [wr_none]; intro k q h; simp at h, hI.2.1, by rw [wr_none]; exact ⟨fun i k p' y h => by simp at h, fun k q h => by simp at h⟩, va_S.rf, xT_fr hT⟩ hl
theorem tt_aret {mc ms a : Nat} {cn : String} (S : CallFix p m c cc nL s args lw_all own) (hr : meth.sig.returnType = some (.object cn)) (hlocks : meth.locks = false) (G : wG D dA (fr_ s.heap.size) w s H locs) (hc : cells ≤ mc) (hs : slots ≤ ms) (hP : P (some (.ref a)) w) (hdg : decode cc pc = .ok (.areturn, 1)) : W p l e R s m args below meth c H locs cells slots (MQ below (tQ D dA s.heap.size P) args s mc ms (fr_ s.heap.size)) (F0 m pc ls [.ref a]) := by
  obtain ⟨hPP, hK, hD, hS, hT⟩ := G
  refine W.widen hc hs ?_
  exact W.aret S.1 S.2.1 hr (Or.inl ⟨_, rfl⟩) (Or.inr ⟨_, rfl⟩) (fun t ht hW => ⟨⟨_, w, rfl, hP, by rw [ht]; exact hPP, va_K.moved hW.alike hK, hD⟩, hS.F ht⟩) hS.2.2 hdg
/-- the panel is as it was, while new cells alone are written -/
theorem tw_x (hI : xI D dA (xA dA C d j) C d j s) (hT : xT (xA dA C d j) s) (G : wG D dA (fr_ s.heap.size) w s H locs) : xG D dA (xB (xA dA C d j) s.heap.size) C d j s H locs := by
  obtain ⟨hP, hK, hD⟩ := hI
  have hS := G.2.2.2.1
  refine ⟨wr_P.mpr (fun r y hr hy => ?_), hK, hD.weaken (fun _ _ _ h => Or.inl h), ⟨hS.1, fun q h1 h2 => hS.2.1 q h1 (fun z => h2 (Or.inr z)), fun q hq => Or.inr (hS.2.2 q hq)⟩, xT_grow hT⟩
  have h1 := wr_P.mp hP r y hr hy
  exact h1.kept (hS.2.1 _ h1.lt (fun z => by have := h1.lt; unfold fr_ at z; omega))
/-- what the panel's arrays hold, cell by cell -/
theorem tw_c {r : Nat} {a : Nat} {x : va_E} (G : xG D dA A C d j s H locs) (hr : r < 130) (hw : xW dA C d j r = some (a, x)) : va_at D tp_cl (a, x) H := wr_P.mp G.1 r _ hr hw
/-- an array of the panel's into one of the new world's -/
theorem tw_copyd {index : Nat} (S : CallFix p m c cc nL s args lw_all own) (G : wG D dA A w s H locs) {a0 a r n : Nat} {f g : Nat → UInt64} (hc0 : va_at D tp_cl (a0, e_D (dA 2) n f) H) (hr : r < 130) (hw : w r = some (a, e_D (dA 2) n g)) (q1 : Cond.methodLink own index arraycopyName ∈ lw_all) (q2 : Cond.native arraycopyName ∈ lw_all) (q3 : Cond.static arraycopyName ∈ lw_all) (q4 : Cond.initialized "java/lang/System" ∈ lw_all) {sp_ dp_ n_ : Int32} (hsp : sp_ = nI 0) (hdp : dp_ = nI 0) (hnn : n_ = nI n) (hn : n < 1000) (hsz : ls.size = nL) (hR : 1 ≤ R.frames) (hlo : (rest.map fun v => v.category).sum + (nativeFrameWords "java/lang/System" "arraycopy" 5 + 11) ≤ R.locals) (hdg : decode cc pc = .ok (.invokestatic index, 3))
    (kk : ∀ (H1 : Heap) (locs1 : List Loc), wG D dA A (wr_s w r (a, e_D (dA 2) n (va_cpy f g 0 0 n))) s H1 locs1 → W p l e R s m args below meth c H1 locs1 cells slots Q (F0 m (pc + 3) ls rest)) : W p l e R s m args below meth c H locs cells slots Q (F0 m pc ls (.int n_ :: .int dp_ :: .ref a :: .int sp_ :: .ref a0 :: rest)) := by
  obtain ⟨hx, hb, hml, hown, hts⟩ := S
  obtain ⟨hP, hK, hD, hS, hT⟩ := G
  obtain ⟨q0, ha1, hset⟩ := wr_pos (N := 130) hr hw
  subst hsp; subst hdp; subst hnn
  have e0 : (nI 0).toNatClampNeg = 0 := nI_clamp (by decide)
  have en : (nI n).toNatClampNeg = n := nI_clamp (by omega)
  have i0 : (nI 0).toInt = 0 := nI_toInt (by decide)
  have iN : (nI n).toInt = (n : Int) := nI_toInt (by omega)
  intro T hT2 X
  have hc0 : H[a0]? = some (vp_cell (dA 2) (n, .inr (.inr (.inr (.inl f))))) := hc0
  have hc1 : H[a]? = some (vp_cell (dA 2) (n, .inr (.inr (.inr (.inl g))))) := hP q0 _ ha1
  obtain ⟨-, k0, hk0, cm0, hkk0⟩ := (hK.2 2 (dA 2, .double) rfl).1 n (fun j => .double (f j))
  obtain ⟨vm', X', step⟩ := X.arraycopy hx hown (hts _ q1) (hts _ q2) (hts _ q3) (hts _ q4) (src := a0) (dst := a) (cs := vp_cell (dA 2) (n, .inr (.inr (.inr (.inl f))))) (cd := vp_cell (dA 2) (n, .inr (.inr (.inr (.inl g))))) (srcPos := nI 0) (destPos := nI 0) (n := nI n) (by rw [hT2]; exact hc0) (by rw [hT2]; exact hc1)
    (fun _ h => by cases h) (fun _ h => by cases h) (fun h => by cases h) (fun h => by cases h) hk0 hk0 hkk0 hkk0 rfl (nI_pos (by decide)) (nI_pos (by decide)) (nI_pos (by omega))
    (by rw [i0, iN]; show ¬ _ > ((arrV (dA 2) n (fun j => .double (f j))).slots.size : Int); rw [arrV_size]; omega)
    (by rw [i0, iN]; show ¬ _ > ((arrV (dA 2) n (fun j => .double (g j))).slots.size : Int); rw [arrV_size]; omega)
    (fun vm₁ _ i hi => by
      have hi : i < n := by rw [en] at hi; exact hi
      have e : (vp_cell (dA 2) (n, .inr (.inr (.inr (.inl f))))).slots.getD ((nI 0).toNatClampNeg + i) .null = .double (f ((nI 0).toNatClampNeg + i)) := by
        show (arrV (dA 2) n (fun j => .double (f j))).slots.getD _ _ = _
        rw [Array.getD_eq_getD_getElem?, arrV_read _ _ (by rw [e0]; omega)]
        rfl
      refine ⟨?_, ?_⟩
      · rw [e]; rfl
      · rw [e]; exact trivial)
    (g := F0 m pc ls (.int (nI n) :: .int (nI 0) :: .ref a :: .int (nI 0) :: .ref a0 :: rest)) rfl (hsz.trans hml.symm) (rest := rest) rfl (by rw [hb]; exact hdg) hR (by show 2 * 0 + _ + _ ≤ _; omega)
  have e1 : copied (vp_cell (dA 2) (n, .inr (.inr (.inr (.inl f))))) (vp_cell (dA 2) (n, .inr (.inr (.inr (.inl g))))) (nI 0) (nI 0) (nI n) = vp_cell (dA 2) (n, .inr (.inr (.inr (.inl (va_cpy f g (nI 0).toNatClampNeg (nI 0).toNatClampNeg (nI n).toNatClampNeg))))) := va_copied (fun z => .double z) (dA 2) (dA 2) f g (by rw [e0, en]; omega)
  rw [e0, en] at e1
  rw [e1] at X' step
  have hl : a < H.size := (Array.getElem?_eq_some_iff.mp hc1).1
  have hheap : ((T.setVm vm').setCell a (vp_cell (dA 2) (n, .inr (.inr (.inr (.inl (va_cpy f g 0 0 n))))))).heap = H.setIfInBounds a (vp_cell (dA 2) (n, .inr (.inr (.inr (.inl (va_cpy f g 0 0 n)))))) := by rw [← hT2]; rfl
  have oq : ∀ q : Nat, q ≠ a → (H.setIfInBounds a (vp_cell (dA 2) (n, .inr (.inr (.inr (.inl (va_cpy f g 0 0 n)))))))[q]? = H[q]? := fun q hq => by simp [Array.getElem?_setIfInBounds, Ne.symm hq]
  have hat : va_at D tp_cl (a, e_D (dA 2) n (va_cpy f g 0 0 n)) (H.setIfInBounds a (vp_cell (dA 2) (n, .inr (.inr (.inr (.inl (va_cpy f g 0 0 n))))))) := by
    show (H.setIfInBounds a _)[a]? = some _
    simp [Array.getElem?_setIfInBounds, hl]
  have hP1 : va_P D tp_cl ((wr_l 130 w).set q0 (a, e_D (dA 2) n (va_cpy f g 0 0 n))) _ := hP.set hD ha1 hat oq
  have hD1 : va_D A ((wr_l 130 w).set q0 (a, e_D (dA 2) n (va_cpy f g 0 0 n))) := hD.set ha1
  have es : (wr_l 130 w).set q0 (a, e_D (dA 2) n (va_cpy f g 0 0 n)) = wr_l 130 (wr_s w r (a, e_D (dA 2) n (va_cpy f g 0 0 n))) := hset _
  obtain ⟨t, a1, b1⟩ := kk _ _ ⟨by rw [← es]; exact hP1, hK, by rw [← es]; exact hD1, ⟨by simp; exact hS.1, fun q g1 g2 => by
      rw [oq q (fun e => g2 (by rw [e]; exact hD.2 q0 _ ha1))]
      exact hS.2.1 q g1 g2, fun q hq => by
      rcases List.mem_append.mp hq with h | h
      · exact hS.2.2 q h
      · obtain ⟨z, -, hz⟩ := List.mem_map.mp h
        rw [← hz]
        exact hD.2 q0 _ ha1⟩, hT⟩ _ hheap X'
  exact ⟨t, step t a1, b1⟩
/-- a cast of a module of any world -/
theorem ww_cast (S : CallFix p m c cc nL s args lw_all own) (G : wG D dA A w s H locs) {r a k : Nat} {fs : List Value} (hr : r < 130) (hw : w r = some (a, .inr (k + 2, fs))) (hk : k < 14) {index : Nat} (hq : Cond.classLink own index (kC k) ∈ lw_all) (hdg : decode cc pc = .ok (.checkcast index, 3))
    (kk : W p l e R s m args below meth c H locs cells slots Q (F0 m (pc + 3) ls (.ref a :: rest))) : W p l e R s m args below meth c H locs cells slots Q (F0 m pc ls (.ref a :: rest)) := by
  obtain ⟨hP, hK, hD, hS, hT⟩ := G
  obtain ⟨q0, h2, -⟩ := wr_pos (N := 130) hr hw
  exact va_castS S.1 S.2.1 S.2.2.2.1 (S.2.2.2.2 _ hq) (hK.1 _ _ (k_cl hk)).2 (va_recv hK hP (ci := k + 2) (q0 := q0) (k_cl hk) h2) hdg kk
/-- a method of the panel makes a world of its own -/
theorem tt_call {y : MethodName} {b : ByteArray} {L n index h mc ms : Nat} {r : Option FieldType} {As : List Value} (S : CallFix p m c cc nL s args lw_all own) (G : xG D dA A C d j s H locs) (hA : ∀ q, s.heap.size ≤ q → A q) (hM : tN l D dA y b L r h mc ms (.ref (jA j 0) :: As) C d j P) (q1 : Cond.methodLink own index y ∈ lw_all) (q2 : Cond.instanceMethod y ∈ lw_all) (q3 : Cond.selects RX0 y y ∈ lw_all) (q4 : Cond.code y b L r ∈ lw_all)
    (hd : y.cls = RX0 ∧ y.cls ≠ "java/lang/invoke/MethodHandle" ∧ y.cls ≠ "java/lang/invoke/VarHandle" ∧ (parseMethodDescriptor y.desc).map (fun d => d.parameters.length) = some n) (hR : h + 1 ≤ R.frames ∧ 8 + (L + 11) + 48 * h ≤ R.locals) (hn : As.length = n) (hsz : ls.size = nL) (hst : st0 = As.reverse ++ .ref (jA j 0) :: rest) (hW : (rest.map fun v => v.category).sum ≤ 8) (hdg : decode cc pc = .ok (.invokevirtual index, 3)) (hf : cells + mc ≤ R.cells ∧ slots + ms ≤ R.slots)
    (kk : ∀ (o : Option Value) (w' : wr_F) (H1 : Heap) (locs1 : List Loc), P o w' → xG D dA A C d j s H1 locs1 → wG D dA A w' s H1 locs1 → (∀ q, gA w' q → H.size ≤ q) → H.size ≤ H1.size → (∀ q, q < H.size → H1[q]? = H[q]?) → W p l e R s m args below meth c H1 locs1 (cells + mc) (slots + ms) Q (F0 m (pc + 3) ls (o.toList ++ rest))) : W p l e R s m args below meth c H locs cells slots Q (F0 m pc ls st0) := by
  obtain ⟨hP, hK, hD, hS, hT⟩ := id G
  obtain ⟨q0, h2, -⟩ := wr_pos (N := 130) (r := 0) (by decide) (xW_p (dA := dA) (C := C) (d := d) (j := j) (r := 0) (by decide) rfl)
  have hr := va_runV (As := As) (rest := rest) (g := F0 m pc ls st0) (locs := locs) (cells := cells) (slots := slots) (H := H) (below := below) (meth := meth) (e := e) S (hM H.size) (cwV (R := R) (C := RX0) n S.2.2.2.2 (lw_V q1 q2 q3 q52 q4) rfl rfl rfl hd hR) ⟨xI_blindN, va_recv hK hP (ci := 0) (q0 := q0) rfl h2, xx_preN G⟩ rfl hn hsz hst (lv_room hW) hdg hf
  refine wr_call hr (fun v st₀ t L h0 hvm hq hL => ?_)
  obtain ⟨⟨o, w', hv, hp, hP1, hK1, hD1⟩, hz, hk⟩ := hq
  cases hv
  rw [h0] at hz hk
  have hk : ∀ q, q < H.size → t.heap[q]? = H[q]? := fun q h => hk q h (fun z => by unfold fr_ at z; omega)
  have hfr : ∀ q, fr_ H.size q → A q := fun q h => hA q (Nat.le_trans hS.1 h)
  have hS1 : va_S A s.heap t.heap (locs ++ L) := ⟨Nat.le_trans hS.1 hz, fun q h1 h2 => by rw [hk q (Nat.lt_of_lt_of_le h1 hS.1)]; exact hS.2.1 q h1 h2, fun q hq => by
    rcases List.mem_append.mp hq with h | h
    · exact hS.2.2 q h
    · exact hfr _ (hL q h)⟩
  refine kk _ w' t.heap (locs ++ L) hp ⟨wr_P.mpr (fun r' y' hr' hy => ?_), hK, hD, hS1, hT⟩ ⟨hP1, va_K.moved hvm.symm hK1, hD1.weaken (fun _ q _ h => hfr q.1 h), hS1, hT⟩ (fun q hq => ?_) hz hk
  · have h1 := wr_P.mp hP r' y' hr' hy
    exact h1.kept (hk _ h1.lt)
  · obtain ⟨r', x', hr', hx'⟩ := hq
    exact (wr_D.mp hD1).2 r' (q, x') hr' hx'
/-! two worlds -/
/-- another world stays, where the heap is kept -/
theorem wG_keep {w2 : wr_F} {H1 : Heap} {locs1 : List Loc} (G1 : wG D dA A w s H1 locs1) (G2 : wG D dA A w2 s H locs) (hk : ∀ q, gA w2 q → H1[q]? = H[q]?) : wG D dA A w2 s H1 locs1 :=
  ⟨wr_P.mpr (fun r y hr hy => (wr_P.mp G2.1 r y hr hy).kept (hk _ ⟨r, y.2, hr, hy⟩)), G2.2.1, G2.2.2.1, G1.2.2.2.1, G2.2.2.2.2⟩
theorem wG_lt {q : Nat} (G : wG D dA A w s H locs) (h : gA w q) : q < H.size := by
  obtain ⟨r, x, hr, hx⟩ := h
  exact (wr_P.mp G.1 r (q, x) hr hx).lt
theorem w2_join {w2 : wr_F} (hP : va_P D tp_cl (wr_l 130 w) H) (hP2 : va_P D tp_cl (wr_l 130 w2) H) : va_P D tp_cl (wr_l 130 w ++ wr_l 130 w2) H := by
  intro k q hk
  rcases Nat.lt_or_ge k (wr_l 130 w).length with h | h
  · rw [List.getElem?_append_left h] at hk; exact hP k q hk
  · rw [List.getElem?_append_right h] at hk; exact hP2 _ q hk
theorem w2_joinD {w2 : wr_F} (hD : va_D A (wr_l 130 w)) (hD2 : va_D A (wr_l 130 w2)) (hdis : ∀ q, gA w q → gA w2 q → False) : va_D A (wr_l 130 w ++ wr_l 130 w2) := by
  have mem : ∀ {w : wr_F} {k : Nat} {q : Nat × va_E}, (wr_l 130 w)[k]? = some q → gA w q.1 := fun {w k q} h => by
    obtain ⟨r, h1, h2⟩ := wr_mem.mp (List.mem_of_getElem? h)
    exact ⟨r, q.2, h1, h2⟩
  refine ⟨fun i k p' q' hi hk e => ?_, fun k q hk => ?_⟩
  · rcases Nat.lt_or_ge i (wr_l 130 w).length with h | h <;> rcases Nat.lt_or_ge k (wr_l 130 w).length with h' | h'
    · rw [List.getElem?_append_left h] at hi; rw [List.getElem?_append_left h'] at hk; exact hD.1 i k p' q' hi hk e
    · rw [List.getElem?_append_left h] at hi; rw [List.getElem?_append_right h'] at hk
      exact (hdis _ (mem hi) (by rw [e]; exact mem hk)).elim
    · rw [List.getElem?_append_right h] at hi; rw [List.getElem?_append_left h'] at hk
      exact (hdis _ (mem hk) (by rw [← e]; exact mem hi)).elim
    · rw [List.getElem?_append_right h] at hi; rw [List.getElem?_append_right h'] at hk
      have := hD2.1 _ _ p' q' hi hk e; omega
  · rcases Nat.lt_or_ge k (wr_l 130 w).length with h | h
    · rw [List.getElem?_append_left h] at hk; exact hD.2 k q hk
    · rw [List.getElem?_append_right h] at hk; exact hD2.2 _ q hk
theorem w2_split {X : va_W} {w2 : wr_F} (h : va_P D tp_cl (X ++ wr_l 130 w2) H) : va_P D tp_cl X H ∧ va_P D tp_cl (wr_l 130 w2) H := by
  refine ⟨fun k q hk => h k q ?_, fun k q hk => h (X.length + k) q ?_⟩
  · rw [List.getElem?_append_left (List.getElem?_eq_some_iff.mp hk).1]; exact hk
  · rw [List.getElem?_append_right (Nat.le_add_right _ _), Nat.add_sub_cancel_left]; exact hk
theorem w2_splitD {X : va_W} {w2 : wr_F} (h : va_D A (X ++ wr_l 130 w2)) : va_D A X := by
  refine ⟨fun i k p' q' hi hk e => h.1 i k p' q' ?_ ?_ e, fun k q hk => h.2 k q ?_⟩
  · rw [List.getElem?_append_left (List.getElem?_eq_some_iff.mp hi).1]; exact hi
  · rw [List.getElem?_append_left (List.getElem?_eq_some_iff.mp hk).1]; exact hk
  · rw [List.getElem?_append_left (List.getElem?_eq_some_iff.mp hk).1]; exact hk
theorem w2_pos {w2 : wr_F} {r : Nat} {x : Nat × va_E} (hr : r < 130) (hw : w r = some x) : ∃ q0, (wr_l 130 w ++ wr_l 130 w2)[q0]? = some x ∧ ∀ x', (wr_l 130 w ++ wr_l 130 w2).set q0 x' = wr_l 130 (wr_s w r x') ++ wr_l 130 w2 := by
  obtain ⟨q0, h2, h3⟩ := wr_pos (N := 130) hr hw
  have hlt := (List.getElem?_eq_some_iff.mp h2).1
  refine ⟨q0, by rw [List.getElem?_append_left hlt]; exact h2, fun x' => ?_⟩
  rw [List.set_append_left _ _ hlt, h3]
/-- an object's field is written, another world stays -/
theorem w2_put {w2 : wr_F} {ci : Nat} {Cl : String} {T : u_T} {N : Nat} (S : CallFix p m c cc nL s args lw_all own) (G : wG D dA A w s H locs) (G2 : wG D dA A w2 s H locs) (hdis : ∀ q, gA w q → gA w2 q → False) (hc : tp_cl[ci]? = some (Cl, T, N)) (hin : ∀ w ∈ u_ws Cl T N, w ∈ lw_all) (ty : Nat → FieldType) (hty : ∀ k, k < N → parseFieldDescriptor (T k).2.2.1 = some (ty k)) (hnm : ∀ a, a < N → ∀ b, b < N → a ≠ b → (T a).2.1 ≠ (T b).2.1) {r a : Nat} {fs : List Value} (hr : r < 130) (hw : w r = some (a, .inr (ci, fs))) (hl : fs.length = N) (f : Nat) (hf : f < N) {index : Nat} {ref : String} (hq : Cond.fieldLink own index ref (T f).2.1 (T f).2.2.1 ∈ lw_all) (hsame : ∀ x, s.fieldFound? (T f).1 (T f).2.1 (T f).2.2.1 = some x → s.fieldFound? ref (T f).2.1 (T f).2.2.1 = some x) (hfin : (T f).2.2.2 = false) {v : Value} (hn : narrow (ty f) v = v) (hfit : fits (ty f) v = true) (hdg : decode cc pc = .ok (.putfield index, 3))
    (kk : ∀ (H1 : Heap) (locs1 : List Loc), wG D dA A (wr_s w r (a, .inr (ci, fs.set f v))) s H1 locs1 → wG D dA A w2 s H1 locs1 → W p l e R s m args below meth c H1 locs1 cells slots Q (F0 m (pc + 3) ls rest)) : W p l e R s m args below meth c H locs cells slots Q (F0 m pc ls (v :: .ref a :: rest)) := by
  obtain ⟨hx, hb, hml, hown, hts⟩ := S
  obtain ⟨hP, hK, hD, hS, hT⟩ := G
  obtain ⟨hP2, -, hD2, -, -⟩ := G2
  obtain ⟨q0, h2, h3⟩ := w2_pos (w2 := w2) hr hw
  refine va_put (D := D) (ci := ci) (C := Cl) (T := T) (N := N) hx hb hts hin ty hty hnm hown hK (w2_join hP hP2) (w2_joinD hD hD2 hdis) hS q0 h2 hc f hf (hts _ hq) hsame hfin (hty f hf) hn hfit (by rw [hl]; exact hf) hdg (fun H1 locs1 hP1 hD1 hS1 => ?_)
  rw [h3] at hP1 hD1
  obtain ⟨a1, a2⟩ := w2_split hP1
  exact kk H1 locs1 ⟨a1, hK, w2_splitD hD1, hS1, hT⟩ ⟨a2, hK, hD2, hS1, hT⟩
/-- a long into an array, another world stays -/
theorem w2_last {w2 : wr_F} (S : CallFix p m c cc nL s args lw_all own) (G : wG D dA A w s H locs) (G2 : wG D dA A w2 s H locs) (hdis : ∀ q, gA w q → gA w2 q → False) {r a n : Nat} {f : Nat → Int64} (hr : r < 130) (hw : w r = some (a, e_L (dA 4) n f)) {i : Nat} (hi : i < n) (hn : n < 2 ^ 31) {v : Int64} (hdg : decode cc pc = .ok (.lastore, 1))
    (kk : ∀ (H1 : Heap) (locs1 : List Loc), wG D dA A (wr_s w r (a, e_L (dA 4) n (vp_updL f i v))) s H1 locs1 → wG D dA A w2 s H1 locs1 → W p l e R s m args below meth c H1 locs1 cells slots Q (F0 m (pc + 1) ls rest)) : W p l e R s m args below meth c H locs cells slots Q (F0 m pc ls (.long v :: .int (nI i) :: .ref a :: rest)) := by
  obtain ⟨hx, hb, hml, hown, hts⟩ := S
  obtain ⟨hP, hK, hD, hS, hT⟩ := G
  obtain ⟨hP2, -, hD2, -, -⟩ := G2
  obtain ⟨q0, h2, h3⟩ := w2_pos (w2 := w2) hr hw
  refine va_last hx hb hK (w2_join hP hP2) (w2_joinD hD hD2 hdis) hS q0 4 h2 rfl (vp_in_nI hi hn) hdg (fun H1 locs1 hP1 hD1 hS1 => ?_)
  rw [nI_clamp (by omega)] at hP1 hD1
  have e1 := h3 (a, e_L (dA 4) n (vp_updL f i v))
  unfold e_L at e1
  rw [e1] at hP1 hD1
  obtain ⟨a1, a2⟩ := w2_split hP1
  exact kk H1 locs1 ⟨a1, hK, w2_splitD hD1, hS1, hT⟩ ⟨a2, hK, hD2, hS1, hT⟩
end TE1_
