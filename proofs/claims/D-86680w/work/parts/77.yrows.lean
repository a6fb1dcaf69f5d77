/-! rows for the panel's own methods -/
section TY1_
variable {p : Program} {l : Launch} {e : Env} {R : Room} {s : State} {m : MethodId} {args : Array Value} {below : List Frame} {meth : Method} {c : Code} {H : Heap} {locs : List Loc} {cells slots : Nat} {Q : State → Prop}
variable {cc : ByteArray} {pc nL : Nat} {ls : Array Slot} {rest st0 : List Value} {D : va_G} {dA : Nat → ClassId} {A : Nat → Prop} {C C' : tp_C} {d d' : md_T} {j j' : xj_T} {own : String}
theorem xx_cast (S : CallFix p m c cc nL s args lw_all own) (G : xG D dA A C d j s H locs) {mm : Nat} (hmm : mm < cN C) (hN : cN C ≤ 20) (hk : cK C mm < 14) {index : Nat} (hq : Cond.classLink own index (kC (cK C mm)) ∈ lw_all) (hdg : decode cc pc = .ok (.checkcast index, 3))
    (kk : W p l e R s m args below meth c H locs cells slots Q (F0 m (pc + 3) ls (.ref (jA j (xr mm 0)) :: rest))) : W p l e R s m args below meth c H locs cells slots Q (F0 m pc ls (.ref (jA j (xr mm 0)) :: rest)) := by
  obtain ⟨hP, hK, hD, hS, hT⟩ := G
  obtain ⟨q0, h2, -⟩ := wr_pos (N := 130) (r := xr mm 0) (xr_lt (by decide) (by omega)) (xW_m (dA := dA) (C := C) (d := d) (j := j) (m := mm) (i := 0) (by decide) hmm rfl)
  exact va_castS S.1 S.2.1 S.2.2.2.1 (S.2.2.2.2 _ hq) (hK.1 _ _ (k_cl hk)).2 (va_recv hK hP (ci := cK C mm + 2) (q0 := q0) (k_cl hk) h2) hdg kk
theorem xx_alen (S : CallFix p m c cc nL s args lw_all own) (G : xG D dA A C d j s H locs) {r a : Nat} {cA : ClassId} {x : vp_A} (hr : r < 130) (hw : xW dA C d j r = some (a, .inl (cA, x))) (t0 : Nat) {ty : FieldType} (ht : (tp_ty dA)[t0]? = some (cA, ty)) {n : Nat} (hn : x.1 = n) (hdg : decode cc pc = .ok (.arraylength, 1))
    (kk : W p l e R s m args below meth c H locs cells slots Q (F0 m (pc + 1) ls (.int (nI n) :: rest))) : W p l e R s m args below meth c H locs cells slots Q (F0 m pc ls (.ref a :: rest)) := by
  obtain ⟨hx, hb, hml, hown, hts⟩ := S
  obtain ⟨hP, hK, hD, hS, hT⟩ := G
  obtain ⟨q0, h2, -⟩ := wr_pos (N := 130) hr hw
  exact va_alen hx hb hK hP q0 t0 h2 ht (v := nI n) (by rw [hn]; rfl) hdg kk
/-- the receiver is a module whose class has the method itself -/
theorem xx_callK {y : MethodName} {b : ByteArray} {L n index h mm k : Nat} {r : Option FieldType} {As : List Value} {o : Option Value} (S : CallFix p m c cc nL s args lw_all own) (G : xG D dA A C d j s H locs) (hmm : mm < cN C) (hN : cN C ≤ 20) (hk : cK C mm = k) (hk4 : k < 14) (hM : xC l D dA y b L r h (.ref (jA j (xr mm 0)) :: As) C d j o C' d' j') (q1 : Cond.methodLink own index y ∈ lw_all) (q2 : Cond.instanceMethod y ∈ lw_all) (q3 : Cond.selects (kC k) y y ∈ lw_all) (q5 : Cond.initialized (kC k) ∈ lw_all) (q4 : Cond.code y b L r ∈ lw_all)
    (hd : y.cls = kC k ∧ y.cls ≠ "java/lang/invoke/MethodHandle" ∧ y.cls ≠ "java/lang/invoke/VarHandle" ∧ (parseMethodDescriptor y.desc).map (fun d => d.parameters.length) = some n) (hR : h + 1 ≤ R.frames ∧ 8 + (L + 11) + 48 * h ≤ R.locals) (hn : As.length = n) (hsz : ls.size = nL) (hst : st0 = As.reverse ++ .ref (jA j (xr mm 0)) :: rest) (hW : (rest.map fun v => v.category).sum ≤ 8) (hdg : decode cc pc = .ok (.invokevirtual index, 3)) (hf : cells ≤ R.cells ∧ slots ≤ R.slots)
    (kk : ∀ (H1 : Heap) (locs1 : List Loc), xG D dA A C' d' j' s H1 locs1 → W p l e R s m args below meth c H1 locs1 cells slots Q (F0 m (pc + 3) ls (o.toList ++ rest))) : W p l e R s m args below meth c H locs cells slots Q (F0 m pc ls st0) := by
  obtain ⟨hP, hK, hD, hS, hT⟩ := id G
  obtain ⟨q0, h2, -⟩ := wr_pos (N := 130) (r := xr mm 0) (xr_lt (by decide) (by omega)) (xW_m (dA := dA) (C := C) (d := d) (j := j) (m := mm) (i := 0) (by decide) hmm rfl)
  rw [hk] at h2
  have hr := va_runV (As := As) (rest := rest) (g := F0 m pc ls st0) (locs := locs) (cells := cells) (slots := slots) (H := H) (below := below) (meth := meth) (e := e) S hM (cwV (R := R) (C := kC k) n S.2.2.2.2 (lw_V q1 q2 q3 q5 q4) rfl rfl rfl hd hR) ⟨xI_blind, va_recv hK hP (ci := k + 2) (q0 := q0) (k_cl hk4) h2, xx_pre G⟩ rfl hn hsz hst (lv_room hW) hdg hf
  exact xx_after (mc := 0) (ms := 0) (As := As) G hr kk
/-- any world of roles -/
def wG (D : va_G) (dA : Nat → ClassId) (A : Nat → Prop) (w : wr_F) (s : State) (H : Heap) (locs : List Loc) : Prop := va_P D tp_cl (wr_l 130 w) H ∧ va_K D tp_cl (tp_ty dA) s ∧ va_D A (wr_l 130 w) ∧ va_S A s.heap H locs ∧ xT A s
theorem wG_x {w : wr_F} (h : w = xW dA C d j) (G : wG D dA A w s H locs) : xG D dA A C d j s H locs := by subst h; exact G
theorem xG_w (G : xG D dA A C d j s H locs) : wG D dA A (xW dA C d j) s H locs := G
/-- a module into an array of modules -/
theorem ww_aast {w : wr_F} (S : CallFix p m c cc nL s args lw_all own) (G : wG D dA A w s H locs) {r a n : Nat} {f : Nat → Option Nat} (hr : r < 130) (hw : w r = some (a, e_Q (dA 5) n f)) {rv v k : Nat} {vs : List Value} (hrv : rv < 130) (hv : w rv = some (v, .inr (k + 2, vs))) (hk : k < 14) {i : Nat} (hi : i < n) (hn : n < 2 ^ 31) (hdg : decode cc pc = .ok (.aastore, 1))
    (kk : ∀ (H1 : Heap) (locs1 : List Loc), wG D dA A (wr_s w r (a, e_Q (dA 5) n (va_up f i (some v)))) s H1 locs1 → W p l e R s m args below meth c H1 locs1 cells slots Q (F0 m (pc + 1) ls rest)) : W p l e R s m args below meth c H locs cells slots Q (F0 m pc ls (.ref v :: .int (nI i) :: .ref a :: rest)) := by
  obtain ⟨hx, hb, hml, hown, hts⟩ := S
  obtain ⟨hP, hK, hD, hS, hT⟩ := G
  obtain ⟨q0, h2, h3⟩ := wr_pos (N := 130) hr hw
  obtain ⟨q1, h4, -⟩ := wr_pos (N := 130) hrv hv
  refine va_astqO hx hb hK hP hD hS q0 5 q1 (k + 2) (E := "TwinPanel$Module") (r := (kC k, kT k, kN k)) h2 rfl (hT.2.1 k hk) h4 (k_cl hk) (vp_in_nI hi hn) hdg (fun H1 locs1 hP1 hD1 hS1 => ?_)
  rw [nI_clamp (by omega)] at hP1 hD1
  have e1 : (wr_l 130 w).set q0 (a, e_Q (dA 5) n (va_up f i (some v))) = wr_l 130 (wr_s w r (a, e_Q (dA 5) n (va_up f i (some v)))) := h3 _
  unfold e_Q at e1
  rw [e1] at hP1 hD1
  exact kk H1 locs1 ⟨hP1, hK, hD1, hS1, hT⟩
theorem ww_aastN {w : wr_F} (S : CallFix p m c cc nL s args lw_all own) (G : wG D dA A w s H locs) {r a n : Nat} {f : Nat → Option Nat} (hr : r < 130) (hw : w r = some (a, e_Q (dA 5) n f)) {i : Nat} (hi : i < n) (hn : n < 2 ^ 31) (hdg : decode cc pc = .ok (.aastore, 1))
    (kk : ∀ (H1 : Heap) (locs1 : List Loc), wG D dA A (wr_s w r (a, e_Q (dA 5) n (va_up f i none))) s H1 locs1 → W p l e R s m args below meth c H1 locs1 cells slots Q (F0 m (pc + 1) ls rest)) : W p l e R s m args below meth c H locs cells slots Q (F0 m pc ls (.null :: .int (nI i) :: .ref a :: rest)) := by
  obtain ⟨hx, hb, hml, hown, hts⟩ := S
  obtain ⟨hP, hK, hD, hS, hT⟩ := G
  obtain ⟨q0, h2, h3⟩ := wr_pos (N := 130) hr hw
  refine va_astqN hx hb hK hP hD hS q0 5 (C := "TwinPanel$Module") h2 rfl (vp_in_nI hi hn) hdg (fun H1 locs1 hP1 hD1 hS1 => ?_)
  rw [nI_clamp (by omega)] at hP1 hD1
  have e1 : (wr_l 130 w).set q0 (a, e_Q (dA 5) n (va_up f i none)) = wr_l 130 (wr_s w r (a, e_Q (dA 5) n (va_up f i none))) := h3 _
  unfold e_Q at e1
  rw [e1] at hP1 hD1
  exact kk H1 locs1 ⟨hP1, hK, hD1, hS1, hT⟩
/-- a field that all modules have -/
theorem ww_get {w : wr_F} (S : CallFix p m c cc nL s args lw_all own) (G : wG D dA A w s H locs) {r a k : Nat} {fs : List Value} (hr : r < 130) (hw : w r = some (a, .inr (k + 2, fs))) (hk : k < 14) (f : Nat) (hf : f < 11) {index : Nat} (hq : Cond.fieldLink own index RX2 (TX3 f).2.1 (TX3 f).2.2.1 ∈ lw_all) (h1 : (TX3 f).1 = RX2) {v : Value} (hv : fs[f]? = some v) (hdg : decode cc pc = .ok (.getfield index, 3))
    (kk : W p l e R s m args below meth c H locs cells slots Q (F0 m (pc + 3) ls (v :: rest))) : W p l e R s m args below meth c H locs cells slots Q (F0 m pc ls (.ref a :: rest)) := by
  obtain ⟨hx, hb, hml, hown, hts⟩ := S
  obtain ⟨hP, hK, hD, hS, hT⟩ := G
  obtain ⟨q0, h2, -⟩ := wr_pos (N := 130) hr hw
  have e := k_T k hk f hf
  exact va_get (D := D) (ci := k + 2) (C := kC k) (T := kT k) (N := kN k) (ref := RX2) hx hb hts (k_in hk) hown hK hP q0 h2 (k_cl hk) f (Nat.lt_of_lt_of_le hf (k_11 _)) (by rw [e]; exact hts _ hq) (fun x h => by rw [e] at h ⊢; rw [h1] at h; exact h) hv hdg kk
theorem ww_iast {w : wr_F} (S : CallFix p m c cc nL s args lw_all own) (G : wG D dA A w s H locs) {r a n : Nat} {x : ClassId} {f : Nat → Int32} (hr : r < 130) (hw : w r = some (a, e_I x n f)) (t0 : Nat) (ht : (tp_ty dA)[t0]? = some (x, .int)) {i : Nat} (hi : i < n) (hn : n < 2 ^ 31) {v : Int32} (hdg : decode cc pc = .ok (.iastore, 1))
    (kk : ∀ (H1 : Heap) (locs1 : List Loc), wG D dA A (wr_s w r (a, e_I x n (upd f i v))) s H1 locs1 → W p l e R s m args below meth c H1 locs1 cells slots Q (F0 m (pc + 1) ls rest)) : W p l e R s m args below meth c H locs cells slots Q (F0 m pc ls (.int v :: .int (nI i) :: .ref a :: rest)) := by
  obtain ⟨hx, hb, hml, hown, hts⟩ := S
  obtain ⟨hP, hK, hD, hS, hT⟩ := G
  obtain ⟨q0, h2, h3⟩ := wr_pos (N := 130) hr hw
  refine va_iast hx hb hK hP hD hS q0 t0 h2 ht (vp_in_nI hi hn) hdg (fun H1 locs1 hP1 hD1 hS1 => ?_)
  rw [nI_clamp (by omega)] at hP1 hD1
  have e1 : (wr_l 130 w).set q0 (a, e_I x n (upd f i v)) = wr_l 130 (wr_s w r (a, e_I x n (upd f i v))) := h3 _
  unfold e_I at e1
  rw [e1] at hP1 hD1
  exact kk H1 locs1 ⟨hP1, hK, hD1, hS1, hT⟩
end TY1_
theorem wr_s_ne {w : wr_F} {r q : Nat} {x : Nat × va_E} (h : q ≠ r) : wr_s w r x q = w q := if_neg h
theorem xr_ne {m i i' : Nat} (h : i ≠ i') : xr m i ≠ xr m i' := by unfold xr; omega
/-- a cord: the module and its number are written -/
theorem xs_cord {dA : Nat → ClassId} {C : tp_C} {d : md_T} {j : xj_T} {mm i : Nat} {o : Option Nat} (hmm : mm < cN C) : wr_s (wr_s (xW dA C d j) (xr mm 1) (jA j (xr mm 1), e_Q (dA 5) 6 (va_up (fun i => (cF C mm i).map (fun k => jA j (xr k 0))) i (o.map (fun k => jA j (xr k 0)))))) (xr mm 2) (jA j (xr mm 2), e_I (dA 0) 6 (upd (fun i => oI (cF C mm i)) i (oI o))) = xW dA (wF C (up2 (cF C) mm i o)) d j := by
  have e : ∀ m' b, cF (wF C (up2 (cF C) mm i o)) m' b = if m' = mm ∧ b = i then o else cF C m' b := fun _ _ => rfl
  funext r
  rcases xr_cases r with h | ⟨m', i', hi', rfl⟩
  · rw [wr_s_ne (fun e => xr_10 mm 2 (by rw [← e]; exact h)), wr_s_ne (fun e => xr_10 mm 1 (by rw [← e]; exact h)), xW_pp h, xW_pp h]
    refine congrArg _ (f10 (P := fun q => xPE dA C d j q = xPE dA (wF C (up2 (cF C) mm i o)) d j q) rfl rfl rfl rfl rfl rfl rfl rfl rfl rfl r h)
  · by_cases hm : m' = mm
    · subst hm
      refine f6 (P := fun i' => wr_s (wr_s (xW dA C d j) (xr m' 1) _) (xr m' 2) _ (xr m' i') = xW dA (wF C (up2 (cF C) m' i o)) d j (xr m' i')) ?_ ?_ ?_ ?_ ?_ ?_ i' hi'
      · rw [wr_s_ne (xr_ne (by decide)), wr_s_ne (xr_ne (by decide)), xW_mm (by decide), xW_mm (by decide)]; rfl
      · rw [wr_s_ne (xr_ne (by decide)), xW_mm (by decide)]
        show wr_s _ _ _ _ = if m' < cN C then _ else _
        rw [if_pos hmm]
        show (if _ then _ else _) = _
        rw [if_pos rfl]
        show some _ = some _
        refine congrArg some (congrArg _ ?_)
        show e_Q _ _ _ = e_Q _ _ _
        refine congrArg _ ?_
        funext b
        rw [e]
        unfold va_up
        by_cases hb : b = i <;> simp [hb]
      · rw [xW_mm (by decide)]
        show (if _ then _ else _) = if m' < cN C then _ else _
        rw [if_pos rfl, if_pos hmm]
        show some _ = some _
        refine congrArg some (congrArg _ ?_)
        show e_I _ _ _ = e_I _ _ _
        refine congrArg _ ?_
        funext b
        rw [e]
        unfold upd
        by_cases hb : b = i <;> simp [hb]
      · rw [wr_s_ne (xr_ne (by decide)), wr_s_ne (xr_ne (by decide)), xW_mm (by decide), xW_mm (by decide)]; rfl
      · rw [wr_s_ne (xr_ne (by decide)), wr_s_ne (xr_ne (by decide)), xW_mm (by decide), xW_mm (by decide)]; rfl
      · rw [wr_s_ne (xr_ne (by decide)), wr_s_ne (xr_ne (by decide)), xW_mm (by decide), xW_mm (by decide)]; rfl
    · rw [wr_s_ne (fun q => hm (xr_inj hi' (by decide) q).1), wr_s_ne (fun q => hm (xr_inj hi' (by decide) q).1), xW_mm hi', xW_mm hi']
      refine f6 (P := fun i' => (if m' < cN C then (xME dA C d j m' i').map (fun x => (jA j (xr m' i'), x)) else none) = if m' < cN C then (xME dA (wF C (up2 (cF C) mm i o)) d j m' i').map (fun x => (jA j (xr m' i'), x)) else none) rfl ?_ ?_ rfl rfl rfl i' hi'
      · have e3 : xME dA (wF C (up2 (cF C) mm i o)) d j m' 1 = xME dA C d j m' 1 := by
          show some (e_Q _ _ _) = some (e_Q _ _ _)
          refine congrArg some (congrArg _ ?_)
          funext b; rw [e, if_neg (fun q => hm q.1)]
        rw [e3]
      · have e3 : xME dA (wF C (up2 (cF C) mm i o)) d j m' 2 = xME dA C d j m' 2 := by
          show some (e_I _ _ _) = some (e_I _ _ _)
          refine congrArg some (congrArg _ ?_)
          funext b; rw [e, if_neg (fun q => hm q.1)]
        rw [e3]
theorem xs_tu {dA : Nat → ClassId} {C : tp_C} {d : md_T} {j : xj_T} {mm : Nat} {i : Nat} {v : Bool} (hmm : mm < cN C) : wr_s (xW dA C d j) (xr mm 3) (jA j (xr mm 3), e_I (dA 1) 6 (upd (fun i => bI (cT C mm i)) i (bI v))) = xW dA (wT C (up2 (cT C) mm i v)) d j := by
  have e : ∀ m' b, cT (wT C (up2 (cT C) mm i v)) m' b = if m' = mm ∧ b = i then v else cT C m' b := fun _ _ => rfl
  refine xW_setM (by decide) hmm rfl rfl ?_ (f10 (P := fun q => xPE dA (wT C (up2 (cT C) mm i v)) d j q = xPE dA C d j q) rfl rfl rfl rfl rfl rfl rfl rfl rfl rfl) (fun m' i' hi hm' hne => ?_)
  · show some (e_I _ _ _) = some (e_I _ _ _)
    refine congrArg some (congrArg _ ?_)
    funext b
    rw [e]
    unfold upd
    by_cases hb : b = i <;> simp [hb]
  · refine f6 (P := fun i' => ¬ (m' = mm ∧ i' = 3) → xME dA (wT C (up2 (cT C) mm i v)) d j m' i' = xME dA C d j m' i') ?_ ?_ ?_ ?_ ?_ ?_ i' hi hne <;> intro hne
    · exact rfl
    · exact rfl
    · exact rfl
    · have h : m' ≠ mm := fun h => hne ⟨h, rfl⟩
      show some (e_I _ _ _) = some (e_I _ _ _)
      refine congrArg some (congrArg _ ?_)
      funext b; rw [e, if_neg (fun q => h q.1)]
    · exact rfl
    · exact rfl
