/-! super.m() on a module -/
theorem lw_SU {own : String} {idx : Nat} {y : MethodName} {b : ByteArray} {L : Nat} {r : Option FieldType} (h1 : Cond.methodLink own idx y ∈ lw_all) (h2 : Cond.sameMethod y.cls y.cls y.name y.desc ∈ lw_all) (h3 : Cond.superclass own y.cls ∈ lw_all) (h4 : Cond.instanceMethod y ∈ lw_all) (h5 : Cond.initialized y.cls ∈ lw_all) (h6 : Cond.code y b L r ∈ lw_all) : GoodIn lw_all (va_wsSU own idx y (ws_ y b L r)) := by
  refine lw_app ?_ (lw_meth h6)
  intro w hw
  simp only [List.mem_cons, List.not_mem_nil, or_false] at hw
  rcases hw with e | e | e | e | e
  · rw [e]; exact h1
  · rw [e]; exact h2
  · rw [e]; exact h3
  · rw [e]; exact h4
  · rw [e]; exact h5
section TX8_
variable {p : Program} {l : Launch} {e : Env} {R : Room} {s : State} {m : MethodId} {args : Array Value} {below : List Frame} {meth : Method} {c : Code} {H : Heap} {locs : List Loc} {cells slots : Nat} {Q : State → Prop}
variable {cc : ByteArray} {pc nL : Nat} {ls : Array Slot} {rest st0 : List Value} {D : va_G} {dA : Nat → ClassId} {A : Nat → Prop} {C C' : tp_C} {d d' : md_T} {j j' : xj_T} {own : String}
theorem xx_callSU {y : MethodName} {b : ByteArray} {L n index h mm : Nat} {r : Option FieldType} {As : List Value} {o : Option Value} (S : CallFix p m c cc nL s args lw_all own) (G : xG D dA A C d j s H locs) (hmm : mm < cN C) (hN : cN C ≤ 20) (hk : cK C mm < 14) (hM : xC l D dA y b L r h (.ref (jA j (xr mm 0)) :: As) C d j o C' d' j')
    (q1 : Cond.methodLink own index y ∈ lw_all) (q2 : Cond.sameMethod y.cls y.cls y.name y.desc ∈ lw_all) (q3 : Cond.superclass own y.cls ∈ lw_all) (q4 : Cond.instanceMethod y ∈ lw_all) (q5 : Cond.initialized y.cls ∈ lw_all) (q6 : Cond.code y b L r ∈ lw_all) (hd : y.name ≠ "<init>" ∧ (parseMethodDescriptor y.desc).map (fun d => d.parameters.length) = some n) (hR : h + 1 ≤ R.frames ∧ 8 + (L + 11) + 48 * h ≤ R.locals)
    (hn : As.length = n) (hsz : ls.size = nL) (hst : st0 = As.reverse ++ .ref (jA j (xr mm 0)) :: rest) (hW : (rest.map fun v => v.category).sum ≤ 8) (hdg : decode cc pc = .ok (.invokespecial index, 3)) (hf : cells ≤ R.cells ∧ slots ≤ R.slots)
    (kk : ∀ (H1 : Heap) (locs1 : List Loc), xG D dA A C' d' j' s H1 locs1 → W p l e R s m args below meth c H1 locs1 cells slots Q (F0 m (pc + 3) ls (o.toList ++ rest))) : W p l e R s m args below meth c H locs cells slots Q (F0 m pc ls st0) := by
  obtain ⟨hP, hK, hD, hS, hT⟩ := id G
  obtain ⟨q0, h2, -⟩ := wr_pos (N := 130) (r := xr mm 0) (xr_lt (by decide) (by omega)) (xW_m (dA := dA) (C := C) (d := d) (j := j) (m := mm) (i := 0) (by decide) hmm rfl)
  have hr := va_runSU (As := As) (rest := rest) (g := F0 m pc ls st0) (locs := locs) (cells := cells) (slots := slots) (H := H) (below := below) (meth := meth) (e := e) (hK.1 _ _ (k_cl hk)).2 S hM (va_cwSU (R := R) n S.2.2.2.2 (lw_SU q1 q2 q3 q4 q5 q6) rfl rfl rfl hd hR) ⟨xI_blind, va_recv hK hP (ci := cK C mm + 2) (q0 := q0) (k_cl hk) h2, xx_pre G⟩ rfl hn hsz hst (lv_room hW) hdg hf
  exact xx_after (mc := 0) (ms := 0) (As := As) G hr kk
end TX8_
