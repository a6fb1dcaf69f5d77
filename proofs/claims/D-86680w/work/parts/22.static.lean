section TP6
variable {p : Program} {l : Launch} {e : Env} {R : Room} {s : State} {m : MethodId} {args : Array Value} {below : List Frame} {meth : Method} {c : Code} {H : Heap} {cells slots : Nat} {Q : State → Prop}
variable {cc : ByteArray} {pc nL : Nat} {ls : Array Slot} {rest : List Value}
def sQ (o : Option Value) : Array Value → State → Outcome → State → Prop := fun _ st oc t => oc = .returned o ∧ t.heap = st.heap
theorem ss_start {y : MethodName} {n h : Nat} {ret : Option FieldType} {As : List Value} {o : Option Value} {own : String} (hy : plainName y.cls = true) (hc : y.cls = own) (hle : (lg_sl As).length ≤ n)
    (body : ∀ (p : Program) (e : Env) (s : State) (m : MethodId) (below : List Frame) (meth : Method) (c : Code) (ls : Array Slot), CallFix p m c cc n s As.toArray lw_all own → meth.sig.returnType = ret → meth.locks = false → lv_has ls n (lv_args 0 As) → W p l e (rm_ h) s m As.toArray below meth c s.heap [] 0 0 (MQ below (sQ o) As.toArray s 0 0 (fun _ => False)) (F0 m 0 ls [])) : sC l y cc n ret h As o := by
  refine Met.ofW (cc := cc) (maxL := n) (ret := ret) hy rfl ?_
  intro p e s m args below meth c s₁ B hml hv
  have hv : args = As.toArray := hv
  subst hv
  have hts := atoms_spec (ws := ws_ y cc n ret) B.pre
  have hts : ∀ w ∈ lw_all, w.before _ s = true := fun w h => hts w (List.mem_cons_of_mem _ h)
  have hown : s.vm.findClass own = some m.cls := by rw [← hc]; exact findClass_of_methodNamed B.named
  have hl := lv_entry As (n := n) hle
  rw [lg_entry_eq]
  exact body p e s m below meth c _ ⟨B.exec, B.bytes, hml, hown, hts⟩ B.returns B.notSynchronized hl
theorem ss_iret {own : String} {v v' : Int32} (S : CallFix p m c cc nL s args lw_all own) (hr : meth.sig.returnType = some .int) (hlocks : meth.locks = false) (hv : v = v') (hdg : decode cc pc = .ok (.ireturn, 1)) : W p l e R s m args below meth c s.heap [] 0 0 (MQ below (sQ (some (.int v'))) args s 0 0 (fun _ => False)) (F0 m pc ls [.int v]) := by
  subst hv
  exact W.iret S.1 S.2.1 hr (fun t ht hW => ⟨rfl, ht⟩) (fun q hq => by cases hq) hdg
theorem ss_zret {own : String} {v v' : Int32} (S : CallFix p m c cc nL s args lw_all own) (hr : meth.sig.returnType = some .boolean) (hlocks : meth.locks = false) (hn : narrow .boolean (.int v) = .int v) (hv : v = v') (hdg : decode cc pc = .ok (.ireturn, 1)) : W p l e R s m args below meth c s.heap [] 0 0 (MQ below (sQ (some (.int v'))) args s 0 0 (fun _ => False)) (F0 m pc ls [.int v]) := by
  subst hv
  exact W.zret S.1 S.2.1 hr hn (fun t ht hW => ⟨rfl, ht⟩) (fun q hq => by cases hq) hdg
theorem ss_dret {own : String} {v v' : UInt64} (S : CallFix p m c cc nL s args lw_all own) (hr : meth.sig.returnType = some .double) (hlocks : meth.locks = false) (hv : v = v') (hdg : decode cc pc = .ok (.dreturn, 1)) : W p l e R s m args below meth c s.heap [] 0 0 (MQ below (sQ (some (.double v'))) args s 0 0 (fun _ => False)) (F0 m pc ls [.double v]) := by
  subst hv
  exact W.dret S.1 S.2.1 hr (fun t ht hW => ⟨rfl, ht⟩) (fun q hq => by cases hq) hdg
theorem ss_lret {own : String} {v v' : Int64} (S : CallFix p m c cc nL s args lw_all own) (hr : meth.sig.returnType = some .long) (hlocks : meth.locks = false) (hv : v = v') (hdg : decode cc pc = .ok (.lreturn, 1)) : W p l e R s m args below meth c s.heap [] 0 0 (MQ below (sQ (some (.long v'))) args s 0 0 (fun _ => False)) (F0 m pc ls [.long v]) := by
  subst hv
  exact W.lret S.1 S.2.1 hr (fun t ht hW => ⟨rfl, ht⟩) (fun q hq => by cases hq) hdg
theorem bb_nar (b : Bool) : narrow .boolean (.int (bI b)) = .int (bI b) := by cases b <;> rfl
theorem bI_nar (b : Bool) : vp_nar .boolean (bI b) = bI b := by cases b <;> rfl
/-- an int that is an option: -1, or a natural -/
theorem oo_ceq {cc : ByteArray} {locs : List Loc} (hx : p.tables.exec = Jvm.exec) (hb : c.code = cc) {o : Option Nat} {off : Int} {tgt : Nat} (ho : ∀ k, o = some k → k < 2 ^ 31) (hdg : decode cc pc = .ok (.if_icmp .eq off, 3)) (ht : (pc : Int) + off = (tgt : Int)) (kt : o = none → W p l e R s m args below meth c H locs cells slots Q (F0 m tgt ls rest)) (kf : ∀ k, o = some k → W p l e R s m args below meth c H locs cells slots Q (F0 m (pc + 3) ls rest)) : W p l e R s m args below meth c H locs cells slots Q (F0 m pc ls (.int (-1) :: .int (oI o) :: rest)) := by
  cases o with
  | none => exact lv_icmp_eq hx hb hdg ht (fun _ => kt rfl) (fun h => absurd rfl h)
  | some k =>
    refine lv_icmp_eq hx hb hdg ht (fun h => ?_) (fun _ => kf k rfl)
    exfalso
    have h1 : (nI k).toInt = (-1 : Int32).toInt := by rw [show nI k = -1 from h]
    rw [nI_toInt (ho k rfl), show (-1 : Int32).toInt = -1 from by decide] at h1
    omega
theorem oo_cne {cc : ByteArray} {locs : List Loc} (hx : p.tables.exec = Jvm.exec) (hb : c.code = cc) {o : Option Nat} {off : Int} {tgt : Nat} (ho : ∀ k, o = some k → k < 2 ^ 31) (hdg : decode cc pc = .ok (.if_icmp .ne off, 3)) (ht : (pc : Int) + off = (tgt : Int)) (kt : ∀ k, o = some k → W p l e R s m args below meth c H locs cells slots Q (F0 m tgt ls rest)) (kf : o = none → W p l e R s m args below meth c H locs cells slots Q (F0 m (pc + 3) ls rest)) : W p l e R s m args below meth c H locs cells slots Q (F0 m pc ls (.int (-1) :: .int (oI o) :: rest)) := by
  cases o with
  | none => exact lv_icmp_ne hx hb hdg ht (fun h => absurd rfl h) (fun _ => kf rfl)
  | some k =>
    refine lv_icmp_ne hx hb hdg ht (fun _ => kt k rfl) (fun h => ?_)
    exfalso
    have h1 : (nI k).toInt = (-1 : Int32).toInt := by rw [show nI k = -1 from h]
    rw [nI_toInt (ho k rfl), show (-1 : Int32).toInt = -1 from by decide] at h1
    omega
end TP6
theorem tp_d6 {m i : Nat} (h : i < 6) : (6 * m + i) / 6 = m := by omega
theorem tp_m6 {m i : Nat} (h : i < 6) : (6 * m + i) % 6 = i := by omega
theorem tp_d8 {m i : Nat} (h : i < 8) : (8 * m + i) / 8 = m := by omega
theorem tp_m8 {m i : Nat} (h : i < 8) : (8 * m + i) % 8 = i := by omega
theorem tp_fr {C : tp_C} {m i : Nat} (h : i < 6) : (fun j => oI (cF C (j / 6) (j % 6))) (6 * m + i) = oI (cF C m i) := by
  show oI (cF C ((6 * m + i) / 6) ((6 * m + i) % 6)) = _
  rw [tp_d6 h, tp_m6 h]
theorem tp_tu {C : tp_C} {m i : Nat} (h : i < 6) : (fun j => bI (cT C (j / 6) (j % 6))) (6 * m + i) = bI (cT C m i) := by
  show bI (cT C ((6 * m + i) / 6) ((6 * m + i) % 6)) = _
  rw [tp_d6 h, tp_m6 h]
/-- the settings are such as the panel lets them be -/
def mOK (C : tp_C) : Prop := cN C ≤ 20 ∧ (∀ m, cK C m < 14) ∧ (∀ m i k, cF C m i = some k → k < cN C) ∧ (∀ m, cP C m ≤ 8) ∧ (∀ m, cA C m ≤ 300) ∧ cM C ≤ 2 ∧ cR C ≤ 2 ∧ cH C ≤ 20 ∧ cZ C ≤ 6 ∧ (∀ s, s < cZ C → cO C s < cN C) ∧ cW C ≤ 6
theorem mOK.n {C : tp_C} (h : mOK C) : cN C ≤ 20 := h.1
theorem mOK.k {C : tp_C} (h : mOK C) (m : Nat) : cK C m < 14 := h.2.1 m
theorem mOK.f {C : tp_C} (h : mOK C) {m i k : Nat} (e : cF C m i = some k) : k < cN C := h.2.2.1 m i k e
theorem mOK.f20 {C : tp_C} (h : mOK C) {m i k : Nat} (e : cF C m i = some k) : k < 20 := Nat.lt_of_lt_of_le (h.f e) h.n
theorem mOK.f31 {C : tp_C} (h : mOK C) {m i : Nat} : ∀ k, cF C m i = some k → k < 2 ^ 31 := fun k e => by have := h.f20 e; omega
theorem mOK.p {C : tp_C} (h : mOK C) (m : Nat) : cP C m ≤ 8 := h.2.2.2.1 m
theorem mOK.z {C : tp_C} (h : mOK C) : cZ C ≤ 6 := h.2.2.2.2.2.2.2.2.1
