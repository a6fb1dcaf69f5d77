/-! several worlds; what a twin is while it runs -/
set_option maxRecDepth 100000
section TE4_
variable {p : Program} {l : Launch} {e : Env} {R : Room} {s : State} {m : MethodId} {args : Array Value} {below : List Frame} {meth : Method} {c : Code} {H : Heap} {locs : List Loc} {cells slots : Nat} {Q : State → Prop}
variable {cc : ByteArray} {pc nL : Nat} {ls : Array Slot} {rest st0 : List Value} {D : va_G} {dA : Nat → ClassId} {A : Nat → Prop} {own : String} {w : wr_F} {C C' : tp_C} {d d' : md_T} {j j' : xj_T} {P : Option Value → tp_C → md_T → xj_T → Prop}
/-- another world stays while the panel (C, d, j) is worked on -/
def oth (D : va_G) (dA : Nat → ClassId) (A : Nat → Prop) (s : State) (H : Heap) (locs : List Loc) (H1 : Heap) (locs1 : List Loc) (C : tp_C) (d : md_T) (j : xj_T) (C' : tp_C) (d' : md_T) (j' : xj_T) : Prop :=
  ∀ w2 : wr_F, wG D dA A w2 s H locs → (∀ q, gA w2 q → ¬ xA dA C d j q) → wG D dA A w2 s H1 locs1 ∧ ∀ q, gA w2 q → ¬ xA dA C' d' j' q
theorem oth_N {H1 : Heap} {locs1 : List Loc} (G1 : xG D dA A C' d' j' s H1 locs1) (hk : ∀ q, q < H.size → ¬ xA dA C d j q → H1[q]? = H[q]?) (hn : ∀ q, xA dA C' d' j' q → xA dA C d j q ∨ H.size ≤ q) : oth D dA A s H locs H1 locs1 C d j C' d' j' := fun w2 G2 dis =>
  ⟨wG_keep (xG_w G1) G2 (fun q hq => hk q (wG_lt G2 hq) (dis q hq)), fun q hq h => (hn q h).elim (dis q hq) (fun h => absurd (wG_lt G2 hq) (by omega))⟩
theorem xx_callPF {y : MethodName} {b : ByteArray} {L n index h : Nat} {r : Option FieldType} {As : List Value} {o : Option Value} (S : CallFix p m c cc nL s args lw_all own) (G : xG D dA A C d j s H locs) (hM : xC l D dA y b L r h (.ref (jA j 0) :: As) C d j o C' d' j') (q1 : Cond.methodLink own index y ∈ lw_all) (q2 : Cond.instanceMethod y ∈ lw_all) (q3 : Cond.selects RX0 y y ∈ lw_all) (q4 : Cond.code y b L r ∈ lw_all)
    (hd : y.cls = RX0 ∧ y.cls ≠ "java/lang/invoke/MethodHandle" ∧ y.cls ≠ "java/lang/invoke/VarHandle" ∧ (parseMethodDescriptor y.desc).map (fun d => d.parameters.length) = some n) (hR : h + 1 ≤ R.frames ∧ 8 + (L + 11) + 48 * h ≤ R.locals) (hn : As.length = n) (hsz : ls.size = nL) (hst : st0 = As.reverse ++ .ref (jA j 0) :: rest) (hW : (rest.map fun v => v.category).sum ≤ 8) (hdg : decode cc pc = .ok (.invokevirtual index, 3)) (hf : cells ≤ R.cells ∧ slots ≤ R.slots)
    (kk : ∀ (H1 : Heap) (locs1 : List Loc), xG D dA A C' d' j' s H1 locs1 → oth D dA A s H locs H1 locs1 C d j C' d' j' → W p l e R s m args below meth c H1 locs1 cells slots Q (F0 m (pc + 3) ls (o.toList ++ rest))) : W p l e R s m args below meth c H locs cells slots Q (F0 m pc ls st0) := by
  obtain ⟨hP, hK, hD, hS, hT⟩ := id G
  obtain ⟨q0, h2, -⟩ := wr_pos (N := 130) (r := 0) (by decide) (xW_p (dA := dA) (C := C) (d := d) (j := j) (r := 0) (by decide) rfl)
  have hr := va_runV (As := As) (rest := rest) (g := F0 m pc ls st0) (locs := locs) (cells := cells) (slots := slots) (H := H) (below := below) (meth := meth) (e := e) S hM (cwV (R := R) (C := RX0) n S.2.2.2.2 (lw_V q1 q2 q3 q52 q4) rfl rfl rfl hd hR) ⟨xI_blind, va_recv hK hP (ci := 0) (q0 := q0) rfl h2, xx_pre G⟩ rfl hn hsz hst (lv_room hW) hdg hf
  refine wr_call hr (fun v st₀ t L h0 hvm hq hL => ?_)
  obtain ⟨hv, ⟨hP1, hK1, hD1⟩, hz, hk⟩ := hq
  cases hv
  rw [h0] at hz hk
  have hin := xA_in hD
  have G1 : xG D dA A C' d' j' s t.heap (locs ++ L) := ⟨hP1, va_K.moved hvm.symm hK1, hD1.weaken (fun _ q _ h => hin q.1 h), ⟨Nat.le_trans hS.1 hz, fun q h1 h2 => by
      rw [hk q (Nat.lt_of_lt_of_le h1 hS.1) (fun z => h2 (hin q z))]; exact hS.2.1 q h1 h2, fun q hq => by
      rcases List.mem_append.mp hq with h | h
      · exact hS.2.2 q h
      · exact hin _ (hL q h)⟩, hT⟩
  exact kk t.heap (locs ++ L) G1 (oth_N G1 (fun q h1 h2 => hk q h1 h2) (fun q hq => Or.inl (xA_in hD1 q hq)))
theorem xx_callNF {y : MethodName} {b : ByteArray} {L n index h mc ms : Nat} {r : Option FieldType} {As : List Value} (S : CallFix p m c cc nL s args lw_all own) (G : xG D dA A C d j s H locs) (hA : ∀ q, s.heap.size ≤ q → A q) (hM : xN l D dA y b L r h mc ms (.ref (jA j 0) :: As) C d j P) (q1 : Cond.methodLink own index y ∈ lw_all) (q2 : Cond.instanceMethod y ∈ lw_all) (q3 : Cond.selects RX0 y y ∈ lw_all) (q4 : Cond.code y b L r ∈ lw_all)
    (hd : y.cls = RX0 ∧ y.cls ≠ "java/lang/invoke/MethodHandle" ∧ y.cls ≠ "java/lang/invoke/VarHandle" ∧ (parseMethodDescriptor y.desc).map (fun d => d.parameters.length) = some n) (hR : h + 1 ≤ R.frames ∧ 8 + (L + 11) + 48 * h ≤ R.locals) (hn : As.length = n) (hsz : ls.size = nL) (hst : st0 = As.reverse ++ .ref (jA j 0) :: rest) (hW : (rest.map fun v => v.category).sum ≤ 8) (hdg : decode cc pc = .ok (.invokevirtual index, 3)) (hf : cells + mc ≤ R.cells ∧ slots + ms ≤ R.slots)
    (kk : ∀ (o : Option Value) (C' : tp_C) (d' : md_T) (j' : xj_T) (H1 : Heap) (locs1 : List Loc), P o C' d' j' → xG D dA A C' d' j' s H1 locs1 → oth D dA A s H locs H1 locs1 C d j C' d' j' → W p l e R s m args below meth c H1 locs1 (cells + mc) (slots + ms) Q (F0 m (pc + 3) ls (o.toList ++ rest))) : W p l e R s m args below meth c H locs cells slots Q (F0 m pc ls st0) :=
  xx_callPN S G hA hM q1 q2 q3 q4 hd hR hn hsz hst hW hdg hf (fun o C' d' j' H1 locs1 hp G1 hz hk hn => kk o C' d' j' H1 locs1 hp G1 (oth_N G1 hk hn))
end TE4_
def twI (C : tp_C) (f : Nat → Int32) (e : md_T) (jj : xj_T) : Prop := iOK C f e ∧ jOK C e jj ∧ orOK C f jj ∧ wrOK jj ∧ (∀ m, m < cN C → cK C m = 11 → jDn jj m = some (dlN C m) ∧ 1 ≤ dlN C m ∧ dlN C m ≤ 16) ∧ dnOK jj ∧ apOK e
def e44 (e : md_T) : md_T := uI e 44 (dI e 12 + nI 1)
def xsD (C : tp_C) (t : UInt64) (e : md_T) : md_T := stD C t (e44 e)
def xsJ (C : tp_C) (t : UInt64) (e : md_T) (jj : xj_T) : xj_T := stJ C t (e44 e) jj
theorem e44_I {C : tp_C} {f : Nat → Int32} {e : md_T} (h : iOK C f e) : iOK C f (e44 e) := iOK_mv h rfl rfl rfl
theorem twI_s {C : tp_C} {f : Nat → Int32} {t : UInt64} {e : md_T} {jj : xj_T} (hC : mOK C) (hV : vOK C) (hA : aOK C) (hDl : dlOK C) (h11 : ∀ m, cK C m = 11 → m < cN C) (ht : tOK t) (ht2 : tOK (hf_ t)) (h : twI C f e jj) : twI C f (xsD C t e) (xsJ C t e jj) ∧ jA (xsJ C t e jj) = jA jj := by
  obtain ⟨hi, hj, ho, hw, hd, hn, ha⟩ := h
  obtain ⟨y1, y2, y3, -, -⟩ := stJ_f C t (e44 e) jj
  refine ⟨⟨iOK_st hC hV hA ht ht2 (e44_I hi), jOK_st hDl h11 hC.r, ?_, wrOK_st hC hV hA ht ht2 (e44_I hi) hw, ?_, ?_, apOK_st hC hV hA ht ht2 (e44_I hi) (apOK_mv (d := e) rfl ha)⟩, y1⟩
  · unfold orOK xsJ; rw [y3]; exact ho
  · unfold xsJ; rw [y2]; exact hd
  · unfold dnOK xsJ; rw [y2]; exact hn
theorem xt_tstep (l : Launch) (D : va_G) (dA : Nat → ClassId) {C : tp_C} {f : Nat → Int32} {t : UInt64} {e : md_T} {jj : xj_T} (hC : mOK C) (hV : vOK C) (hA : aOK C) (hDl : dlOK C) (h11 : ∀ m, cK C m = 11 → m < cN C) (ht : tOK t) (ht2 : tOK (hf_ t)) (hh : FP.fdiv (FP.d2f t) FP.fconst2 = FP.d2f (hf_ t)) (h : twI C f e jj) : xC l D dA yX0_step cX0_step 5 none 9 [.ref (jA jj 0), .double t] C (e44 e) jj none C (xsD C t e) (xsJ C t e jj) := by
  obtain ⟨hi, hj, ho, hw, hd, hn, ha⟩ := h
  have el : dAI (e44 e) 10 = f := (e44_I hi).l
  exact xt_X0_step l D dA C (e44 e) jj t hC hV hA hDl (by rw [el]; exact e44_I hi) ht ht2 hh hj (by rw [el]; exact ho) rfl hw hd hn (apOK_mv (d := e) rfl ha) h11
theorem xG_44 {D : va_G} {dA : Nat → ClassId} {A : Nat → Prop} {C : tp_C} {e : md_T} {jj : xj_T} {s : State} {H : Heap} {locs : List Loc} (G : xG D dA A C e jj s H locs) : xG D dA A C (e44 e) jj s H locs := xG_d (xL_v (d' := e44 e) rfl) G
theorem xA_44 {dA : Nat → ClassId} {C : tp_C} {e : md_T} {jj : xj_T} : xA dA C (e44 e) jj = xA dA C e jj := by
  have h : xL dA C e jj = xL dA C (e44 e) jj := xL_v (d' := e44 e) rfl
  funext q
  apply propext
  have k : ∀ e, xA dA C e jj q ↔ ∃ x, (q, x) ∈ xL dA C e jj := fun e => by
    constructor
    · rintro ⟨r, x, hr, hx⟩; exact ⟨x, wr_mem.mpr ⟨r, hr, hx⟩⟩
    · rintro ⟨x, hx⟩; obtain ⟨r, hr, hx⟩ := wr_mem.mp hx; exact ⟨r, x, hr, hx⟩
  rw [k, k, h]
theorem twI_b {C : tp_C} {d : md_T} {j jj : xj_T} (hC : mOK C) (hV : vOK C) (hW : vfOK C) (hA : aOK C) (hDl : dlOK C) (h11 : ∀ m, cK C m = 11 → m < cN C) (hI : iOK C (dAI d 10) d) (hap : apOK d) (hw : wrOK j) {od : Nat → Int32} (hO : orOK C (leF C (dAI d 10)) (sOdA j od)) (hb : bsP C (cN C) (sOdA j od) jj) : twI C (leF C (dAI d 10)) (beD C d) jj := by
  have i3 := iOK_be1 hC hV hW hA hI
  have ha3 : apOK (be1 C d) := apOK_mv (raN_D (by decide)) (apOK_bgN (C := C) (d := be0 C d) (fun k => hap k) (cN C))
  obtain ⟨f1, f2, f3, f4⟩ := e26_be C (be1 C d) (cN C)
  obtain ⟨b1, b2, b3, b4, b5, b6, b7, b8, b9, b10, b11, b12⟩ := id hb
  refine ⟨iOK_be hC hV hW hA hI, ?_, ?_, ?_, fun m hm hk => ?_, b12, ?_⟩
  · refine jOK_mv ((f4 21 (by decide)).trans ?_) ((congrFun f3 22).trans ?_) (fun _ _ => rfl) (fun _ _ => rfl) (jOK_bs (d := be0 C d) h11 hb)
    · exact (it_ok (n := cN C) (P := fun x => dAD x 21 = dAD (be1 C d) 21) rfl (fun i a _ ha => (dfS_D i a (by decide)).trans ha) (cN C) (Nat.le_refl _)).trans (raN_D (by decide))
    · exact (it_ok (n := cN C) (P := fun x => dAF x 22 = dAF (be1 C d) 22) rfl (fun i a _ ha => (show dAF (dfS i a) 22 = dAF a 22 from rfl).trans ha) (cN C) (Nat.le_refl _)).trans (raN_F (by decide))
  · unfold orOK at hO ⊢; rw [b8]; exact hO
  · unfold wrOK; rw [b3, b4]; exact hw
  · rw [b10 m, if_pos ⟨hm, hk⟩]; exact ⟨rfl, (dl_n hDl hk).2⟩
  · exact apOK_mv (f4 25 (by decide)) (apOK_dfN i3 ha3 (cN C))
theorem bsP_0A {C : tp_C} {i : Nat} {j jj : xj_T} (h : bsP C i j jj) : jA jj 0 = jA j 0 := h.1 0 (by decide)
/-- a twin as it is made -/
theorem nm_I (C : tp_C) : iOK C (dAI nmd 10) nmd := ⟨⟨fun _ => bD_0, fun _ => bF_0, fun _ => bD_0, fun _ => bF_0, fun _ => bD_0, fun _ => bF_0⟩, ⟨fun _ => bD_0, fun _ => bD_0, fun _ => bD_0, fun _ => bF_0, fun _ => bF_0, fun _ => bF_0⟩, ⟨fun _ => bD_0, fun _ => bF_0⟩, ⟨fun _ => bD_0, fun _ => bF_0⟩, fun _ _ => ⟨rfl, rfl⟩, rfl⟩
theorem nm_w (ad : Nat → Nat) : wrOK (nmj ad) := ⟨fun _ _ => bD_0, fun _ _ => bF_0⟩
theorem nm_n (ad : Nat → Nat) : dnOK (nmj ad) := fun m n h => by cases h
theorem nm_a : apOK nmd := fun _ => apOK_0
/-- a twin's run -/
def xtN (C : tp_C) (t : UInt64) (n : Nat) : md_T := it_ (fun _ => xsD C t) n (beD C nmd)
theorem xtN_s (C : tp_C) (t : UInt64) (n : Nat) : xtN C t (n + 1) = xsD C t (xtN C t n) := rfl
/-- the greater of what was and how far apart -/
def apV (a : UInt64) : Prop := bD 1087 a ∧ a.toNat < 2 ^ 63
def mxV (a v : UInt64) : UInt64 := if fx_gt (if fx_lt v FP.dconst0 then FP.dneg v else v) a then (if fx_lt v FP.dconst0 then FP.dneg v else v) else a
theorem mxV_e {a v : UInt64} (ha : apV a) (hv : bD 1079 v) : mxD a (abD v) = mxV a v := mxD_df (bD_f ha.1) ha.2 (bD_f hv)
theorem mxV_ok {a v : UInt64} (ha : apV a) (hv : bD 1079 v) : apV (mxV a v) := by
  rw [← mxV_e ha hv]
  have fv := bD_f hv
  obtain ⟨b1, b2, b3⟩ := abD_z fv
  have hb : bD 1087 (abD v) := by
    refine bD_up (K := 1079) ?_
    rw [bD_z b1, b2]
    rw [bD_z fv] at hv
    split <;> omega
  unfold mxD Native.java_lang_Math.nans.pick64
  repeat' split
  all_goals first | exact ⟨hb, b3⟩ | exact ha
theorem apV_0 : apV FP.dconst0 := apOK_0
/-- halves, as the panel finds them -/
def xhV (C : tp_C) (q i : Nat) : UInt64 := FP.dsub (dAD (xtN (twC C) (hvT (cH C)) (i + 1)) 19 q) (dAD (xtN (twC C) (hf_ (hvT (cH C))) (2 * (i + 1))) 19 q)
def xhN (C : tp_C) (q n : Nat) : UInt64 := it_ (fun i a => mxV a (xhV C q i)) n FP.dconst0
theorem xhN_s (C : tp_C) (q n : Nat) : xhN C q (n + 1) = mxV (xhN C q n) (xhV C q n) := rfl
def xhL (C : tp_C) (q n : Int32) : Int64 := if haO C q n then (xhN C (ixN q) (ixN n)).toInt64 else 0
theorem rd_b {d : md_T} {e : md_T} {q : Nat} (h1 : rOK d) (h2 : rOK e) : bD 1079 (FP.dsub (dAD d 19 q) (dAD e 19 q)) := bD_up (K := 1077) (bD_sub (h1.rd q) (h2.rd q))
