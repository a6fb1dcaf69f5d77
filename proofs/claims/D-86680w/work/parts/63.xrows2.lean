section TX2_
variable {p : Program} {l : Launch} {e : Env} {R : Room} {s : State} {m : MethodId} {args : Array Value} {below : List Frame} {meth : Method} {c : Code} {H : Heap} {locs : List Loc} {cells slots : Nat} {Q : State → Prop}
variable {cc : ByteArray} {pc nL : Nat} {ls : Array Slot} {rest st0 : List Value} {D : va_G} {dA : Nat → ClassId} {A : Nat → Prop} {C C' : tp_C} {d d' : md_T} {j j' : xj_T} {own : String}
theorem xx_iald (S : CallFix p m c cc nL s args lw_all own) (G : xG D dA A C d j s H locs) {r a n : Nat} {x : ClassId} {f : Nat → Int32} (hr : r < 130) (hw : xW dA C d j r = some (a, e_I x n f)) (t0 : Nat) (ht : (tp_ty dA)[t0]? = some (x, .int)) {i : Nat} (hi : i < n) (hn : n < 2 ^ 31) {v : Int32} (hv : f i = v) (hdg : decode cc pc = .ok (.iaload, 1))
    (kk : W p l e R s m args below meth c H locs cells slots Q (F0 m (pc + 1) ls (.int v :: rest))) : W p l e R s m args below meth c H locs cells slots Q (F0 m pc ls (.int (nI i) :: .ref a :: rest)) := by
  obtain ⟨hx, hb, hml, hown, hts⟩ := S
  obtain ⟨hP, hK, hD, hS, hT⟩ := G
  obtain ⟨q0, h2, -⟩ := wr_pos (N := 130) hr hw
  refine va_iald hx hb hK hP q0 t0 h2 ht (vp_in_nI hi hn) hdg ?_
  rw [nI_clamp (by omega), hv]; exact kk
theorem xx_iast (S : CallFix p m c cc nL s args lw_all own) (G : xG D dA A C d j s H locs) {r a n : Nat} {x : ClassId} {f : Nat → Int32} (hr : r < 130) (hw : xW dA C d j r = some (a, e_I x n f)) (t0 : Nat) (ht : (tp_ty dA)[t0]? = some (x, .int)) {i : Nat} (hi : i < n) (hn : n < 2 ^ 31) {v : Int32} (hset : wr_s (xW dA C d j) r (a, e_I x n (upd f i v)) = xW dA C' d' j') (hdg : decode cc pc = .ok (.iastore, 1))
    (kk : ∀ (H1 : Heap) (locs1 : List Loc), xG D dA A C' d' j' s H1 locs1 → W p l e R s m args below meth c H1 locs1 cells slots Q (F0 m (pc + 1) ls rest)) : W p l e R s m args below meth c H locs cells slots Q (F0 m pc ls (.int v :: .int (nI i) :: .ref a :: rest)) := by
  obtain ⟨hx, hb, hml, hown, hts⟩ := S
  obtain ⟨hP, hK, hD, hS, hT⟩ := G
  obtain ⟨q0, h2, h3⟩ := wr_pos (N := 130) hr hw
  refine va_iast hx hb hK hP hD hS q0 t0 h2 ht (vp_in_nI hi hn) hdg (fun H1 locs1 hP1 hD1 hS1 => ?_)
  rw [nI_clamp (by omega)] at hP1 hD1
  have e1 : (wr_l 130 (xW dA C d j)).set q0 (a, e_I x n (upd f i v)) = xL dA C' d' j' := by rw [h3, hset]; rfl
  unfold xL at hP1 hD1
  rw [e1] at hP1 hD1
  exact kk H1 locs1 ⟨hP1, hK, hD1, hS1, hT⟩
theorem xx_zald (S : CallFix p m c cc nL s args lw_all own) (G : xG D dA A C d j s H locs) {r a n : Nat} {x : ClassId} {f : Nat → Int32} (hr : r < 130) (hw : xW dA C d j r = some (a, e_I x n f)) (t0 : Nat) (ht : (tp_ty dA)[t0]? = some (x, .boolean)) {i : Nat} (hi : i < n) (hn : n < 2 ^ 31) {v : Int32} (hv : f i = v) (hdg : decode cc pc = .ok (.baload, 1))
    (kk : W p l e R s m args below meth c H locs cells slots Q (F0 m (pc + 1) ls (.int v :: rest))) : W p l e R s m args below meth c H locs cells slots Q (F0 m pc ls (.int (nI i) :: .ref a :: rest)) := by
  obtain ⟨hx, hb, hml, hown, hts⟩ := S
  obtain ⟨hP, hK, hD, hS, hT⟩ := G
  obtain ⟨q0, h2, -⟩ := wr_pos (N := 130) hr hw
  refine va_zald hx hb hK hP q0 t0 h2 ht (vp_in_nI hi hn) hdg ?_
  rw [nI_clamp (by omega), hv]; exact kk
theorem xx_zast (S : CallFix p m c cc nL s args lw_all own) (G : xG D dA A C d j s H locs) {r a n : Nat} {x : ClassId} {f : Nat → Int32} (hr : r < 130) (hw : xW dA C d j r = some (a, e_I x n f)) (t0 : Nat) (ht : (tp_ty dA)[t0]? = some (x, .boolean)) {i : Nat} (hi : i < n) (hn : n < 2 ^ 31) {v : Int32} (hv : vp_nar .boolean v = v) (hset : wr_s (xW dA C d j) r (a, e_I x n (upd f i v)) = xW dA C' d' j') (hdg : decode cc pc = .ok (.bastore, 1))
    (kk : ∀ (H1 : Heap) (locs1 : List Loc), xG D dA A C' d' j' s H1 locs1 → W p l e R s m args below meth c H1 locs1 cells slots Q (F0 m (pc + 1) ls rest)) : W p l e R s m args below meth c H locs cells slots Q (F0 m pc ls (.int v :: .int (nI i) :: .ref a :: rest)) := by
  obtain ⟨hx, hb, hml, hown, hts⟩ := S
  obtain ⟨hP, hK, hD, hS, hT⟩ := G
  obtain ⟨q0, h2, h3⟩ := wr_pos (N := 130) hr hw
  refine va_zast hx hb hK hP hD hS q0 t0 h2 ht (vp_in_nI hi hn) hdg (fun H1 locs1 hP1 hD1 hS1 => ?_)
  rw [nI_clamp (by omega), hv] at hP1 hD1
  have e1 : (wr_l 130 (xW dA C d j)).set q0 (a, e_I x n (upd f i v)) = xL dA C' d' j' := by rw [h3, hset]; rfl
  unfold xL at hP1 hD1
  rw [e1] at hP1 hD1
  exact kk H1 locs1 ⟨hP1, hK, hD1, hS1, hT⟩
theorem xx_dald (S : CallFix p m c cc nL s args lw_all own) (G : xG D dA A C d j s H locs) {r a n : Nat} {x : ClassId} {f : Nat → UInt64} (hr : r < 130) (hw : xW dA C d j r = some (a, e_D x n f)) (t0 : Nat) (ht : (tp_ty dA)[t0]? = some (x, .double)) {i : Nat} (hi : i < n) (hn : n < 2 ^ 31) {v : UInt64} (hv : f i = v) (hdg : decode cc pc = .ok (.daload, 1))
    (kk : W p l e R s m args below meth c H locs cells slots Q (F0 m (pc + 1) ls (.double v :: rest))) : W p l e R s m args below meth c H locs cells slots Q (F0 m pc ls (.int (nI i) :: .ref a :: rest)) := by
  obtain ⟨hx, hb, hml, hown, hts⟩ := S
  obtain ⟨hP, hK, hD, hS, hT⟩ := G
  obtain ⟨q0, h2, -⟩ := wr_pos (N := 130) hr hw
  refine va_dald hx hb hK hP q0 t0 h2 ht (vp_in_nI hi hn) hdg ?_
  rw [nI_clamp (by omega), hv]; exact kk
theorem xx_dast (S : CallFix p m c cc nL s args lw_all own) (G : xG D dA A C d j s H locs) {r a n : Nat} {x : ClassId} {f : Nat → UInt64} (hr : r < 130) (hw : xW dA C d j r = some (a, e_D x n f)) (t0 : Nat) (ht : (tp_ty dA)[t0]? = some (x, .double)) {i : Nat} (hi : i < n) (hn : n < 2 ^ 31) {v : UInt64} (hset : wr_s (xW dA C d j) r (a, e_D x n (vf_upd f i v)) = xW dA C' d' j') (hdg : decode cc pc = .ok (.dastore, 1))
    (kk : ∀ (H1 : Heap) (locs1 : List Loc), xG D dA A C' d' j' s H1 locs1 → W p l e R s m args below meth c H1 locs1 cells slots Q (F0 m (pc + 1) ls rest)) : W p l e R s m args below meth c H locs cells slots Q (F0 m pc ls (.double v :: .int (nI i) :: .ref a :: rest)) := by
  obtain ⟨hx, hb, hml, hown, hts⟩ := S
  obtain ⟨hP, hK, hD, hS, hT⟩ := G
  obtain ⟨q0, h2, h3⟩ := wr_pos (N := 130) hr hw
  refine va_dast hx hb hK hP hD hS q0 t0 h2 ht (vp_in_nI hi hn) hdg (fun H1 locs1 hP1 hD1 hS1 => ?_)
  rw [nI_clamp (by omega)] at hP1 hD1
  have e1 : (wr_l 130 (xW dA C d j)).set q0 (a, e_D x n (vf_upd f i v)) = xL dA C' d' j' := by rw [h3, hset]; rfl
  unfold xL at hP1 hD1
  rw [e1] at hP1 hD1
  exact kk H1 locs1 ⟨hP1, hK, hD1, hS1, hT⟩
theorem xx_fald (S : CallFix p m c cc nL s args lw_all own) (G : xG D dA A C d j s H locs) {r a n : Nat} {x : ClassId} {f : Nat → UInt32} (hr : r < 130) (hw : xW dA C d j r = some (a, e_F x n f)) (t0 : Nat) (ht : (tp_ty dA)[t0]? = some (x, .float)) {i : Nat} (hi : i < n) (hn : n < 2 ^ 31) {v : UInt32} (hv : f i = v) (hdg : decode cc pc = .ok (.faload, 1))
    (kk : W p l e R s m args below meth c H locs cells slots Q (F0 m (pc + 1) ls (.float v :: rest))) : W p l e R s m args below meth c H locs cells slots Q (F0 m pc ls (.int (nI i) :: .ref a :: rest)) := by
  obtain ⟨hx, hb, hml, hown, hts⟩ := S
  obtain ⟨hP, hK, hD, hS, hT⟩ := G
  obtain ⟨q0, h2, -⟩ := wr_pos (N := 130) hr hw
  refine va_fald hx hb hK hP q0 t0 h2 ht (vp_in_nI hi hn) hdg ?_
  rw [nI_clamp (by omega), hv]; exact kk
theorem xx_fast (S : CallFix p m c cc nL s args lw_all own) (G : xG D dA A C d j s H locs) {r a n : Nat} {x : ClassId} {f : Nat → UInt32} (hr : r < 130) (hw : xW dA C d j r = some (a, e_F x n f)) (t0 : Nat) (ht : (tp_ty dA)[t0]? = some (x, .float)) {i : Nat} (hi : i < n) (hn : n < 2 ^ 31) {v : UInt32} (hset : wr_s (xW dA C d j) r (a, e_F x n (vf_upd f i v)) = xW dA C' d' j') (hdg : decode cc pc = .ok (.fastore, 1))
    (kk : ∀ (H1 : Heap) (locs1 : List Loc), xG D dA A C' d' j' s H1 locs1 → W p l e R s m args below meth c H1 locs1 cells slots Q (F0 m (pc + 1) ls rest)) : W p l e R s m args below meth c H locs cells slots Q (F0 m pc ls (.float v :: .int (nI i) :: .ref a :: rest)) := by
  obtain ⟨hx, hb, hml, hown, hts⟩ := S
  obtain ⟨hP, hK, hD, hS, hT⟩ := G
  obtain ⟨q0, h2, h3⟩ := wr_pos (N := 130) hr hw
  refine va_fast hx hb hK hP hD hS q0 t0 h2 ht (vp_in_nI hi hn) hdg (fun H1 locs1 hP1 hD1 hS1 => ?_)
  rw [nI_clamp (by omega)] at hP1 hD1
  have e1 : (wr_l 130 (xW dA C d j)).set q0 (a, e_F x n (vf_upd f i v)) = xL dA C' d' j' := by rw [h3, hset]; rfl
  unfold xL at hP1 hD1
  rw [e1] at hP1 hD1
  exact kk H1 locs1 ⟨hP1, hK, hD1, hS1, hT⟩
theorem xx_lald (S : CallFix p m c cc nL s args lw_all own) (G : xG D dA A C d j s H locs) {r a n : Nat} {x : ClassId} {f : Nat → Int64} (hr : r < 130) (hw : xW dA C d j r = some (a, e_L x n f)) (t0 : Nat) (ht : (tp_ty dA)[t0]? = some (x, .long)) {i : Nat} (hi : i < n) (hn : n < 2 ^ 31) {v : Int64} (hv : f i = v) (hdg : decode cc pc = .ok (.laload, 1))
    (kk : W p l e R s m args below meth c H locs cells slots Q (F0 m (pc + 1) ls (.long v :: rest))) : W p l e R s m args below meth c H locs cells slots Q (F0 m pc ls (.int (nI i) :: .ref a :: rest)) := by
  obtain ⟨hx, hb, hml, hown, hts⟩ := S
  obtain ⟨hP, hK, hD, hS, hT⟩ := G
  obtain ⟨q0, h2, -⟩ := wr_pos (N := 130) hr hw
  refine va_lald hx hb hK hP q0 t0 h2 ht (vp_in_nI hi hn) hdg ?_
  rw [nI_clamp (by omega), hv]; exact kk
theorem xx_last (S : CallFix p m c cc nL s args lw_all own) (G : xG D dA A C d j s H locs) {r a n : Nat} {x : ClassId} {f : Nat → Int64} (hr : r < 130) (hw : xW dA C d j r = some (a, e_L x n f)) (t0 : Nat) (ht : (tp_ty dA)[t0]? = some (x, .long)) {i : Nat} (hi : i < n) (hn : n < 2 ^ 31) {v : Int64} (hset : wr_s (xW dA C d j) r (a, e_L x n (vp_updL f i v)) = xW dA C' d' j') (hdg : decode cc pc = .ok (.lastore, 1))
    (kk : ∀ (H1 : Heap) (locs1 : List Loc), xG D dA A C' d' j' s H1 locs1 → W p l e R s m args below meth c H1 locs1 cells slots Q (F0 m (pc + 1) ls rest)) : W p l e R s m args below meth c H locs cells slots Q (F0 m pc ls (.long v :: .int (nI i) :: .ref a :: rest)) := by
  obtain ⟨hx, hb, hml, hown, hts⟩ := S
  obtain ⟨hP, hK, hD, hS, hT⟩ := G
  obtain ⟨q0, h2, h3⟩ := wr_pos (N := 130) hr hw
  refine va_last hx hb hK hP hD hS q0 t0 h2 ht (vp_in_nI hi hn) hdg (fun H1 locs1 hP1 hD1 hS1 => ?_)
  rw [nI_clamp (by omega)] at hP1 hD1
  have e1 : (wr_l 130 (xW dA C d j)).set q0 (a, e_L x n (vp_updL f i v)) = xL dA C' d' j' := by rw [h3, hset]; rfl
  unfold xL at hP1 hD1
  rw [e1] at hP1 hD1
  exact kk H1 locs1 ⟨hP1, hK, hD1, hS1, hT⟩
/-- a reference out of an array of modules -/
theorem xx_aald (S : CallFix p m c cc nL s args lw_all own) (G : xG D dA A C d j s H locs) {r a n : Nat} {f : Nat → Option Nat} (hr : r < 130) (hw : xW dA C d j r = some (a, e_Q (dA 5) n f)) {i : Nat} (hi : i < n) (hn : n < 2 ^ 31) {o : Option Nat} (hv : f i = o) (hdg : decode cc pc = .ok (.aaload, 1))
    (kk : W p l e R s m args below meth c H locs cells slots Q (F0 m (pc + 1) ls (va_rf o :: rest))) : W p l e R s m args below meth c H locs cells slots Q (F0 m pc ls (.int (nI i) :: .ref a :: rest)) := by
  obtain ⟨hx, hb, hml, hown, hts⟩ := S
  obtain ⟨hP, hK, hD, hS, hT⟩ := G
  obtain ⟨q0, h2, -⟩ := wr_pos (N := 130) hr hw
  refine va_aldq hx hb hK hP q0 5 h2 rfl (vp_in_nI hi hn) hdg ?_
  rw [nI_clamp (by omega), hv]; exact kk
theorem xx_putM (S : CallFix p m c cc nL s args lw_all own) (G : xG D dA A C d j s H locs) {mm : Nat} (hmm : mm < cN C) (hN : cN C ≤ 20) (hk : cK C mm < 14) (f : Nat) (hf : f < kN (cK C mm)) {index : Nat} {ref : String} (hq : (Cond.fieldLink own index ref (kT (cK C mm) f).2.1 (kT (cK C mm) f).2.2.1).before args s = true) (hsame : ∀ x, s.fieldFound? (kT (cK C mm) f).1 (kT (cK C mm) f).2.1 (kT (cK C mm) f).2.2.1 = some x → s.fieldFound? ref (kT (cK C mm) f).2.1 (kT (cK C mm) f).2.2.1 = some x) (hfin : (kT (cK C mm) f).2.2.2 = false) {v : Value} (hn : narrow (kTy (cK C mm) f) v = v) (hfit : fits (kTy (cK C mm) f) v = true) (hset : wr_s (xW dA C d j) (xr mm 0) (jA j (xr mm 0), .inr (cK C mm + 2, (xFs C d j mm).set f v)) = xW dA C' d' j') (hdg : decode cc pc = .ok (.putfield index, 3))
    (kk : ∀ (H1 : Heap) (locs1 : List Loc), xG D dA A C' d' j' s H1 locs1 → W p l e R s m args below meth c H1 locs1 cells slots Q (F0 m (pc + 3) ls rest)) : W p l e R s m args below meth c H locs cells slots Q (F0 m pc ls (v :: .ref (jA j (xr mm 0)) :: rest)) := by
  obtain ⟨hx, hb, hml, hown, hts⟩ := S
  obtain ⟨hP, hK, hD, hS, hT⟩ := G
  obtain ⟨q0, h2, h3⟩ := wr_pos (N := 130) (r := xr mm 0) (xr_lt (by decide) (by omega)) (xW_m (dA := dA) (C := C) (d := d) (j := j) (m := mm) (i := 0) (by decide) hmm rfl)
  refine va_put (D := D) (ci := cK C mm + 2) (C := kC (cK C mm)) (T := kT (cK C mm)) (N := kN (cK C mm)) hx hb hts (k_in hk) (kTy (cK C mm)) (k_ty hk) (k_nm hk) hown hK hP hD hS q0 h2 (k_cl hk) f hf hq hsame hfin (k_ty hk f hf) hn hfit (by rw [xFs_len]; exact hf) hdg (fun H1 locs1 hP1 hD1 hS1 => ?_)
  have e1 : (wr_l 130 (xW dA C d j)).set q0 (jA j (xr mm 0), .inr (cK C mm + 2, (xFs C d j mm).set f v)) = xL dA C' d' j' := by rw [h3, hset]; rfl
  unfold xL at hP1 hD1
  rw [e1] at hP1 hD1
  exact kk H1 locs1 ⟨hP1, hK, hD1, hS1, hT⟩
theorem xx_put11 (S : CallFix p m c cc nL s args lw_all own) (G : xG D dA A C d j s H locs) {mm : Nat} (hmm : mm < cN C) (hN : cN C ≤ 20) (hk : cK C mm < 14) (f : Nat) (hf : f < 11) {index : Nat} (hq : Cond.fieldLink own index RX2 (TX3 f).2.1 (TX3 f).2.2.1 ∈ lw_all) (h1 : (TX3 f).1 = RX2) (hfin : (TX3 f).2.2.2 = false) {v : Value} (hn : narrow (tyX3 f) v = v) (hfit : fits (tyX3 f) v = true) (hset : wr_s (xW dA C d j) (xr mm 0) (jA j (xr mm 0), .inr (cK C mm + 2, (xFs C d j mm).set f v)) = xW dA C' d' j') (hdg : decode cc pc = .ok (.putfield index, 3))
    (kk : ∀ (H1 : Heap) (locs1 : List Loc), xG D dA A C' d' j' s H1 locs1 → W p l e R s m args below meth c H1 locs1 cells slots Q (F0 m (pc + 3) ls rest)) : W p l e R s m args below meth c H locs cells slots Q (F0 m pc ls (v :: .ref (jA j (xr mm 0)) :: rest)) := by
  have hf2 : f < kN (cK C mm) := Nat.lt_of_lt_of_le hf (k_11 _)
  have e := k_T (cK C mm) hk f hf
  have e2 := k_Ty (cK C mm) hk f hf
  exact xx_putM (ref := RX2) S G hmm hN hk f hf2 (by rw [e]; exact S.2.2.2.2 _ hq) (fun x h => by rw [e] at h ⊢; rw [h1] at h; exact h) (by rw [e]; exact hfin) (by rw [e2]; exact hn) (by rw [e2]; exact hfit) hset hdg kk
theorem xx_putP (S : CallFix p m c cc nL s args lw_all own) (G : xG D dA A C d j s H locs) (f : Nat) (hf : f < 17) {index : Nat} (hq : Cond.fieldLink own index RX0 (TX0 f).2.1 (TX0 f).2.2.1 ∈ lw_all) (h1 : (TX0 f).1 = RX0) (hfin : (TX0 f).2.2.2 = false) {v : Value} (hn : narrow (tyX0 f) v = v) (hfit : fits (tyX0 f) v = true) (hset : wr_s (xW dA C d j) 0 (jA j 0, .inr (0, (xPs C d j).set f v)) = xW dA C' d' j') (hdg : decode cc pc = .ok (.putfield index, 3))
    (kk : ∀ (H1 : Heap) (locs1 : List Loc), xG D dA A C' d' j' s H1 locs1 → W p l e R s m args below meth c H1 locs1 cells slots Q (F0 m (pc + 3) ls rest)) : W p l e R s m args below meth c H locs cells slots Q (F0 m pc ls (v :: .ref (jA j 0) :: rest)) := by
  obtain ⟨hx, hb, hml, hown, hts⟩ := S
  obtain ⟨hP, hK, hD, hS, hT⟩ := G
  obtain ⟨q0, h2, h3⟩ := wr_pos (N := 130) (r := 0) (by decide) (xW_p (dA := dA) (C := C) (d := d) (j := j) (r := 0) (by decide) rfl)
  refine va_put (D := D) (ci := 0) (C := RX0) (T := TX0) (N := 17) hx hb hts in_X0 tyX0 tyX0_ok nmX0 hown hK hP hD hS q0 h2 rfl f hf (hts _ hq) (fun x h => by rw [h1] at h; exact h) hfin (tyX0_ok f hf) hn hfit (by rw [xPs_len]; exact hf) hdg (fun H1 locs1 hP1 hD1 hS1 => ?_)
  have e1 : (wr_l 130 (xW dA C d j)).set q0 (jA j 0, .inr (0, (xPs C d j).set f v)) = xL dA C' d' j' := by rw [h3, hset]; rfl
  unfold xL at hP1 hD1
  rw [e1] at hP1 hD1
  exact kk H1 locs1 ⟨hP1, hK, hD1, hS1, hT⟩
theorem xx_iret {v v' : Int32} {C0 C1 C2 : tp_C} {d0 d1 d2 : md_T} {j0 j1 j2 : xj_T} (S : CallFix p m c cc nL s args lw_all own) (hr : meth.sig.returnType = (some .int)) (hlocks : meth.locks = false) (G : xG D dA (xA dA C0 d0 j0) C1 d1 j1 s H locs) (hv : v = v') (he : xL dA C1 d1 j1 = xL dA C2 d2 j2) (hdg : decode cc pc = .ok (.ireturn, 1)) : W p l e R s m args below meth c H locs 0 0 (MQ below (fun _ st oc t => oc = .returned (some (.int v')) ∧ xI D dA (xA dA C0 d0 j0) C2 d2 j2 t ∧ va_F (xA dA C0 d0 j0) st t) args s 0 0 (xA dA C0 d0 j0)) (F0 m pc ls [.int v]) := by
  subst hv
  obtain ⟨hP, hK, hD, hS, hT⟩ := xG_d he G
  exact W.iret S.1 S.2.1 hr (fun t ht hW => ⟨rfl, ⟨by rw [ht]; exact hP, va_K.moved hW.alike hK, hD⟩, hS.F ht⟩) hS.2.2 hdg
theorem xx_zret {v v' : Int32} {C0 C1 C2 : tp_C} {d0 d1 d2 : md_T} {j0 j1 j2 : xj_T} (S : CallFix p m c cc nL s args lw_all own) (hr : meth.sig.returnType = (some .boolean)) (hlocks : meth.locks = false) (G : xG D dA (xA dA C0 d0 j0) C1 d1 j1 s H locs) (hn : narrow .boolean (.int v) = .int v) (hv : v = v') (he : xL dA C1 d1 j1 = xL dA C2 d2 j2) (hdg : decode cc pc = .ok (.ireturn, 1)) : W p l e R s m args below meth c H locs 0 0 (MQ below (fun _ st oc t => oc = .returned (some (.int v')) ∧ xI D dA (xA dA C0 d0 j0) C2 d2 j2 t ∧ va_F (xA dA C0 d0 j0) st t) args s 0 0 (xA dA C0 d0 j0)) (F0 m pc ls [.int v]) := by
  subst hv
  obtain ⟨hP, hK, hD, hS, hT⟩ := xG_d he G
  exact W.zret S.1 S.2.1 hr hn (fun t ht hW => ⟨rfl, ⟨by rw [ht]; exact hP, va_K.moved hW.alike hK, hD⟩, hS.F ht⟩) hS.2.2 hdg
theorem xx_dret {v v' : UInt64} {C0 C1 C2 : tp_C} {d0 d1 d2 : md_T} {j0 j1 j2 : xj_T} (S : CallFix p m c cc nL s args lw_all own) (hr : meth.sig.returnType = (some .double)) (hlocks : meth.locks = false) (G : xG D dA (xA dA C0 d0 j0) C1 d1 j1 s H locs) (hv : v = v') (he : xL dA C1 d1 j1 = xL dA C2 d2 j2) (hdg : decode cc pc = .ok (.dreturn, 1)) : W p l e R s m args below meth c H locs 0 0 (MQ below (fun _ st oc t => oc = .returned (some (.double v')) ∧ xI D dA (xA dA C0 d0 j0) C2 d2 j2 t ∧ va_F (xA dA C0 d0 j0) st t) args s 0 0 (xA dA C0 d0 j0)) (F0 m pc ls [.double v]) := by
  subst hv
  obtain ⟨hP, hK, hD, hS, hT⟩ := xG_d he G
  exact W.dret S.1 S.2.1 hr (fun t ht hW => ⟨rfl, ⟨by rw [ht]; exact hP, va_K.moved hW.alike hK, hD⟩, hS.F ht⟩) hS.2.2 hdg
theorem xx_fret {v v' : UInt32} {C0 C1 C2 : tp_C} {d0 d1 d2 : md_T} {j0 j1 j2 : xj_T} (S : CallFix p m c cc nL s args lw_all own) (hr : meth.sig.returnType = (some .float)) (hlocks : meth.locks = false) (G : xG D dA (xA dA C0 d0 j0) C1 d1 j1 s H locs) (hv : v = v') (he : xL dA C1 d1 j1 = xL dA C2 d2 j2) (hdg : decode cc pc = .ok (.freturn, 1)) : W p l e R s m args below meth c H locs 0 0 (MQ below (fun _ st oc t => oc = .returned (some (.float v')) ∧ xI D dA (xA dA C0 d0 j0) C2 d2 j2 t ∧ va_F (xA dA C0 d0 j0) st t) args s 0 0 (xA dA C0 d0 j0)) (F0 m pc ls [.float v]) := by
  subst hv
  obtain ⟨hP, hK, hD, hS, hT⟩ := xG_d he G
  exact W.fret S.1 S.2.1 hr (fun t ht hW => ⟨rfl, ⟨by rw [ht]; exact hP, va_K.moved hW.alike hK, hD⟩, hS.F ht⟩) hS.2.2 hdg
theorem xx_lret {v v' : Int64} {C0 C1 C2 : tp_C} {d0 d1 d2 : md_T} {j0 j1 j2 : xj_T} (S : CallFix p m c cc nL s args lw_all own) (hr : meth.sig.returnType = (some .long)) (hlocks : meth.locks = false) (G : xG D dA (xA dA C0 d0 j0) C1 d1 j1 s H locs) (hv : v = v') (he : xL dA C1 d1 j1 = xL dA C2 d2 j2) (hdg : decode cc pc = .ok (.lreturn, 1)) : W p l e R s m args below meth c H locs 0 0 (MQ below (fun _ st oc t => oc = .returned (some (.long v')) ∧ xI D dA (xA dA C0 d0 j0) C2 d2 j2 t ∧ va_F (xA dA C0 d0 j0) st t) args s 0 0 (xA dA C0 d0 j0)) (F0 m pc ls [.long v]) := by
  subst hv
  obtain ⟨hP, hK, hD, hS, hT⟩ := xG_d he G
  exact W.lret S.1 S.2.1 hr (fun t ht hW => ⟨rfl, ⟨by rw [ht]; exact hP, va_K.moved hW.alike hK, hD⟩, hS.F ht⟩) hS.2.2 hdg
theorem xx_vret {C0 C1 C2 : tp_C} {d0 d1 d2 : md_T} {j0 j1 j2 : xj_T} (S : CallFix p m c cc nL s args lw_all own) (hr : meth.sig.returnType = none) (hlocks : meth.locks = false) (G : xG D dA (xA dA C0 d0 j0) C1 d1 j1 s H locs) (he : xL dA C1 d1 j1 = xL dA C2 d2 j2) (hdg : decode cc pc = .ok (.return_, 1)) : W p l e R s m args below meth c H locs 0 0 (MQ below (fun _ st oc t => oc = .returned none ∧ xI D dA (xA dA C0 d0 j0) C2 d2 j2 t ∧ va_F (xA dA C0 d0 j0) st t) args s 0 0 (xA dA C0 d0 j0)) (F0 m pc ls []) := by
  obtain ⟨hP, hK, hD, hS, hT⟩ := xG_d he G
  exact W.vret S.1 S.2.1 hr (fun t ht hW => ⟨rfl, ⟨by rw [ht]; exact hP, va_K.moved hW.alike hK, hD⟩, hS.F ht⟩) hS.2.2 hdg
end TX2_
