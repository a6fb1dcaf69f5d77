/-! the classes, the array classes, the shared settings of a panel, the reference's cells -/
abbrev tp_cl : List vw_C := [(RX0, TX0, 17), (RX1, TX1, 61), (RX3, TX3, 11), (RX4, TX4, 11), (RX6, TX6, 18), (RX7, TX7, 15), (RX8, TX8, 11), (RX9, TX9, 11), (RX10, TX10, 11), (RX11, TX11, 14), (RX12, TX12, 11), (RX13, TX13, 11), (RX14, TX14, 11), (RX15, TX15, 17), (RX16, TX16, 11), (RX17, TX17, 14)]
abbrev tp_ty (dA : Nat → ClassId) : List (ClassId × FieldType) := [(dA 0, .int), (dA 1, .boolean), (dA 2, .double), (dA 3, .float), (dA 4, .long), (dA 5, .object "TwinPanel$Module")]
abbrev e_I (c : ClassId) (n : Nat) (f : Nat → Int32) : va_E := .inl (c, n, .inl f)
abbrev e_L (c : ClassId) (n : Nat) (f : Nat → Int64) : va_E := .inl (c, n, .inr (.inl f))
abbrev e_F (c : ClassId) (n : Nat) (f : Nat → UInt32) : va_E := .inl (c, n, .inr (.inr (.inl f)))
abbrev e_D (c : ClassId) (n : Nat) (f : Nat → UInt64) : va_E := .inl (c, n, .inr (.inr (.inr (.inl f))))
abbrev e_Q (c : ClassId) (n : Nat) (f : Nat → Option Nat) : va_E := .inl (c, n, .inr (.inr (.inr (.inr f))))
def oI (o : Option Nat) : Int32 := match o with
  | none => -1
  | some k => nI k
def bI (b : Bool) : Int32 := if b then 1 else 0
/-- the settings: modules, kinds, settings, from, turned, begins, points, xs, ys, failAt, mode, rule, halvings, strips, stripOf, swept -/
abbrev tp_C : Type := Nat × (Nat → Nat) × (Nat → UInt64) × (Nat → Nat → Option Nat) × (Nat → Nat → Bool) × (Nat → UInt64) × (Nat → Nat) × (Nat → Nat → UInt64) × (Nat → Nat → UInt64) × (Nat → Nat) × Nat × Nat × Nat × Nat × (Nat → Nat) × Nat
def cN (C : tp_C) : Nat := C.1
def cK (C : tp_C) : Nat → Nat := C.2.1
def cS (C : tp_C) : Nat → UInt64 := C.2.2.1
def cF (C : tp_C) : Nat → Nat → Option Nat := C.2.2.2.1
def cT (C : tp_C) : Nat → Nat → Bool := C.2.2.2.2.1
def cB (C : tp_C) : Nat → UInt64 := C.2.2.2.2.2.1
def cP (C : tp_C) : Nat → Nat := C.2.2.2.2.2.2.1
def cX (C : tp_C) : Nat → Nat → UInt64 := C.2.2.2.2.2.2.2.1
def cY (C : tp_C) : Nat → Nat → UInt64 := C.2.2.2.2.2.2.2.2.1
def cA (C : tp_C) : Nat → Nat := C.2.2.2.2.2.2.2.2.2.1
def cM (C : tp_C) : Nat := C.2.2.2.2.2.2.2.2.2.2.1
def cR (C : tp_C) : Nat := C.2.2.2.2.2.2.2.2.2.2.2.1
def cH (C : tp_C) : Nat := C.2.2.2.2.2.2.2.2.2.2.2.2.1
def cZ (C : tp_C) : Nat := C.2.2.2.2.2.2.2.2.2.2.2.2.2.1
def cO (C : tp_C) : Nat → Nat := C.2.2.2.2.2.2.2.2.2.2.2.2.2.2.1
def cW (C : tp_C) : Nat := C.2.2.2.2.2.2.2.2.2.2.2.2.2.2.2
/-- what runs, of the reference: ints, doubles, the long, int arrays (booleans too), double arrays, float arrays, by slot -/
abbrev md_T : Type := (Nat → Int32) × (Nat → UInt64) × Int64 × (Nat → Nat → Int32) × (Nat → Nat → UInt64) × (Nat → Nat → UInt32)
def dI (d : md_T) : Nat → Int32 := d.1
def dD (d : md_T) : Nat → UInt64 := d.2.1
def dH (d : md_T) : Int64 := d.2.2.1
def dAI (d : md_T) : Nat → Nat → Int32 := d.2.2.2.1
def dAD (d : md_T) : Nat → Nat → UInt64 := d.2.2.2.2.1
def dAF (d : md_T) : Nat → Nat → UInt32 := d.2.2.2.2.2
def uI (d : md_T) (k : Nat) (v : Int32) : md_T := (va_up (dI d) k v, dD d, dH d, dAI d, dAD d, dAF d)
def uD (d : md_T) (k : Nat) (v : UInt64) : md_T := (dI d, va_up (dD d) k v, dH d, dAI d, dAD d, dAF d)
def uH (d : md_T) (v : Int64) : md_T := (dI d, dD d, v, dAI d, dAD d, dAF d)
def uAI (d : md_T) (k j : Nat) (v : Int32) : md_T := (dI d, dD d, dH d, va_up (dAI d) k (upd (dAI d k) j v), dAD d, dAF d)
def uAD (d : md_T) (k j : Nat) (v : UInt64) : md_T := (dI d, dD d, dH d, dAI d, va_up (dAD d) k (vf_upd (dAD d k) j v), dAF d)
def uAF (d : md_T) (k j : Nat) (v : UInt32) : md_T := (dI d, dD d, dH d, dAI d, dAD d, va_up (dAF d) k (vf_upd (dAF d k) j v))
/-- what a slot is: 1 an int that runs, 2 a double, 3 the long, 4 an int of the settings, 5 an int array that runs, 6 a boolean array that runs, 7 a double array that runs, 8 a float array that runs, 9 an array of the settings -/
def mTy : Nat → Nat := fun k => match k with
  | 0 => 4 | 1 => 9 | 2 => 9 | 3 => 9 | 4 => 9 | 5 => 9 | 6 => 9 | 7 => 9 | 8 => 9 | 9 => 9 | 10 => 5 | 11 => 4 | 12 => 1 | 13 => 4 | 14 => 4 | 15 => 1 | 16 => 1
  | 17 => 7 | 18 => 8 | 19 => 7 | 20 => 8 | 21 => 7 | 22 => 8 | 23 => 5 | 24 => 5 | 25 => 7 | 26 => 7 | 27 => 7 | 28 => 8 | 29 => 7 | 30 => 8 | 31 => 7 | 32 => 8 | 33 => 5 | 34 => 5 | 35 => 7 | 36 => 7
  | 37 => 4 | 38 => 9 | 39 => 5 | 40 => 7 | 41 => 4 | 42 => 7 | 43 => 6 | 44 => 1 | 45 => 2 | 46 => 7 | 47 => 7 | 48 => 7 | 49 => 7 | 50 => 8 | 51 => 8 | 52 => 8 | 53 => 8 | 54 => 7 | 55 => 8 | 56 => 7 | 57 => 8 | 58 => 1 | 59 => 2 | 60 => 3 | _ => 0
def mLen : Nat → Nat := fun k => match k with
  | 21 => 320 | 22 => 320 | 31 => 320 | 32 => 320 | 39 => 6 | 40 => 720 | 42 => 6 | _ => 20
def mCI (C : tp_C) : Nat → Int32 := fun k => match k with
  | 0 => nI (cN C) | 11 => nI (cM C) | 13 => nI (cR C) | 14 => nI (cH C) | 37 => nI (cZ C) | _ => nI (cW C)
def mCE (dA : Nat → ClassId) (C : tp_C) : Nat → va_E := fun k => match k with
  | 1 => e_I (dA 0) 20 (fun m => nI (cK C m))
  | 2 => e_D (dA 2) 20 (cS C)
  | 3 => e_I (dA 0) 120 (fun j => oI (cF C (j / 6) (j % 6)))
  | 4 => e_I (dA 1) 120 (fun j => bI (cT C (j / 6) (j % 6)))
  | 5 => e_D (dA 2) 20 (cB C)
  | 6 => e_I (dA 0) 20 (fun m => nI (cP C m))
  | 7 => e_D (dA 2) 160 (fun j => cX C (j / 8) (j % 8))
  | 8 => e_D (dA 2) 160 (fun j => cY C (j / 8) (j % 8))
  | 9 => e_I (dA 0) 20 (fun m => nI (cA C m))
  | _ => e_I (dA 0) 6 (fun m => nI (cO C m))
def mV (ad : Nat → Nat) (C : tp_C) (d : md_T) (k : Nat) : Value := match mTy k with
  | 1 => .int (dI d k)
  | 2 => .double (dD d k)
  | 3 => .long (dH d)
  | 4 => .int (mCI C k)
  | _ => .ref (ad (k + 1))
def mFs (ad : Nat → Nat) (C : tp_C) (d : md_T) : List Value := (List.range 61).map (mV ad C d)
def mE (dA : Nat → ClassId) (C : tp_C) (d : md_T) (k : Nat) : Option va_E := match mTy k with
  | 5 => some (e_I (dA 0) (mLen k) (dAI d k))
  | 6 => some (e_I (dA 1) (mLen k) (fun j => bI (dAI d k j != 0)))
  | 7 => some (e_D (dA 2) (mLen k) (dAD d k))
  | 8 => some (e_F (dA 3) (mLen k) (dAF d k))
  | 9 => some (mCE dA C k)
  | _ => none
def mW (dA : Nat → ClassId) (ad : Nat → Nat) (C : tp_C) (d : md_T) : wr_F := fun r => match r with
  | 0 => some (ad 0, .inr (1, mFs ad C d))
  | k + 1 => (mE dA C d k).map (fun x => (ad (k + 1), x))
def mL (dA : Nat → ClassId) (ad : Nat → Nat) (C : tp_C) (d : md_T) : va_W := wr_l 64 (mW dA ad C d)
/-- the cells that the reference's methods may change -/
def mA (ad : Nat → Nat) : Nat → Prop := fun q => ∃ r, r < 64 ∧ q = ad r
def mI (D : va_G) (dA : Nat → ClassId) (ad : Nat → Nat) (C : tp_C) (d : md_T) (U : State) : Prop := va_P D tp_cl (mL dA ad C d) U.heap ∧ va_K D tp_cl (tp_ty dA) U ∧ va_D (mA ad) (mL dA ad C d)
def mG (D : va_G) (dA : Nat → ClassId) (ad : Nat → Nat) (C : tp_C) (d : md_T) (s : State) (H : Heap) (locs : List Loc) : Prop := va_P D tp_cl (mL dA ad C d) H ∧ va_K D tp_cl (tp_ty dA) s ∧ va_D (mA ad) (mL dA ad C d) ∧ va_S (mA ad) s.heap H locs
theorem mFs_at (ad : Nat → Nat) (C : tp_C) (d : md_T) {k : Nat} (hk : k < 61) {v : Value} (hv : mV ad C d k = v) : (mFs ad C d)[k]? = some v := by
  unfold mFs
  rw [List.getElem?_map, List.getElem?_range hk, ← hv]
  rfl
theorem mFs_len (ad : Nat → Nat) (C : tp_C) (d : md_T) : (mFs ad C d).length = 61 := by simp [mFs]
theorem mFs_set {ad : Nat → Nat} {C C' : tp_C} {d d' : md_T} {k : Nat} {v : Value} (hv : mV ad C' d' k = v) (h : ∀ j, j < 61 → j ≠ k → mV ad C' d' j = mV ad C d j) : (mFs ad C d).set k v = mFs ad C' d' := by
  apply List.ext_getElem?
  intro j
  by_cases hj : j < 61
  · by_cases e : k = j
    · subst e
      rw [List.getElem?_set_self (by rw [mFs_len]; exact hj), mFs_at ad C' d' hj hv]
    · rw [List.getElem?_set_ne e, mFs_at ad C d hj rfl, mFs_at ad C' d' hj rfl, h j hj (fun q => e q.symm)]
  · rw [List.getElem?_eq_none (by rw [List.length_set, mFs_len]; omega), List.getElem?_eq_none (by rw [mFs_len]; omega)]
theorem mW_obj (dA : Nat → ClassId) (ad : Nat → Nat) (C : tp_C) (d : md_T) : mW dA ad C d 0 = some (ad 0, .inr (1, mFs ad C d)) := rfl
theorem mW_arr {dA : Nat → ClassId} {ad : Nat → Nat} {C : tp_C} {d : md_T} {k : Nat} {x : va_E} (h : mE dA C d k = some x) : mW dA ad C d (k + 1) = some (ad (k + 1), x) := by
  show (mE dA C d k).map _ = _
  rw [h]; rfl
theorem mW_setO {dA : Nat → ClassId} {ad : Nat → Nat} {C C' : tp_C} {d d' : md_T} {fs : List Value} (hf : fs = mFs ad C' d') (h : ∀ k, mE dA C' d' k = mE dA C d k) : wr_s (mW dA ad C d) 0 (ad 0, .inr (1, fs)) = mW dA ad C' d' := by
  subst hf
  funext r
  cases r with
  | zero => rfl
  | succ k =>
    show (if k + 1 = 0 then _ else (mE dA C d k).map _) = (mE dA C' d' k).map _
    rw [if_neg (Nat.succ_ne_zero k), h k]
theorem mW_setA {dA : Nat → ClassId} {ad : Nat → Nat} {C C' : tp_C} {d d' : md_T} {k : Nat} {x : va_E} (hf : mFs ad C d = mFs ad C' d') (hx : mE dA C' d' k = some x) (h : ∀ j, j ≠ k → mE dA C' d' j = mE dA C d j) : wr_s (mW dA ad C d) (k + 1) (ad (k + 1), x) = mW dA ad C' d' := by
  funext r
  cases r with
  | zero =>
    show (if 0 = k + 1 then some (ad (k + 1), x) else some (ad 0, (Sum.inr (1, mFs ad C d) : va_E))) = some (ad 0, Sum.inr (1, mFs ad C' d'))
    rw [if_neg (by omega), hf]
  | succ j =>
    show (if j + 1 = k + 1 then some (ad (k + 1), x) else (mE dA C d j).map _) = (mE dA C' d' j).map _
    by_cases e : j = k
    · subst e
      rw [if_pos rfl, hx]; rfl
    · rw [if_neg (by omega), h j e]
theorem mE_uI (dA : Nat → ClassId) (C : tp_C) (d : md_T) (k : Nat) (v : Int32) (j : Nat) : mE dA C (uI d k v) j = mE dA C d j := rfl
theorem mE_uD (dA : Nat → ClassId) (C : tp_C) (d : md_T) (k : Nat) (v : UInt64) (j : Nat) : mE dA C (uD d k v) j = mE dA C d j := rfl
theorem mE_uH (dA : Nat → ClassId) (C : tp_C) (d : md_T) (v : Int64) (j : Nat) : mE dA C (uH d v) j = mE dA C d j := rfl
theorem mV_uI (ad : Nat → Nat) (C : tp_C) (d : md_T) {k j : Nat} (v : Int32) (h : j ≠ k) : mV ad C (uI d k v) j = mV ad C d j := by
  unfold mV
  split <;> simp [uI, dI, dD, dH, va_up, h]
theorem mV_uD (ad : Nat → Nat) (C : tp_C) (d : md_T) {k j : Nat} (v : UInt64) (h : j ≠ k) : mV ad C (uD d k v) j = mV ad C d j := by
  unfold mV
  split <;> simp [uD, dI, dD, dH, va_up, h]
theorem mE_uAI (dA : Nat → ClassId) (C : tp_C) (d : md_T) {k : Nat} (i : Nat) (v : Int32) {j : Nat} (h : j ≠ k) : mE dA C (uAI d k i v) j = mE dA C d j := by
  unfold mE
  split <;> simp [uAI, dAI, dAD, dAF, va_up, h]
theorem mE_uAD (dA : Nat → ClassId) (C : tp_C) (d : md_T) {k : Nat} (i : Nat) (v : UInt64) {j : Nat} (h : j ≠ k) : mE dA C (uAD d k i v) j = mE dA C d j := by
  unfold mE
  split <;> simp [uAD, dAI, dAD, dAF, va_up, h]
theorem mE_uAF (dA : Nat → ClassId) (C : tp_C) (d : md_T) {k : Nat} (i : Nat) (v : UInt32) {j : Nat} (h : j ≠ k) : mE dA C (uAF d k i v) j = mE dA C d j := by
  unfold mE
  split <;> simp [uAF, dAI, dAD, dAF, va_up, h]
theorem mE_5 {dA : Nat → ClassId} {C : tp_C} {d : md_T} {k : Nat} (hk : mTy k = 5) : mE dA C d k = some (e_I (dA 0) (mLen k) (dAI d k)) := by
  unfold mE; rw [hk]; rfl
theorem mE_6 {dA : Nat → ClassId} {C : tp_C} {d : md_T} {k : Nat} (hk : mTy k = 6) : mE dA C d k = some (e_I (dA 1) (mLen k) (fun j => bI (dAI d k j != 0))) := by
  unfold mE; rw [hk]; rfl
theorem mE_7 {dA : Nat → ClassId} {C : tp_C} {d : md_T} {k : Nat} (hk : mTy k = 7) : mE dA C d k = some (e_D (dA 2) (mLen k) (dAD d k)) := by
  unfold mE; rw [hk]; rfl
theorem mE_8 {dA : Nat → ClassId} {C : tp_C} {d : md_T} {k : Nat} (hk : mTy k = 8) : mE dA C d k = some (e_F (dA 3) (mLen k) (dAF d k)) := by
  unfold mE; rw [hk]; rfl
theorem dAI_self (d : md_T) (k j : Nat) (v : Int32) : dAI (uAI d k j v) k = upd (dAI d k) j v := by simp [uAI, dAI, va_up]
theorem dAD_self (d : md_T) (k j : Nat) (v : UInt64) : dAD (uAD d k j v) k = vf_upd (dAD d k) j v := by simp [uAD, dAD, va_up]
theorem dAF_self (d : md_T) (k j : Nat) (v : UInt32) : dAF (uAF d k j v) k = vf_upd (dAF d k) j v := by simp [uAF, dAF, va_up]
section TP3
variable {p : Program} {l : Launch} {e : Env} {R : Room} {s : State} {m : MethodId} {args : Array Value} {below : List Frame} {meth : Method} {c : Code} {H : Heap} {locs : List Loc} {cells slots : Nat} {Q : State → Prop}
variable {cc : ByteArray} {pc nL : Nat} {ls : Array Slot} {rest : List Value} {D : va_G} {dA : Nat → ClassId} {ad : Nat → Nat} {C : tp_C} {d : md_T}
/-- a field of the reference is read -/
theorem mm_get (S : CallFix p m c cc nL s args lw_all RX1) (G : mG D dA ad C d s H locs) (k : Nat) (hk : k < 61) {index : Nat} (hq : Cond.fieldLink RX1 index RX1 (TX1 k).2.1 (TX1 k).2.2.1 ∈ lw_all) (h1 : (TX1 k).1 = RX1) {v : Value} (hv : mV ad C d k = v) (hdg : decode cc pc = .ok (.getfield index, 3))
    (kk : W p l e R s m args below meth c H locs cells slots Q (F0 m (pc + 3) ls (v :: rest))) : W p l e R s m args below meth c H locs cells slots Q (F0 m pc ls (.ref (ad 0) :: rest)) := by
  obtain ⟨hx, hb, hml, hown, hts⟩ := S
  obtain ⟨hP, hK, hD, hS⟩ := G
  obtain ⟨q0, h2, -⟩ := wr_pos (N := 64) (r := 0) (by decide) (mW_obj dA ad C d)
  exact va_get (D := D) (ci := 1) (C := RX1) (T := TX1) (N := 61) hx hb hts in_X1 hown hK hP q0 h2 rfl k hk (hts _ hq) (fun x h => by rw [h1] at h; exact h) (mFs_at ad C d hk hv) hdg kk
/-- a field of the reference is written: the new settings and what runs are told -/
theorem mm_put (S : CallFix p m c cc nL s args lw_all RX1) (G : mG D dA ad C d s H locs) (k : Nat) (hk : k < 61) {index : Nat} (hq : Cond.fieldLink RX1 index RX1 (TX1 k).2.1 (TX1 k).2.2.1 ∈ lw_all) (h1 : (TX1 k).1 = RX1) (hfin : (TX1 k).2.2.2 = false) {v : Value} (hn : narrow (tyX1 k) v = v) (hfit : fits (tyX1 k) v = true) {C' : tp_C} {d' : md_T} (hv : mV ad C' d' k = v) (ho : ∀ j, j < 61 → j ≠ k → mV ad C' d' j = mV ad C d j) (ha : ∀ j, mE dA C' d' j = mE dA C d j) (hdg : decode cc pc = .ok (.putfield index, 3))
    (kk : ∀ (H1 : Heap) (locs1 : List Loc), mG D dA ad C' d' s H1 locs1 → W p l e R s m args below meth c H1 locs1 cells slots Q (F0 m (pc + 3) ls rest)) : W p l e R s m args below meth c H locs cells slots Q (F0 m pc ls (v :: .ref (ad 0) :: rest)) := by
  obtain ⟨hx, hb, hml, hown, hts⟩ := S
  obtain ⟨hP, hK, hD, hS⟩ := G
  obtain ⟨q0, h2, h3⟩ := wr_pos (N := 64) (r := 0) (by decide) (mW_obj dA ad C d)
  refine va_put (D := D) (ci := 1) (C := RX1) (T := TX1) (N := 61) hx hb hts in_X1 tyX1 tyX1_ok nmX1 hown hK hP hD hS q0 h2 rfl k hk (hts _ hq) (fun x h => by rw [h1] at h; exact h) hfin (tyX1_ok k hk) hn hfit (by rw [mFs_len]; exact hk) hdg (fun H1 locs1 hP1 hD1 hS1 => ?_)
  have e1 : (wr_l 64 (mW dA ad C d)).set q0 (ad 0, .inr (1, (mFs ad C d).set k v)) = mL dA ad C' d' := by
    rw [h3, mW_setO (mFs_set hv ho) ha]; rfl
  unfold mL at hP1 hD1
  rw [e1] at hP1 hD1
  exact kk H1 locs1 ⟨hP1, hK, hD1, hS1⟩
theorem mm_puti (S : CallFix p m c cc nL s args lw_all RX1) (G : mG D dA ad C d s H locs) (k : Nat) (hk : mTy k = 1) (hk2 : k < 61) {index : Nat} (hq : Cond.fieldLink RX1 index RX1 (TX1 k).2.1 (TX1 k).2.2.1 ∈ lw_all) (h1 : (TX1 k).1 = RX1) (hfin : (TX1 k).2.2.2 = false) (ht : tyX1 k = .int) {v : Int32} (hdg : decode cc pc = .ok (.putfield index, 3))
    (kk : ∀ (H1 : Heap) (locs1 : List Loc), mG D dA ad C (uI d k v) s H1 locs1 → W p l e R s m args below meth c H1 locs1 cells slots Q (F0 m (pc + 3) ls rest)) : W p l e R s m args below meth c H locs cells slots Q (F0 m pc ls (.int v :: .ref (ad 0) :: rest)) := by
  refine mm_put (C' := C) (d' := uI d k v) S G k hk2 hq h1 hfin (by rw [ht]; rfl) (by rw [ht]; rfl) ?_ (fun j _ hj => mV_uI ad C d v hj) (fun j => rfl) hdg kk
  unfold mV; rw [hk]; simp [uI, dI, va_up]
theorem mm_putd (S : CallFix p m c cc nL s args lw_all RX1) (G : mG D dA ad C d s H locs) (k : Nat) (hk : mTy k = 2) (hk2 : k < 61) {index : Nat} (hq : Cond.fieldLink RX1 index RX1 (TX1 k).2.1 (TX1 k).2.2.1 ∈ lw_all) (h1 : (TX1 k).1 = RX1) (hfin : (TX1 k).2.2.2 = false) (ht : tyX1 k = .double) {v : UInt64} (hdg : decode cc pc = .ok (.putfield index, 3))
    (kk : ∀ (H1 : Heap) (locs1 : List Loc), mG D dA ad C (uD d k v) s H1 locs1 → W p l e R s m args below meth c H1 locs1 cells slots Q (F0 m (pc + 3) ls rest)) : W p l e R s m args below meth c H locs cells slots Q (F0 m pc ls (.double v :: .ref (ad 0) :: rest)) := by
  refine mm_put (C' := C) (d' := uD d k v) S G k hk2 hq h1 hfin (by rw [ht]; rfl) (by rw [ht]; rfl) ?_ (fun j _ hj => mV_uD ad C d v hj) (fun j => rfl) hdg kk
  unfold mV; rw [hk]; simp [uD, dD, va_up]
theorem mm_puth (S : CallFix p m c cc nL s args lw_all RX1) (G : mG D dA ad C d s H locs) {index : Nat} (hq : Cond.fieldLink RX1 index RX1 (TX1 60).2.1 (TX1 60).2.2.1 ∈ lw_all) {v : Int64} (hdg : decode cc pc = .ok (.putfield index, 3))
    (kk : ∀ (H1 : Heap) (locs1 : List Loc), mG D dA ad C (uH d v) s H1 locs1 → W p l e R s m args below meth c H1 locs1 cells slots Q (F0 m (pc + 3) ls rest)) : W p l e R s m args below meth c H locs cells slots Q (F0 m pc ls (.long v :: .ref (ad 0) :: rest)) := by
  refine mm_put (C' := C) (d' := uH d v) S G 60 (by decide) hq rfl rfl rfl rfl rfl (fun j hj hne => ?_) (fun j => rfl) hdg kk
  unfold mV
  have h3 : mTy j = 3 → j = 60 := by
    intro h
    have : ∀ j, j < 61 → mTy j = 3 → j = 60 := by decide
    exact this j hj h
  split
  · rfl
  · rfl
  · rename_i h; exact absurd (h3 h) hne
  · rfl
  · rfl
theorem nI_in' {j n : Nat} (h : j < n) (hn : n < 2 ^ 31) : vp_in (nI j) n := vp_in_nI h hn
/-- arrays are read -/
theorem mm_iald (S : CallFix p m c cc nL s args lw_all RX1) (G : mG D dA ad C d s H locs) (k t0 : Nat) (hk : k < 63) {x : ClassId} {n : Nat} {f : Nat → Int32} (hE : mE dA C d k = some (e_I x n f)) (ht : (tp_ty dA)[t0]? = some (x, .int)) {j : Nat} (hj : j < n) (hn : n < 2 ^ 31) {v : Int32} (hv : f j = v) (hdg : decode cc pc = .ok (.iaload, 1))
    (kk : W p l e R s m args below meth c H locs cells slots Q (F0 m (pc + 1) ls (.int v :: rest))) : W p l e R s m args below meth c H locs cells slots Q (F0 m pc ls (.int (nI j) :: .ref (ad (k + 1)) :: rest)) := by
  obtain ⟨hx, hb, hml, hown, hts⟩ := S
  obtain ⟨hP, hK, hD, hS⟩ := G
  obtain ⟨q0, h2, -⟩ := wr_pos (N := 64) (r := k + 1) (by omega) (mW_arr (ad := ad) hE)
  refine va_iald hx hb hK hP q0 t0 h2 ht (vp_in_nI hj hn) hdg ?_
  rw [nI_clamp (by omega), hv]; exact kk
theorem mm_zald (S : CallFix p m c cc nL s args lw_all RX1) (G : mG D dA ad C d s H locs) (k t0 : Nat) (hk : k < 63) {x : ClassId} {n : Nat} {f : Nat → Int32} (hE : mE dA C d k = some (e_I x n f)) (ht : (tp_ty dA)[t0]? = some (x, .boolean)) {j : Nat} (hj : j < n) (hn : n < 2 ^ 31) {v : Int32} (hv : f j = v) (hdg : decode cc pc = .ok (.baload, 1))
    (kk : W p l e R s m args below meth c H locs cells slots Q (F0 m (pc + 1) ls (.int v :: rest))) : W p l e R s m args below meth c H locs cells slots Q (F0 m pc ls (.int (nI j) :: .ref (ad (k + 1)) :: rest)) := by
  obtain ⟨hx, hb, hml, hown, hts⟩ := S
  obtain ⟨hP, hK, hD, hS⟩ := G
  obtain ⟨q0, h2, -⟩ := wr_pos (N := 64) (r := k + 1) (by omega) (mW_arr (ad := ad) hE)
  refine va_zald hx hb hK hP q0 t0 h2 ht (vp_in_nI hj hn) hdg ?_
  rw [nI_clamp (by omega), hv]; exact kk
theorem mm_dald (S : CallFix p m c cc nL s args lw_all RX1) (G : mG D dA ad C d s H locs) (k t0 : Nat) (hk : k < 63) {x : ClassId} {n : Nat} {f : Nat → UInt64} (hE : mE dA C d k = some (e_D x n f)) (ht : (tp_ty dA)[t0]? = some (x, .double)) {j : Nat} (hj : j < n) (hn : n < 2 ^ 31) {v : UInt64} (hv : f j = v) (hdg : decode cc pc = .ok (.daload, 1))
    (kk : W p l e R s m args below meth c H locs cells slots Q (F0 m (pc + 1) ls (.double v :: rest))) : W p l e R s m args below meth c H locs cells slots Q (F0 m pc ls (.int (nI j) :: .ref (ad (k + 1)) :: rest)) := by
  obtain ⟨hx, hb, hml, hown, hts⟩ := S
  obtain ⟨hP, hK, hD, hS⟩ := G
  obtain ⟨q0, h2, -⟩ := wr_pos (N := 64) (r := k + 1) (by omega) (mW_arr (ad := ad) hE)
  refine va_dald hx hb hK hP q0 t0 h2 ht (vp_in_nI hj hn) hdg ?_
  rw [nI_clamp (by omega), hv]; exact kk
theorem mm_fald (S : CallFix p m c cc nL s args lw_all RX1) (G : mG D dA ad C d s H locs) (k t0 : Nat) (hk : k < 63) {x : ClassId} {n : Nat} {f : Nat → UInt32} (hE : mE dA C d k = some (e_F x n f)) (ht : (tp_ty dA)[t0]? = some (x, .float)) {j : Nat} (hj : j < n) (hn : n < 2 ^ 31) {v : UInt32} (hv : f j = v) (hdg : decode cc pc = .ok (.faload, 1))
    (kk : W p l e R s m args below meth c H locs cells slots Q (F0 m (pc + 1) ls (.float v :: rest))) : W p l e R s m args below meth c H locs cells slots Q (F0 m pc ls (.int (nI j) :: .ref (ad (k + 1)) :: rest)) := by
  obtain ⟨hx, hb, hml, hown, hts⟩ := S
  obtain ⟨hP, hK, hD, hS⟩ := G
  obtain ⟨q0, h2, -⟩ := wr_pos (N := 64) (r := k + 1) (by omega) (mW_arr (ad := ad) hE)
  refine va_fald hx hb hK hP q0 t0 h2 ht (vp_in_nI hj hn) hdg ?_
  rw [nI_clamp (by omega), hv]; exact kk
/-- arrays are written: the new settings and what runs are told -/
theorem mm_iastC (S : CallFix p m c cc nL s args lw_all RX1) (G : mG D dA ad C d s H locs) (k t0 : Nat) (hk : k < 63) {x : ClassId} {n : Nat} {f : Nat → Int32} (hE : mE dA C d k = some (e_I x n f)) (ht : (tp_ty dA)[t0]? = some (x, .int)) {j : Nat} (hj : j < n) (hn : n < 2 ^ 31) {v : Int32} {C' : tp_C} {d' : md_T} (hE' : mE dA C' d' k = some (e_I x n (upd f j v))) (hf : mFs ad C d = mFs ad C' d') (ho : ∀ i, i ≠ k → mE dA C' d' i = mE dA C d i) (hdg : decode cc pc = .ok (.iastore, 1))
    (kk : ∀ (H1 : Heap) (locs1 : List Loc), mG D dA ad C' d' s H1 locs1 → W p l e R s m args below meth c H1 locs1 cells slots Q (F0 m (pc + 1) ls rest)) : W p l e R s m args below meth c H locs cells slots Q (F0 m pc ls (.int v :: .int (nI j) :: .ref (ad (k + 1)) :: rest)) := by
  obtain ⟨hx, hb, hml, hown, hts⟩ := S
  obtain ⟨hP, hK, hD, hS⟩ := G
  obtain ⟨q0, h2, h3⟩ := wr_pos (N := 64) (r := k + 1) (by omega) (mW_arr (ad := ad) hE)
  refine va_iast hx hb hK hP hD hS q0 t0 h2 ht (vp_in_nI hj hn) hdg (fun H1 locs1 hP1 hD1 hS1 => ?_)
  rw [nI_clamp (by omega)] at hP1 hD1
  have e1 : (wr_l 64 (mW dA ad C d)).set q0 (ad (k + 1), e_I x n (upd f j v)) = mL dA ad C' d' := by
    rw [h3, mW_setA hf hE' ho]; rfl
  unfold mL at hP1 hD1
  rw [e1] at hP1 hD1
  exact kk H1 locs1 ⟨hP1, hK, hD1, hS1⟩
theorem mm_zastC (S : CallFix p m c cc nL s args lw_all RX1) (G : mG D dA ad C d s H locs) (k t0 : Nat) (hk : k < 63) {x : ClassId} {n : Nat} {f : Nat → Int32} (hE : mE dA C d k = some (e_I x n f)) (ht : (tp_ty dA)[t0]? = some (x, .boolean)) {j : Nat} (hj : j < n) (hn : n < 2 ^ 31) {v : Int32} (hv : vp_nar .boolean v = v) {C' : tp_C} {d' : md_T} (hE' : mE dA C' d' k = some (e_I x n (upd f j v))) (hf : mFs ad C d = mFs ad C' d') (ho : ∀ i, i ≠ k → mE dA C' d' i = mE dA C d i) (hdg : decode cc pc = .ok (.bastore, 1))
    (kk : ∀ (H1 : Heap) (locs1 : List Loc), mG D dA ad C' d' s H1 locs1 → W p l e R s m args below meth c H1 locs1 cells slots Q (F0 m (pc + 1) ls rest)) : W p l e R s m args below meth c H locs cells slots Q (F0 m pc ls (.int v :: .int (nI j) :: .ref (ad (k + 1)) :: rest)) := by
  obtain ⟨hx, hb, hml, hown, hts⟩ := S
  obtain ⟨hP, hK, hD, hS⟩ := G
  obtain ⟨q0, h2, h3⟩ := wr_pos (N := 64) (r := k + 1) (by omega) (mW_arr (ad := ad) hE)
  refine va_zast hx hb hK hP hD hS q0 t0 h2 ht (vp_in_nI hj hn) hdg (fun H1 locs1 hP1 hD1 hS1 => ?_)
  rw [nI_clamp (by omega), hv] at hP1 hD1
  have e1 : (wr_l 64 (mW dA ad C d)).set q0 (ad (k + 1), e_I x n (upd f j v)) = mL dA ad C' d' := by
    rw [h3, mW_setA hf hE' ho]; rfl
  unfold mL at hP1 hD1
  rw [e1] at hP1 hD1
  exact kk H1 locs1 ⟨hP1, hK, hD1, hS1⟩
theorem mm_dastC (S : CallFix p m c cc nL s args lw_all RX1) (G : mG D dA ad C d s H locs) (k t0 : Nat) (hk : k < 63) {x : ClassId} {n : Nat} {f : Nat → UInt64} (hE : mE dA C d k = some (e_D x n f)) (ht : (tp_ty dA)[t0]? = some (x, .double)) {j : Nat} (hj : j < n) (hn : n < 2 ^ 31) {v : UInt64} {C' : tp_C} {d' : md_T} (hE' : mE dA C' d' k = some (e_D x n (vf_upd f j v))) (hf : mFs ad C d = mFs ad C' d') (ho : ∀ i, i ≠ k → mE dA C' d' i = mE dA C d i) (hdg : decode cc pc = .ok (.dastore, 1))
    (kk : ∀ (H1 : Heap) (locs1 : List Loc), mG D dA ad C' d' s H1 locs1 → W p l e R s m args below meth c H1 locs1 cells slots Q (F0 m (pc + 1) ls rest)) : W p l e R s m args below meth c H locs cells slots Q (F0 m pc ls (.double v :: .int (nI j) :: .ref (ad (k + 1)) :: rest)) := by
  obtain ⟨hx, hb, hml, hown, hts⟩ := S
  obtain ⟨hP, hK, hD, hS⟩ := G
  obtain ⟨q0, h2, h3⟩ := wr_pos (N := 64) (r := k + 1) (by omega) (mW_arr (ad := ad) hE)
  refine va_dast hx hb hK hP hD hS q0 t0 h2 ht (vp_in_nI hj hn) hdg (fun H1 locs1 hP1 hD1 hS1 => ?_)
  rw [nI_clamp (by omega)] at hP1 hD1
  have e1 : (wr_l 64 (mW dA ad C d)).set q0 (ad (k + 1), e_D x n (vf_upd f j v)) = mL dA ad C' d' := by
    rw [h3, mW_setA hf hE' ho]; rfl
  unfold mL at hP1 hD1
  rw [e1] at hP1 hD1
  exact kk H1 locs1 ⟨hP1, hK, hD1, hS1⟩
theorem mm_iast (S : CallFix p m c cc nL s args lw_all RX1) (G : mG D dA ad C d s H locs) (k : Nat) (hk : mTy k = 5) (hk2 : k < 63) {j n : Nat} (hn : mLen k = n) (hj : j < n) {v : Int32} (hdg : decode cc pc = .ok (.iastore, 1))
    (kk : ∀ (H1 : Heap) (locs1 : List Loc), mG D dA ad C (uAI d k j v) s H1 locs1 → W p l e R s m args below meth c H1 locs1 cells slots Q (F0 m (pc + 1) ls rest)) : W p l e R s m args below meth c H locs cells slots Q (F0 m pc ls (.int v :: .int (nI j) :: .ref (ad (k + 1)) :: rest)) := by
  subst hn
  have hlt : mLen k < 2 ^ 31 := by unfold mLen; split <;> decide
  refine mm_iastC (C' := C) (d' := uAI d k j v) S G k 0 hk2 (mE_5 hk) rfl hj hlt (by rw [mE_5 hk, dAI_self]) rfl (fun i hi => mE_uAI dA C d j v hi) hdg kk
theorem bI_ne0 (b : Bool) : (bI b != 0) = b := by cases b <;> rfl
theorem mm_zast (S : CallFix p m c cc nL s args lw_all RX1) (G : mG D dA ad C d s H locs) (k : Nat) (hk : mTy k = 6) (hk2 : k < 63) {j n : Nat} (hn : mLen k = n) (hj : j < n) {b : Bool} (hdg : decode cc pc = .ok (.bastore, 1))
    (kk : ∀ (H1 : Heap) (locs1 : List Loc), mG D dA ad C (uAI d k j (bI b)) s H1 locs1 → W p l e R s m args below meth c H1 locs1 cells slots Q (F0 m (pc + 1) ls rest)) : W p l e R s m args below meth c H locs cells slots Q (F0 m pc ls (.int (bI b) :: .int (nI j) :: .ref (ad (k + 1)) :: rest)) := by
  subst hn
  have hlt : mLen k < 2 ^ 31 := by unfold mLen; split <;> decide
  refine mm_zastC (C' := C) (d' := uAI d k j (bI b)) S G k 1 hk2 (mE_6 hk) rfl hj hlt (by cases b <;> rfl) ?_ rfl (fun i hi => mE_uAI dA C d j (bI b) hi) hdg kk
  rw [mE_6 hk, dAI_self]
  have e1 : (fun i => bI (upd (dAI d k) j (bI b) i != 0)) = upd (fun i => bI (dAI d k i != 0)) j (bI b) := by
    funext i
    unfold upd
    by_cases h : i = j
    · rw [if_pos h, if_pos h, bI_ne0]
    · rw [if_neg h, if_neg h]
  rw [e1]
theorem mm_dast (S : CallFix p m c cc nL s args lw_all RX1) (G : mG D dA ad C d s H locs) (k : Nat) (hk : mTy k = 7) (hk2 : k < 63) {j n : Nat} (hn : mLen k = n) (hj : j < n) {v : UInt64} (hdg : decode cc pc = .ok (.dastore, 1))
    (kk : ∀ (H1 : Heap) (locs1 : List Loc), mG D dA ad C (uAD d k j v) s H1 locs1 → W p l e R s m args below meth c H1 locs1 cells slots Q (F0 m (pc + 1) ls rest)) : W p l e R s m args below meth c H locs cells slots Q (F0 m pc ls (.double v :: .int (nI j) :: .ref (ad (k + 1)) :: rest)) := by
  subst hn
  have hlt : mLen k < 2 ^ 31 := by unfold mLen; split <;> decide
  refine mm_dastC (C' := C) (d' := uAD d k j v) S G k 2 hk2 (mE_7 hk) rfl hj hlt (by rw [mE_7 hk, dAD_self]) rfl (fun i hi => mE_uAD dA C d j v hi) hdg kk
theorem mm_fast (S : CallFix p m c cc nL s args lw_all RX1) (G : mG D dA ad C d s H locs) (k : Nat) (hk : mTy k = 8) (hk2 : k < 63) {j n : Nat} (hn : mLen k = n) (hj : j < n) {v : UInt32} (hdg : decode cc pc = .ok (.fastore, 1))
    (kk : ∀ (H1 : Heap) (locs1 : List Loc), mG D dA ad C (uAF d k j v) s H1 locs1 → W p l e R s m args below meth c H1 locs1 cells slots Q (F0 m (pc + 1) ls rest)) : W p l e R s m args below meth c H locs cells slots Q (F0 m pc ls (.float v :: .int (nI j) :: .ref (ad (k + 1)) :: rest)) := by
  subst hn
  have hlt : mLen k < 2 ^ 31 := by unfold mLen; split <;> decide
  obtain ⟨hx, hb, hml, hown, hts⟩ := S
  obtain ⟨hP, hK, hD, hS⟩ := G
  have hE : mE dA C d k = some (e_F (dA 3) (mLen k) (dAF d k)) := mE_8 hk
  have hE' : mE dA C (uAF d k j v) k = some (e_F (dA 3) (mLen k) (vf_upd (dAF d k) j v)) := by rw [mE_8 hk, dAF_self]
  obtain ⟨q0, h2, h3⟩ := wr_pos (N := 64) (r := k + 1) (by omega) (mW_arr (ad := ad) hE)
  refine va_fast hx hb hK hP hD hS q0 3 h2 rfl (vp_in_nI hj hlt) hdg (fun H1 locs1 hP1 hD1 hS1 => ?_)
  rw [nI_clamp (by omega)] at hP1 hD1
  have e1 : (wr_l 64 (mW dA ad C d)).set q0 (ad (k + 1), e_F (dA 3) (mLen k) (vf_upd (dAF d k) j v)) = mL dA ad C (uAF d k j v) := by
    rw [h3, mW_setA (C := C) (d := d) (C' := C) (d' := uAF d k j v) rfl hE' (fun i hi => mE_uAF dA C d j v hi)]; rfl
  unfold mL at hP1 hD1
  rw [e1] at hP1 hD1
  exact kk H1 locs1 ⟨hP1, hK, hD1, hS1⟩
end TP3
/-! contracts of the reference's methods: from the settings C and what runs d to C', d', answer o; h: how deep it calls -/
abbrev rm_ (h : Nat) : Room := { frames := h, cells := 0, slots := 0, locals := 48 * h }
def mQ (D : va_G) (dA : Nat → ClassId) (ad : Nat → Nat) (o : Option Value) (C : tp_C) (d : md_T) : Array Value → State → Outcome → State → Prop := fun _ st oc t => oc = .returned o ∧ mI D dA ad C d t ∧ va_F (mA ad) st t
def mC (l : Launch) (D : va_G) (dA : Nat → ClassId) (ad : Nat → Nat) (y : MethodName) (b : ByteArray) (L : Nat) (r : Option FieldType) (h : Nat) (As : List Value) (C : tp_C) (d : md_T) (o : Option Value) (C' : tp_C) (d' : md_T) : Prop :=
  Met l y (ws_ y b L r) (rm_ h) (va_Pc (.ref (ad 0) :: As) (mI D dA ad C d)) (mQ D dA ad o C' d') 0 0 (mA ad)
theorem mI_moved {D : va_G} {dA : Nat → ClassId} {ad : Nat → Nat} {C : tp_C} {d : md_T} {U V : State} (h : mI D dA ad C d U) (hh : V.heap = U.heap) (hvm : U.vm.Alike V.vm) : mI D dA ad C d V := ⟨by rw [hh]; exact h.1, va_K.moved hvm h.2.1, h.2.2⟩
theorem mI_blind {D : va_G} {dA : Nat → ClassId} {ad : Nat → Nat} {C : tp_C} {d : md_T} {av : List Value} : FrameBlind (va_Pc av (mI D dA ad C d)) := fun a U g mk q => ⟨q.1, mI_moved q.2 rfl (Vm.Alike.refl U.vm)⟩
theorem mG_d {D : va_G} {dA : Nat → ClassId} {ad : Nat → Nat} {C : tp_C} {d d' : md_T} {s : State} {H : Heap} {locs : List Loc} (e : d = d') (G : mG D dA ad C d s H locs) : mG D dA ad C d' s H locs := e ▸ G
theorem mG_C {D : va_G} {dA : Nat → ClassId} {ad : Nat → Nat} {C C' : tp_C} {d d' : md_T} {s : State} {H : Heap} {locs : List Loc} (e : C = C') (e2 : d = d') (G : mG D dA ad C d s H locs) : mG D dA ad C' d' s H locs := e ▸ e2 ▸ G
section TP4
variable {p : Program} {l : Launch} {e : Env} {R : Room} {s : State} {m : MethodId} {args : Array Value} {below : List Frame} {meth : Method} {c : Code} {H : Heap} {locs : List Loc} {cells slots : Nat} {Q : State → Prop}
variable {cc : ByteArray} {pc nL : Nat} {ls : Array Slot} {rest st0 : List Value} {D : va_G} {dA : Nat → ClassId} {ad : Nat → Nat} {C C' : tp_C} {d d' : md_T}
theorem mm_start {y : MethodName} {n h : Nat} {ret : Option FieldType} {As : List Value} {o : Option Value} (hy : plainName y.cls = true) (hc : y.cls = RX1) (hle : (lg_sl (.ref (ad 0) :: As)).length ≤ n)
    (body : ∀ (p : Program) (e : Env) (s : State) (m : MethodId) (below : List Frame) (meth : Method) (c : Code) (ls : Array Slot), CallFix p m c cc n s (Value.ref (ad 0) :: As).toArray lw_all RX1 → meth.sig.returnType = ret → meth.locks = false → mG D dA ad C d s s.heap [] → lv_has ls n (lv_args 0 (.ref (ad 0) :: As)) → W p l e (rm_ h) s m (Value.ref (ad 0) :: As).toArray below meth c s.heap [] 0 0 (MQ below (mQ D dA ad o C' d') (Value.ref (ad 0) :: As).toArray s 0 0 (mA ad)) (F0 m 0 ls [])) : mC l D dA ad y cc n ret h As C d o C' d' := by
  refine Met.ofW (cc := cc) (maxL := n) (ret := ret) hy rfl ?_
  intro p e s m args below meth c s₁ B hml hv
  obtain ⟨rfl, hP, hK, hD⟩ := hv
  have hts := atoms_spec (ws := ws_ y cc n ret) B.pre
  have hts : ∀ w ∈ lw_all, w.before _ s = true := fun w h => hts w (List.mem_cons_of_mem _ h)
  have hown : s.vm.findClass RX1 = some m.cls := by rw [← hc]; exact findClass_of_methodNamed B.named
  have hl := lv_entry (.ref (ad 0) :: As) (n := n) hle
  rw [lg_entry_eq]
  exact body p e s m below meth c _ ⟨B.exec, B.bytes, hml, hown, hts⟩ B.returns B.notSynchronized ⟨hP, hK, hD, va_S.rf⟩ hl
theorem mm_call {y : MethodName} {b : ByteArray} {L n index h : Nat} {r : Option FieldType} {As : List Value} {o : Option Value} (S : CallFix p m c cc nL s args lw_all RX1) (G : mG D dA ad C d s H locs) (hM : mC l D dA ad y b L r h As C d o C' d') (q1 : Cond.methodLink RX1 index y ∈ lw_all) (q2 : Cond.instanceMethod y ∈ lw_all) (q3 : Cond.selects RX1 y y ∈ lw_all) (q4 : Cond.code y b L r ∈ lw_all)
    (hd : y.cls = RX1 ∧ y.cls ≠ "java/lang/invoke/MethodHandle" ∧ y.cls ≠ "java/lang/invoke/VarHandle" ∧ (parseMethodDescriptor y.desc).map (fun d => d.parameters.length) = some n) (hR : h + 1 ≤ R.frames ∧ 8 + (L + 11) + 48 * h ≤ R.locals) (hn : As.length = n) (hsz : ls.size = nL) (hst : st0 = As.reverse ++ .ref (ad 0) :: rest) (hW : (rest.map fun v => v.category).sum ≤ 8) (hdg : decode cc pc = .ok (.invokevirtual index, 3)) (hf : cells ≤ R.cells ∧ slots ≤ R.slots)
    (kk : ∀ (H1 : Heap) (locs1 : List Loc), mG D dA ad C' d' s H1 locs1 → W p l e R s m args below meth c H1 locs1 cells slots Q (F0 m (pc + 3) ls (o.toList ++ rest))) : W p l e R s m args below meth c H locs cells slots Q (F0 m pc ls st0) := by
  obtain ⟨hP, hK, hD, hS⟩ := id G
  obtain ⟨q0, h2, -⟩ := wr_pos (N := 64) (r := 0) (by decide) (mW_obj dA ad C d)
  have hr := va_runV (As := As) (rest := rest) (g := F0 m pc ls st0) (locs := locs) (cells := cells) (slots := slots) (H := H) (below := below) (meth := meth) (e := e) S hM (cwV (R := R) (C := RX1) n S.2.2.2.2 (lw_V q1 q2 q3 q53 q4) rfl rfl rfl hd hR) ⟨mI_blind, va_recv hK hP (ci := 1) (q0 := q0) rfl h2, fun U hU hW => ⟨rfl, by rw [hU]; exact hP, va_K.moved hW.alike hK, hD⟩⟩ rfl hn hsz hst (lv_room hW) hdg hf
  refine wr_call hr (fun v st₀ t L h0 hvm hq hL => ?_)
  obtain ⟨hv, ⟨hP1, hK1, hD1⟩, hz, hk⟩ := hq
  cases hv
  rw [h0] at hz hk
  refine kk t.heap (locs ++ L) ⟨hP1, va_K.moved hvm.symm hK1, hD1, Nat.le_trans hS.1 hz, fun q h1 h2 => ?_, fun q hq => ?_⟩
  · rw [hk q (Nat.lt_of_lt_of_le h1 hS.1) h2]; exact hS.2.1 q h1 h2
  · rcases List.mem_append.mp hq with h | h
    · exact hS.2.2 q h
    · exact hL q h
theorem mm_iret {v v' : Int32} (S : CallFix p m c cc nL s args lw_all RX1) (hr : meth.sig.returnType = some .int) (hlocks : meth.locks = false) {C1 : tp_C} {d1 : md_T} (G : mG D dA ad C1 d1 s H locs) (hv : v = v') (hC : C1 = C') (hd : d1 = d') (hdg : decode cc pc = .ok (.ireturn, 1)) : W p l e R s m args below meth c H locs 0 0 (MQ below (mQ D dA ad (some (.int v')) C' d') args s 0 0 (mA ad)) (F0 m pc ls [.int v]) := by
  subst hv; subst hC; subst hd
  obtain ⟨hP, hK, hD, hS⟩ := G
  exact W.iret S.1 S.2.1 hr (fun t ht hW => ⟨rfl, ⟨by rw [ht]; exact hP, va_K.moved hW.alike hK, hD⟩, hS.F ht⟩) hS.2.2 hdg
theorem mm_zret {v v' : Int32} (S : CallFix p m c cc nL s args lw_all RX1) (hr : meth.sig.returnType = some .boolean) (hlocks : meth.locks = false) {C1 : tp_C} {d1 : md_T} (G : mG D dA ad C1 d1 s H locs) (hn : narrow .boolean (.int v) = .int v) (hv : v = v') (hC : C1 = C') (hd : d1 = d') (hdg : decode cc pc = .ok (.ireturn, 1)) : W p l e R s m args below meth c H locs 0 0 (MQ below (mQ D dA ad (some (.int v')) C' d') args s 0 0 (mA ad)) (F0 m pc ls [.int v]) := by
  subst hv; subst hC; subst hd
  obtain ⟨hP, hK, hD, hS⟩ := G
  exact W.zret S.1 S.2.1 hr hn (fun t ht hW => ⟨rfl, ⟨by rw [ht]; exact hP, va_K.moved hW.alike hK, hD⟩, hS.F ht⟩) hS.2.2 hdg
theorem mm_dret {v v' : UInt64} (S : CallFix p m c cc nL s args lw_all RX1) (hr : meth.sig.returnType = some .double) (hlocks : meth.locks = false) {C1 : tp_C} {d1 : md_T} (G : mG D dA ad C1 d1 s H locs) (hv : v = v') (hC : C1 = C') (hd : d1 = d') (hdg : decode cc pc = .ok (.dreturn, 1)) : W p l e R s m args below meth c H locs 0 0 (MQ below (mQ D dA ad (some (.double v')) C' d') args s 0 0 (mA ad)) (F0 m pc ls [.double v]) := by
  subst hv; subst hC; subst hd
  obtain ⟨hP, hK, hD, hS⟩ := G
  exact W.dret S.1 S.2.1 hr (fun t ht hW => ⟨rfl, ⟨by rw [ht]; exact hP, va_K.moved hW.alike hK, hD⟩, hS.F ht⟩) hS.2.2 hdg
theorem mm_fret {v v' : UInt32} (S : CallFix p m c cc nL s args lw_all RX1) (hr : meth.sig.returnType = some .float) (hlocks : meth.locks = false) {C1 : tp_C} {d1 : md_T} (G : mG D dA ad C1 d1 s H locs) (hv : v = v') (hC : C1 = C') (hd : d1 = d') (hdg : decode cc pc = .ok (.freturn, 1)) : W p l e R s m args below meth c H locs 0 0 (MQ below (mQ D dA ad (some (.float v')) C' d') args s 0 0 (mA ad)) (F0 m pc ls [.float v]) := by
  subst hv; subst hC; subst hd
  obtain ⟨hP, hK, hD, hS⟩ := G
  exact W.fret S.1 S.2.1 hr (fun t ht hW => ⟨rfl, ⟨by rw [ht]; exact hP, va_K.moved hW.alike hK, hD⟩, hS.F ht⟩) hS.2.2 hdg
theorem mm_lret {v v' : Int64} (S : CallFix p m c cc nL s args lw_all RX1) (hr : meth.sig.returnType = some .long) (hlocks : meth.locks = false) {C1 : tp_C} {d1 : md_T} (G : mG D dA ad C1 d1 s H locs) (hv : v = v') (hC : C1 = C') (hd : d1 = d') (hdg : decode cc pc = .ok (.lreturn, 1)) : W p l e R s m args below meth c H locs 0 0 (MQ below (mQ D dA ad (some (.long v')) C' d') args s 0 0 (mA ad)) (F0 m pc ls [.long v]) := by
  subst hv; subst hC; subst hd
  obtain ⟨hP, hK, hD, hS⟩ := G
  exact W.lret S.1 S.2.1 hr (fun t ht hW => ⟨rfl, ⟨by rw [ht]; exact hP, va_K.moved hW.alike hK, hD⟩, hS.F ht⟩) hS.2.2 hdg
theorem mm_vret (S : CallFix p m c cc nL s args lw_all RX1) (hr : meth.sig.returnType = none) (hlocks : meth.locks = false) {C1 : tp_C} {d1 : md_T} (G : mG D dA ad C1 d1 s H locs) (hC : C1 = C') (hd : d1 = d') (hdg : decode cc pc = .ok (.return_, 1)) : W p l e R s m args below meth c H locs 0 0 (MQ below (mQ D dA ad none C' d') args s 0 0 (mA ad)) (F0 m pc ls []) := by
  subst hC; subst hd
  obtain ⟨hP, hK, hD, hS⟩ := G
  exact W.vret S.1 S.2.1 hr (fun t ht hW => ⟨rfl, ⟨by rw [ht]; exact hP, va_K.moved hW.alike hK, hD⟩, hS.F ht⟩) hS.2.2 hdg
end TP4
def it_ {α : Type} (f : Nat → α → α) : Nat → α → α
  | 0, a => a
  | n + 1, a => f n (it_ f n a)
theorem it_s {α : Type} (f : Nat → α → α) (n : Nat) (a : α) : it_ f (n + 1) a = f n (it_ f n a) := rfl
