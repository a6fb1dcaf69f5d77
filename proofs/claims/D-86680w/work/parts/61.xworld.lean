/-! the panel's world: roles 0 the panel, 1..8 its arrays, 10 + 6 m + i the module m (0), from, number, turned, two arrays of its kind (1 .. 5) -/
/-- what the panel has beside the reference: addresses, wideFrom, narrowFrom, wideRates, narrowRates, wideNext, narrowNext, startRate, order, reached, the delays' lengths -/
abbrev xj_T : Type := (Nat → Nat) × (Nat → UInt64) × (Nat → UInt32) × (Nat → Nat → UInt64) × (Nat → Nat → UInt32) × (Nat → UInt64) × (Nat → UInt32) × (Nat → UInt64) × (Nat → Int32) × (Nat → Bool) × (Nat → Option Nat)
def jA (j : xj_T) : Nat → Nat := j.1
def jWf (j : xj_T) : Nat → UInt64 := j.2.1
def jNf (j : xj_T) : Nat → UInt32 := j.2.2.1
def jWr (j : xj_T) : Nat → Nat → UInt64 := j.2.2.2.1
def jNr (j : xj_T) : Nat → Nat → UInt32 := j.2.2.2.2.1
def jWn (j : xj_T) : Nat → UInt64 := j.2.2.2.2.2.1
def jNn (j : xj_T) : Nat → UInt32 := j.2.2.2.2.2.2.1
def jSr (j : xj_T) : Nat → UInt64 := j.2.2.2.2.2.2.2.1
def jOd (j : xj_T) : Nat → Int32 := j.2.2.2.2.2.2.2.2.1
def jRc (j : xj_T) : Nat → Bool := j.2.2.2.2.2.2.2.2.2.1
def jDn (j : xj_T) : Nat → Option Nat := j.2.2.2.2.2.2.2.2.2.2
def xr (m i : Nat) : Nat := 10 + 6 * m + i
def kN (k : Nat) : Nat := match k with
  | 2 => 18 | 3 => 15 | 7 => 14 | 11 => 17 | 13 => 14 | _ => 11
/-- fields that a kind has of its own -/
def xEk (k : Nat) (C : tp_C) (d : md_T) (j : xj_T) (m f : Nat) : Value := match k with
  | 2 => (match f with | 11 => .double (dAD d 17 m) | 12 => .float (dAF d 18 m) | 13 => .double (jWf j m) | 14 => .float (jNf j m) | 15 => .ref (jA j (xr m 4)) | 16 => .ref (jA j (xr m 5)) | 17 => .double (jSr j m) | _ => .null)
  | 3 => (match f with | 11 => .double (dAD d 17 m) | 12 => .float (dAF d 18 m) | 13 => .double (jWn j m) | 14 => .float (jNn j m) | _ => .null)
  | 7 => (match f with | 11 => .ref (jA j (xr m 4)) | 12 => .ref (jA j (xr m 5)) | 13 => .int (nI (cP C m)) | _ => .null)
  | 11 => (match f with | 11 => .double (jWf j m) | 12 => .float (jNf j m) | 13 => (if (jDn j m).isSome then .ref (jA j (xr m 4)) else .null) | 14 => (if (jDn j m).isSome then .ref (jA j (xr m 5)) else .null) | 15 => .double (jWn j m) | 16 => .float (jNn j m) | _ => .null)
  | _ => (match f with | 11 => .double (dAD d 17 m) | 12 => .float (dAF d 18 m) | 13 => .int (dAI d 23 m) | _ => .null)
def xE (C : tp_C) (d : md_T) (j : xj_T) (m f : Nat) : Value := xEk (cK C m) C d j m f
def xV (C : tp_C) (d : md_T) (j : xj_T) (m f : Nat) : Value := match f with
  | 0 => .int (nI (cK C m)) | 1 => .double (cS C m) | 2 => .double (cB C m) | 3 => .ref (jA j (xr m 1)) | 4 => .ref (jA j (xr m 2)) | 5 => .ref (jA j (xr m 3)) | 6 => .double (dAD d 19 m) | 7 => .float (dAF d 20 m) | 8 => .int (dAI d 24 m) | 9 => .double (dAD d 25 m) | 10 => .int (nI (cA C m))
  | f => xE C d j m f
def xFs (C : tp_C) (d : md_T) (j : xj_T) (m : Nat) : List Value := (List.range (kN (cK C m))).map (xV C d j m)
def xPV (C : tp_C) (d : md_T) (j : xj_T) (f : Nat) : Value := match f with
  | 0 => .ref (jA j 1) | 1 => .int (nI (cN C)) | 2 => .int (nI (cM C)) | 3 => .int (nI (cR C)) | 4 => .int (nI (cH C)) | 5 => .int (dI d 12) | 6 => .int (dI d 15) | 7 => .int (dI d 16) | 8 => .ref (jA j 2) | 9 => .int (nI (cZ C)) | 10 => .ref (jA j 3) | 11 => .ref (jA j 4) | 12 => .ref (jA j 5) | 13 => .int (nI (cW C)) | 14 => .ref (jA j 6) | 15 => .ref (jA j 7) | _ => .ref (jA j 8)
def xPs (C : tp_C) (d : md_T) (j : xj_T) : List Value := (List.range 17).map (xPV C d j)
/-- the panel's own cells -/
def xPE (dA : Nat → ClassId) (C : tp_C) (d : md_T) (j : xj_T) (r : Nat) : Option va_E := match r with
  | 0 => some (.inr (0, xPs C d j))
  | 1 => some (e_Q (dA 5) 20 (fun m => if m < cN C then some (jA j (xr m 0)) else none))
  | 2 => some (e_I (dA 0) 6 (fun s => nI (cO C s)))
  | 3 => some (e_D (dA 2) 720 (dAD d 40))
  | 4 => some (e_I (dA 0) 6 (dAI d 39))
  | 5 => some (e_L (dA 4) 6 (fun k => (dAD d 42 k).toInt64))
  | 6 => some (e_I (dA 0) 20 (dAI d 10))
  | 7 => some (e_I (dA 1) 20 (fun k => bI (jRc j k)))
  | 8 => some (e_I (dA 0) 20 (jOd j))
  | _ => none
/-- arrays of a kind -/
def xM4 (k : Nat) (dA : Nat → ClassId) (C : tp_C) (d : md_T) (j : xj_T) (m : Nat) : Option va_E := match k with | 2 => some (e_D (dA 2) 4 (jWr j m)) | 7 => some (e_D (dA 2) 8 (cX C m)) | 11 => (jDn j m).map (fun n => e_D (dA 2) n (fun k => if k < n then dAD d 21 (16 * m + k) else FP.dconst0)) | _ => none
def xM5 (k : Nat) (dA : Nat → ClassId) (C : tp_C) (d : md_T) (j : xj_T) (m : Nat) : Option va_E := match k with | 2 => some (e_F (dA 3) 4 (jNr j m)) | 7 => some (e_D (dA 2) 8 (cY C m)) | 11 => (jDn j m).map (fun n => e_F (dA 3) n (fun k => if k < n then dAF d 22 (16 * m + k) else FP.fconst0)) | _ => none
/-- a module's cells -/
def xME (dA : Nat → ClassId) (C : tp_C) (d : md_T) (j : xj_T) (m i : Nat) : Option va_E := match i with
  | 0 => some (.inr (cK C m + 2, xFs C d j m))
  | 1 => some (e_Q (dA 5) 6 (fun i => (cF C m i).map (fun k => jA j (xr k 0))))
  | 2 => some (e_I (dA 0) 6 (fun i => oI (cF C m i)))
  | 3 => some (e_I (dA 1) 6 (fun i => bI (cT C m i)))
  | 4 => xM4 (cK C m) dA C d j m
  | _ => xM5 (cK C m) dA C d j m
def xW (dA : Nat → ClassId) (C : tp_C) (d : md_T) (j : xj_T) : wr_F := fun r => if r < 10 then (xPE dA C d j r).map (fun x => (jA j r, x)) else if (r - 10) / 6 < cN C then (xME dA C d j ((r - 10) / 6) ((r - 10) % 6)).map (fun x => (jA j r, x)) else none
def xL (dA : Nat → ClassId) (C : tp_C) (d : md_T) (j : xj_T) : va_W := wr_l 130 (xW dA C d j)
/-- the cells of the world -/
def xA (dA : Nat → ClassId) (C : tp_C) (d : md_T) (j : xj_T) : Nat → Prop := fun q => ∃ r x, r < 130 ∧ xW dA C d j r = some (q, x)
theorem xr_d {m i : Nat} (h : i < 6) : (xr m i - 10) / 6 = m := by unfold xr; omega
theorem xr_m {m i : Nat} (h : i < 6) : (xr m i - 10) % 6 = i := by unfold xr; omega
theorem xr_10 (m i : Nat) : ¬ xr m i < 10 := by unfold xr; omega
theorem xr_lt {m i : Nat} (h : i < 6) (hm : m < 20) : xr m i < 130 := by unfold xr; omega
theorem xr_inj {m i m' i' : Nat} (h : i < 6) (h' : i' < 6) (e : xr m i = xr m' i') : m = m' ∧ i = i' := by unfold xr at e; omega
theorem xW_p {dA : Nat → ClassId} {C : tp_C} {d : md_T} {j : xj_T} {r : Nat} {x : va_E} (hr : r < 10) (h : xPE dA C d j r = some x) : xW dA C d j r = some (jA j r, x) := by
  unfold xW; rw [if_pos hr, h]; rfl
theorem xW_m {dA : Nat → ClassId} {C : tp_C} {d : md_T} {j : xj_T} {m i : Nat} {x : va_E} (hi : i < 6) (hm : m < cN C) (h : xME dA C d j m i = some x) : xW dA C d j (xr m i) = some (jA j (xr m i), x) := by
  unfold xW; rw [if_neg (xr_10 m i), xr_d hi, xr_m hi, if_pos hm, h]; rfl
/-- every role is the panel's or a module's -/
theorem xr_cases (r : Nat) : r < 10 ∨ ∃ m i, i < 6 ∧ r = xr m i := by
  by_cases h : r < 10
  · exact Or.inl h
  · exact Or.inr ⟨(r - 10) / 6, (r - 10) % 6, Nat.mod_lt _ (by decide), by unfold xr; omega⟩
theorem xW_mm {dA : Nat → ClassId} {C : tp_C} {d : md_T} {j : xj_T} {m i : Nat} (hi : i < 6) : xW dA C d j (xr m i) = if m < cN C then (xME dA C d j m i).map (fun x => (jA j (xr m i), x)) else none := by
  unfold xW; rw [if_neg (xr_10 m i), xr_d hi, xr_m hi]
theorem xW_pp {dA : Nat → ClassId} {C : tp_C} {d : md_T} {j : xj_T} {r : Nat} (hr : r < 10) : xW dA C d j r = (xPE dA C d j r).map (fun x => (jA j r, x)) := by
  unfold xW; rw [if_pos hr]
/-- one module's cell is written -/
theorem xW_setM {dA : Nat → ClassId} {C C' : tp_C} {d d' : md_T} {j j' : xj_T} {m i : Nat} {x : va_E} (hi : i < 6) (hm : m < cN C) (hN : cN C' = cN C) (hA : jA j' = jA j) (hx : xME dA C' d' j' m i = some x) (hp : ∀ r, r < 10 → xPE dA C' d' j' r = xPE dA C d j r) (ho : ∀ m' i', i' < 6 → m' < cN C → ¬ (m' = m ∧ i' = i) → xME dA C' d' j' m' i' = xME dA C d j m' i') : wr_s (xW dA C d j) (xr m i) (jA j (xr m i), x) = xW dA C' d' j' := by
  funext r
  unfold wr_s
  rcases xr_cases r with h | ⟨m', i', hi', rfl⟩
  · rw [if_neg (show ¬ r = xr m i from fun e => xr_10 m i (by rw [← e]; exact h)), xW_pp h, xW_pp h, hp r h, hA]
  · rw [xW_mm hi', xW_mm hi', hN, hA]
    by_cases e : m' = m ∧ i' = i
    · obtain ⟨rfl, rfl⟩ := e
      rw [if_pos rfl, if_pos hm, hx]; rfl
    · rw [if_neg (fun q => e (xr_inj hi' hi q))]
      by_cases hm' : m' < cN C
      · rw [if_pos hm', if_pos hm', ho m' i' hi' hm' e]
      · rw [if_neg hm', if_neg hm']
/-- one of the panel's cells is written -/
theorem xW_setP {dA : Nat → ClassId} {C C' : tp_C} {d d' : md_T} {j j' : xj_T} {r : Nat} {x : va_E} (hr : r < 10) (hN : cN C' = cN C) (hA : jA j' = jA j) (hx : xPE dA C' d' j' r = some x) (hp : ∀ q, q < 10 → q ≠ r → xPE dA C' d' j' q = xPE dA C d j q) (ho : ∀ m' i', i' < 6 → m' < cN C → xME dA C' d' j' m' i' = xME dA C d j m' i') : wr_s (xW dA C d j) r (jA j r, x) = xW dA C' d' j' := by
  funext q
  unfold wr_s
  rcases xr_cases q with h | ⟨m', i', hi', rfl⟩
  · by_cases e : q = r
    · rw [if_pos e, e, xW_pp hr, hx, hA]; rfl
    · rw [if_neg e, xW_pp h, xW_pp h, hp q h e, hA]
  · rw [if_neg (show ¬ xr m' i' = r from fun e => xr_10 m' i' (by rw [e]; exact hr)), xW_mm hi', xW_mm hi', hN, hA]
    by_cases hm' : m' < cN C
    · rw [if_pos hm', if_pos hm', ho m' i' hi' hm']
    · rw [if_neg hm', if_neg hm']
theorem xFs_at {C : tp_C} {d : md_T} {j : xj_T} {m f : Nat} (hf : f < kN (cK C m)) {v : Value} (hv : xV C d j m f = v) : (xFs C d j m)[f]? = some v := by
  unfold xFs; rw [List.getElem?_map, List.getElem?_range hf, ← hv]; rfl
theorem xFs_len (C : tp_C) (d : md_T) (j : xj_T) (m : Nat) : (xFs C d j m).length = kN (cK C m) := by simp [xFs]
theorem xFs_set {C C' : tp_C} {d d' : md_T} {j j' : xj_T} {m f : Nat} {v : Value} (hk : cK C' m = cK C m) (hv : xV C' d' j' m f = v) (h : ∀ g, g < 18 → g ≠ f → xV C' d' j' m g = xV C d j m g) : (xFs C d j m).set f v = xFs C' d' j' m := by
  have h18 : kN (cK C m) ≤ 18 := by unfold kN; split <;> omega
  apply List.ext_getElem?
  intro g
  by_cases hg : g < kN (cK C m)
  · by_cases e : f = g
    · subst e
      rw [List.getElem?_set_self (by rw [xFs_len]; exact hg), xFs_at (by rw [hk]; exact hg) hv]
    · rw [List.getElem?_set_ne e, xFs_at hg rfl, xFs_at (by rw [hk]; exact hg) rfl, h g (by omega) (fun q => e q.symm)]
  · rw [List.getElem?_eq_none (by rw [List.length_set, xFs_len]; omega), List.getElem?_eq_none (by rw [xFs_len, hk]; omega)]
theorem xFs_congr {C C' : tp_C} {d d' : md_T} {j j' : xj_T} {m : Nat} (hk : cK C' m = cK C m) (h : ∀ g, g < 18 → xV C' d' j' m g = xV C d j m g) : xFs C' d' j' m = xFs C d j m := by
  have h18 : kN (cK C m) ≤ 18 := by unfold kN; split <;> omega
  unfold xFs
  rw [hk]
  apply List.map_congr_left
  intro g hg
  exact h g (by have := List.mem_range.mp hg; omega)
theorem xPs_at {C : tp_C} {d : md_T} {j : xj_T} {f : Nat} (hf : f < 17) {v : Value} (hv : xPV C d j f = v) : (xPs C d j)[f]? = some v := by
  unfold xPs; rw [List.getElem?_map, List.getElem?_range hf, ← hv]; rfl
theorem xPs_len (C : tp_C) (d : md_T) (j : xj_T) : (xPs C d j).length = 17 := by simp [xPs]
theorem xPs_set {C C' : tp_C} {d d' : md_T} {j j' : xj_T} {f : Nat} {v : Value} (hv : xPV C' d' j' f = v) (h : ∀ g, g < 17 → g ≠ f → xPV C' d' j' g = xPV C d j g) : (xPs C d j).set f v = xPs C' d' j' := by
  apply List.ext_getElem?
  intro g
  by_cases hg : g < 17
  · by_cases e : f = g
    · subst e
      rw [List.getElem?_set_self (by rw [xPs_len]; exact hg), xPs_at hg hv]
    · rw [List.getElem?_set_ne e, xPs_at hg rfl, xPs_at hg rfl, h g hg (fun q => e q.symm)]
  · rw [List.getElem?_eq_none (by rw [List.length_set, xPs_len]; omega), List.getElem?_eq_none (by rw [xPs_len]; omega)]
