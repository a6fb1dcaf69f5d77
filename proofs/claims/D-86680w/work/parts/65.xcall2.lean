section TX4_
variable {dA : Nat → ClassId} {C : tp_C} {d : md_T} {j : xj_T} {m : Nat}
theorem xV_2_11 (h : cK C m = 2) : xV C d j m 11 = .double (dAD d 17 m) := by show xEk (cK C m) C d j m 11 = _; rw [h]; rfl
theorem xV_2_12 (h : cK C m = 2) : xV C d j m 12 = .float (dAF d 18 m) := by show xEk (cK C m) C d j m 12 = _; rw [h]; rfl
theorem xV_2_13 (h : cK C m = 2) : xV C d j m 13 = .double (jWf j m) := by show xEk (cK C m) C d j m 13 = _; rw [h]; rfl
theorem xV_2_14 (h : cK C m = 2) : xV C d j m 14 = .float (jNf j m) := by show xEk (cK C m) C d j m 14 = _; rw [h]; rfl
theorem xV_2_15 (h : cK C m = 2) : xV C d j m 15 = .ref (jA j (xr m 4)) := by show xEk (cK C m) C d j m 15 = _; rw [h]; rfl
theorem xV_2_16 (h : cK C m = 2) : xV C d j m 16 = .ref (jA j (xr m 5)) := by show xEk (cK C m) C d j m 16 = _; rw [h]; rfl
theorem xV_2_17 (h : cK C m = 2) : xV C d j m 17 = .double (jSr j m) := by show xEk (cK C m) C d j m 17 = _; rw [h]; rfl
theorem xV_3_11 (h : cK C m = 3) : xV C d j m 11 = .double (dAD d 17 m) := by show xEk (cK C m) C d j m 11 = _; rw [h]; rfl
theorem xV_3_12 (h : cK C m = 3) : xV C d j m 12 = .float (dAF d 18 m) := by show xEk (cK C m) C d j m 12 = _; rw [h]; rfl
theorem xV_3_13 (h : cK C m = 3) : xV C d j m 13 = .double (jWn j m) := by show xEk (cK C m) C d j m 13 = _; rw [h]; rfl
theorem xV_3_14 (h : cK C m = 3) : xV C d j m 14 = .float (jNn j m) := by show xEk (cK C m) C d j m 14 = _; rw [h]; rfl
theorem xV_7_11 (h : cK C m = 7) : xV C d j m 11 = .ref (jA j (xr m 4)) := by show xEk (cK C m) C d j m 11 = _; rw [h]; rfl
theorem xV_7_12 (h : cK C m = 7) : xV C d j m 12 = .ref (jA j (xr m 5)) := by show xEk (cK C m) C d j m 12 = _; rw [h]; rfl
theorem xV_7_13 (h : cK C m = 7) : xV C d j m 13 = .int (nI (cP C m)) := by show xEk (cK C m) C d j m 13 = _; rw [h]; rfl
theorem xV_11_11 (h : cK C m = 11) : xV C d j m 11 = .double (jWf j m) := by show xEk (cK C m) C d j m 11 = _; rw [h]; rfl
theorem xV_11_12 (h : cK C m = 11) : xV C d j m 12 = .float (jNf j m) := by show xEk (cK C m) C d j m 12 = _; rw [h]; rfl
theorem xV_11_13 (h : cK C m = 11) {n : Nat} (hd : jDn j m = some n) : xV C d j m 13 = .ref (jA j (xr m 4)) := by show xEk (cK C m) C d j m 13 = _; rw [h]; show (if (jDn j m).isSome then _ else _) = _; rw [hd]; rfl
theorem xV_11_14 (h : cK C m = 11) {n : Nat} (hd : jDn j m = some n) : xV C d j m 14 = .ref (jA j (xr m 5)) := by show xEk (cK C m) C d j m 14 = _; rw [h]; show (if (jDn j m).isSome then _ else _) = _; rw [hd]; rfl
theorem xV_11_15 (h : cK C m = 11) : xV C d j m 15 = .double (jWn j m) := by show xEk (cK C m) C d j m 15 = _; rw [h]; rfl
theorem xV_11_16 (h : cK C m = 11) : xV C d j m 16 = .float (jNn j m) := by show xEk (cK C m) C d j m 16 = _; rw [h]; rfl
theorem xV_13_11 (h : cK C m = 13) : xV C d j m 11 = .double (dAD d 17 m) := by show xEk (cK C m) C d j m 11 = _; rw [h]; rfl
theorem xV_13_12 (h : cK C m = 13) : xV C d j m 12 = .float (dAF d 18 m) := by show xEk (cK C m) C d j m 12 = _; rw [h]; rfl
theorem xV_13_13 (h : cK C m = 13) : xV C d j m 13 = .int (dAI d 23 m) := by show xEk (cK C m) C d j m 13 = _; rw [h]; rfl
theorem xME_2_4 (h : cK C m = 2) : xME dA C d j m 4 = some (e_D (dA 2) 4 (jWr j m)) := by show xM4 (cK C m) dA C d j m = _; rw [h]; rfl
theorem xME_2_5 (h : cK C m = 2) : xME dA C d j m 5 = some (e_F (dA 3) 4 (jNr j m)) := by show xM5 (cK C m) dA C d j m = _; rw [h]; rfl
theorem xME_7_4 (h : cK C m = 7) : xME dA C d j m 4 = some (e_D (dA 2) 8 (cX C m)) := by show xM4 (cK C m) dA C d j m = _; rw [h]; rfl
theorem xME_7_5 (h : cK C m = 7) : xME dA C d j m 5 = some (e_D (dA 2) 8 (cY C m)) := by show xM5 (cK C m) dA C d j m = _; rw [h]; rfl
theorem xME_11_4 (h : cK C m = 11) {n : Nat} (hd : jDn j m = some n) : xME dA C d j m 4 = some (e_D (dA 2) n (fun k => if k < n then dAD d 21 (16 * m + k) else FP.dconst0)) := by show xM4 (cK C m) dA C d j m = _; rw [h]; show (jDn j m).map _ = _; rw [hd]; rfl
theorem xME_11_5 (h : cK C m = 11) {n : Nat} (hd : jDn j m = some n) : xME dA C d j m 5 = some (e_F (dA 3) n (fun k => if k < n then dAF d 22 (16 * m + k) else FP.fconst0)) := by show xM5 (cK C m) dA C d j m = _; rw [h]; show (jDn j m).map _ = _; rw [hd]; rfl
end TX4_
