def sWf (j : xj_T) (m : Nat) (v : UInt64) : xj_T := (jA j, vf_upd (jWf j) m v, jNf j, jWr j, jNr j, jWn j, jNn j, jSr j, jOd j, jRc j, jDn j)
def sNf (j : xj_T) (m : Nat) (v : UInt32) : xj_T := (jA j, jWf j, vf_upd (jNf j) m v, jWr j, jNr j, jWn j, jNn j, jSr j, jOd j, jRc j, jDn j)
def sWn (j : xj_T) (m : Nat) (v : UInt64) : xj_T := (jA j, jWf j, jNf j, jWr j, jNr j, vf_upd (jWn j) m v, jNn j, jSr j, jOd j, jRc j, jDn j)
def sNn (j : xj_T) (m : Nat) (v : UInt32) : xj_T := (jA j, jWf j, jNf j, jWr j, jNr j, jWn j, vf_upd (jNn j) m v, jSr j, jOd j, jRc j, jDn j)
def sSr (j : xj_T) (m : Nat) (v : UInt64) : xj_T := (jA j, jWf j, jNf j, jWr j, jNr j, jWn j, jNn j, vf_upd (jSr j) m v, jOd j, jRc j, jDn j)
def sOd (j : xj_T) (m : Nat) (v : Int32) : xj_T := (jA j, jWf j, jNf j, jWr j, jNr j, jWn j, jNn j, jSr j, vf_upd (jOd j) m v, jRc j, jDn j)
def sRc (j : xj_T) (m : Nat) (v : Bool) : xj_T := (jA j, jWf j, jNf j, jWr j, jNr j, jWn j, jNn j, jSr j, jOd j, vf_upd (jRc j) m v, jDn j)
def sWr (j : xj_T) (m i : Nat) (v : UInt64) : xj_T := (jA j, jWf j, jNf j, up2 (jWr j) m i v, jNr j, jWn j, jNn j, jSr j, jOd j, jRc j, jDn j)
def sNr (j : xj_T) (m i : Nat) (v : UInt32) : xj_T := (jA j, jWf j, jNf j, jWr j, up2 (jNr j) m i v, jWn j, jNn j, jSr j, jOd j, jRc j, jDn j)
theorem f18 {P : Nat → Prop} (h0 : P 0) (h1 : P 1) (h2 : P 2) (h3 : P 3) (h4 : P 4) (h5 : P 5) (h6 : P 6) (h7 : P 7) (h8 : P 8) (h9 : P 9) (h10 : P 10) (h11 : P 11) (h12 : P 12) (h13 : P 13) (h14 : P 14) (h15 : P 15) (h16 : P 16) (h17 : P 17) : ∀ g, g < 18 → P g := by
  intro g hg
  match g, hg with
  | 0, _ => exact h0
  | 1, _ => exact h1
  | 2, _ => exact h2
  | 3, _ => exact h3
  | 4, _ => exact h4
  | 5, _ => exact h5
  | 6, _ => exact h6
  | 7, _ => exact h7
  | 8, _ => exact h8
  | 9, _ => exact h9
  | 10, _ => exact h10
  | 11, _ => exact h11
  | 12, _ => exact h12
  | 13, _ => exact h13
  | 14, _ => exact h14
  | 15, _ => exact h15
  | 16, _ => exact h16
  | 17, _ => exact h17
  | n + 18, h => omega
theorem f17 {P : Nat → Prop} (h0 : P 0) (h1 : P 1) (h2 : P 2) (h3 : P 3) (h4 : P 4) (h5 : P 5) (h6 : P 6) (h7 : P 7) (h8 : P 8) (h9 : P 9) (h10 : P 10) (h11 : P 11) (h12 : P 12) (h13 : P 13) (h14 : P 14) (h15 : P 15) (h16 : P 16) : ∀ g, g < 17 → P g := by
  intro g hg
  match g, hg with
  | 0, _ => exact h0
  | 1, _ => exact h1
  | 2, _ => exact h2
  | 3, _ => exact h3
  | 4, _ => exact h4
  | 5, _ => exact h5
  | 6, _ => exact h6
  | 7, _ => exact h7
  | 8, _ => exact h8
  | 9, _ => exact h9
  | 10, _ => exact h10
  | 11, _ => exact h11
  | 12, _ => exact h12
  | 13, _ => exact h13
  | 14, _ => exact h14
  | 15, _ => exact h15
  | 16, _ => exact h16
  | n + 17, h => omega
theorem f10 {P : Nat → Prop} (h0 : P 0) (h1 : P 1) (h2 : P 2) (h3 : P 3) (h4 : P 4) (h5 : P 5) (h6 : P 6) (h7 : P 7) (h8 : P 8) (h9 : P 9) : ∀ g, g < 10 → P g := by
  intro g hg
  match g, hg with
  | 0, _ => exact h0
  | 1, _ => exact h1
  | 2, _ => exact h2
  | 3, _ => exact h3
  | 4, _ => exact h4
  | 5, _ => exact h5
  | 6, _ => exact h6
  | 7, _ => exact h7
  | 8, _ => exact h8
  | 9, _ => exact h9
  | n + 10, h => omega
theorem f6 {P : Nat → Prop} (h0 : P 0) (h1 : P 1) (h2 : P 2) (h3 : P 3) (h4 : P 4) (h5 : P 5) : ∀ g, g < 6 → P g := by
  intro g hg
  match g, hg with
  | 0, _ => exact h0
  | 1, _ => exact h1
  | 2, _ => exact h2
  | 3, _ => exact h3
  | 4, _ => exact h4
  | 5, _ => exact h5
  | n + 6, h => omega
/-- what a module's fields show -/
def mvw (C : tp_C) (d : md_T) (j : xj_T) (m : Nat) : Nat × UInt64 × UInt64 × Nat × Nat × UInt64 × UInt32 × Int32 × UInt64 × UInt64 × UInt32 × Int32 × UInt64 × UInt32 × UInt64 × UInt32 × UInt64 × Option Nat := (cK C m, cS C m, cB C m, cA C m, cP C m, dAD d 19 m, dAF d 20 m, dAI d 24 m, dAD d 25 m, dAD d 17 m, dAF d 18 m, dAI d 23 m, jWf j m, jNf j m, jWn j m, jNn j m, jSr j m, jDn j m)
theorem xV_mv {C C' : tp_C} {d d' : md_T} {j j' : xj_T} {m : Nat} (h : mvw C' d' j' m = mvw C d j m) (hA : jA j' = jA j) (f : Nat) : xV C' d' j' m f = xV C d j m f := by
  simp only [mvw, Prod.mk.injEq] at h
  obtain ⟨h0, h1, h2, h3, h4, h5, h6, h7, h8, h9, h10, h11, h12, h13, h14, h15, h16, h17⟩ := h
  unfold xV xE xEk
  simp only [h0, h1, h2, h3, h4, h5, h6, h7, h8, h9, h10, h11, h12, h13, h14, h15, h16, h17, hA]
theorem xV_ge {C : tp_C} {d : md_T} {j : xj_T} {m f : Nat} (h : 11 ≤ f) : xV C d j m f = xEk (cK C m) C d j m f := by
  unfold xV; split <;> first | omega | rfl
theorem xs_setting {dA : Nat → ClassId} {C : tp_C} {d : md_T} {j : xj_T} {mm : Nat} {v : UInt64} (hmm : mm < cN C) : wr_s (xW dA C d j) (xr mm 0) (jA j (xr mm 0), .inr (cK C mm + 2, (xFs C d j mm).set 1 (Value.double v))) = xW dA (wS C (vf_upd (cS C) mm v)) d j := by
  refine xs_M hmm rfl rfl rfl ?_ ?_ (fun m' hm g hg => ?_) (fun r _ => rfl) (fun m' i h0 _ => by unfold xME; split <;> first | rfl | omega)
  · exact (by simp [vf_upd, upd, dAD_self, dAF_self, dAI_self, cS, cB, cA, cP, wS, wB, wA, wP, jWf, jNf, jWn, jNn, jSr, sWf, sNf, sWn, sNn, sSr] : Value.double (cS (wS C (vf_upd (cS C) mm v)) mm) = Value.double v)
  · refine f18 (P := fun g => g ≠ 1 → xV (wS C (vf_upd (cS C) mm v)) d j mm g = xV C d j mm g) ?_ ?_ ?_ ?_ ?_ ?_ ?_ ?_ ?_ ?_ ?_ ?_ ?_ ?_ ?_ ?_ ?_ ?_ <;> intro hne <;> first | exact rfl | exact absurd rfl hne
  · have e : cS (wS C (vf_upd (cS C) mm v)) m' = cS C m' := by first | (rw [dAD_self]; simp [vf_upd, hm]) | (rw [dAF_self]; simp [vf_upd, hm]) | (rw [dAI_self]; simp [upd, hm]) | (show vf_upd _ mm v m' = _; simp [vf_upd, hm])
    exact xV_mv (C' := (wS C (vf_upd (cS C) mm v))) (d' := d) (j' := j) (C := C) (d := d) (j := j) (m := m') (by unfold mvw; rw [e]; rfl) rfl g
theorem xs_start {dA : Nat → ClassId} {C : tp_C} {d : md_T} {j : xj_T} {mm : Nat} {v : UInt64} (hmm : mm < cN C) : wr_s (xW dA C d j) (xr mm 0) (jA j (xr mm 0), .inr (cK C mm + 2, (xFs C d j mm).set 2 (Value.double v))) = xW dA (wB C (vf_upd (cB C) mm v)) d j := by
  refine xs_M hmm rfl rfl rfl ?_ ?_ (fun m' hm g hg => ?_) (fun r _ => rfl) (fun m' i h0 _ => by unfold xME; split <;> first | rfl | omega)
  · exact (by simp [vf_upd, upd, dAD_self, dAF_self, dAI_self, cS, cB, cA, cP, wS, wB, wA, wP, jWf, jNf, jWn, jNn, jSr, sWf, sNf, sWn, sNn, sSr] : Value.double (cB (wB C (vf_upd (cB C) mm v)) mm) = Value.double v)
  · refine f18 (P := fun g => g ≠ 2 → xV (wB C (vf_upd (cB C) mm v)) d j mm g = xV C d j mm g) ?_ ?_ ?_ ?_ ?_ ?_ ?_ ?_ ?_ ?_ ?_ ?_ ?_ ?_ ?_ ?_ ?_ ?_ <;> intro hne <;> first | exact rfl | exact absurd rfl hne
  · have e : cB (wB C (vf_upd (cB C) mm v)) m' = cB C m' := by first | (rw [dAD_self]; simp [vf_upd, hm]) | (rw [dAF_self]; simp [vf_upd, hm]) | (rw [dAI_self]; simp [upd, hm]) | (show vf_upd _ mm v m' = _; simp [vf_upd, hm])
    exact xV_mv (C' := (wB C (vf_upd (cB C) mm v))) (d' := d) (j' := j) (C := C) (d := d) (j := j) (m := m') (by unfold mvw; rw [e]; rfl) rfl g
theorem xs_fails {dA : Nat → ClassId} {C : tp_C} {d : md_T} {j : xj_T} {mm : Nat} {v : Nat} (hmm : mm < cN C) : wr_s (xW dA C d j) (xr mm 0) (jA j (xr mm 0), .inr (cK C mm + 2, (xFs C d j mm).set 10 (Value.int (nI v)))) = xW dA (wA C (vf_upd (cA C) mm v)) d j := by
  refine xs_M hmm rfl rfl rfl ?_ ?_ (fun m' hm g hg => ?_) (fun r _ => rfl) (fun m' i h0 _ => by unfold xME; split <;> first | rfl | omega)
  · exact (by simp [vf_upd, upd, dAD_self, dAF_self, dAI_self, cS, cB, cA, cP, wS, wB, wA, wP, jWf, jNf, jWn, jNn, jSr, sWf, sNf, sWn, sNn, sSr] : Value.int (nI (cA (wA C (vf_upd (cA C) mm v)) mm)) = Value.int (nI v))
  · refine f18 (P := fun g => g ≠ 10 → xV (wA C (vf_upd (cA C) mm v)) d j mm g = xV C d j mm g) ?_ ?_ ?_ ?_ ?_ ?_ ?_ ?_ ?_ ?_ ?_ ?_ ?_ ?_ ?_ ?_ ?_ ?_ <;> intro hne <;> first | exact rfl | exact absurd rfl hne
  · have e : cA (wA C (vf_upd (cA C) mm v)) m' = cA C m' := by first | (rw [dAD_self]; simp [vf_upd, hm]) | (rw [dAF_self]; simp [vf_upd, hm]) | (rw [dAI_self]; simp [upd, hm]) | (show vf_upd _ mm v m' = _; simp [vf_upd, hm])
    exact xV_mv (C' := (wA C (vf_upd (cA C) mm v))) (d' := d) (j' := j) (C := C) (d := d) (j := j) (m := m') (by unfold mvw; rw [e]; rfl) rfl g
theorem xs_state {dA : Nat → ClassId} {C : tp_C} {d : md_T} {j : xj_T} {mm : Nat} {v : UInt64} (hk : cK C mm = 2 ∨ cK C mm = 3 ∨ cK C mm = 13) (hmm : mm < cN C) : wr_s (xW dA C d j) (xr mm 0) (jA j (xr mm 0), .inr (cK C mm + 2, (xFs C d j mm).set 11 (Value.double v))) = xW dA C (uAD d 17 mm v) j := by
  refine xs_M hmm rfl rfl rfl ?_ ?_ (fun m' hm g hg => ?_) (fun r _ => rfl) (fun m' i h0 _ => by unfold xME; split <;> first | rfl | omega)
  · rw [xV_ge (by decide)]; rcases hk with h | h | h <;> rw [h] <;> exact (by simp [vf_upd, upd, dAD_self, dAF_self, dAI_self, cS, cB, cA, cP, wS, wB, wA, wP, jWf, jNf, jWn, jNn, jSr, sWf, sNf, sWn, sNn, sSr] : Value.double (dAD (uAD d 17 mm v) 17 mm) = Value.double v)
  · refine f18 (P := fun g => g ≠ 11 → xV C (uAD d 17 mm v) j mm g = xV C d j mm g) ?_ ?_ ?_ ?_ ?_ ?_ ?_ ?_ ?_ ?_ ?_ ?_ ?_ ?_ ?_ ?_ ?_ ?_ <;> intro hne <;> first | exact rfl | exact absurd rfl hne | (rw [xV_ge (by decide), xV_ge (by decide)]; rcases hk with h | h | h <;> rw [h] <;> exact rfl)
  · have e : dAD (uAD d 17 mm v) 17 m' = dAD d 17 m' := by first | (rw [dAD_self]; simp [vf_upd, hm]) | (rw [dAF_self]; simp [vf_upd, hm]) | (rw [dAI_self]; simp [upd, hm]) | (show vf_upd _ mm v m' = _; simp [vf_upd, hm])
    exact xV_mv (C' := C) (d' := (uAD d 17 mm v)) (j' := j) (C := C) (d := d) (j := j) (m := m') (by unfold mvw; rw [e]; rfl) rfl g
theorem xs_stateF {dA : Nat → ClassId} {C : tp_C} {d : md_T} {j : xj_T} {mm : Nat} {v : UInt32} (hk : cK C mm = 2 ∨ cK C mm = 3 ∨ cK C mm = 13) (hmm : mm < cN C) : wr_s (xW dA C d j) (xr mm 0) (jA j (xr mm 0), .inr (cK C mm + 2, (xFs C d j mm).set 12 (Value.float v))) = xW dA C (uAF d 18 mm v) j := by
  refine xs_M hmm rfl rfl rfl ?_ ?_ (fun m' hm g hg => ?_) (fun r _ => rfl) (fun m' i h0 _ => by unfold xME; split <;> first | rfl | omega)
  · rw [xV_ge (by decide)]; rcases hk with h | h | h <;> rw [h] <;> exact (by simp [vf_upd, upd, dAD_self, dAF_self, dAI_self, cS, cB, cA, cP, wS, wB, wA, wP, jWf, jNf, jWn, jNn, jSr, sWf, sNf, sWn, sNn, sSr] : Value.float (dAF (uAF d 18 mm v) 18 mm) = Value.float v)
  · refine f18 (P := fun g => g ≠ 12 → xV C (uAF d 18 mm v) j mm g = xV C d j mm g) ?_ ?_ ?_ ?_ ?_ ?_ ?_ ?_ ?_ ?_ ?_ ?_ ?_ ?_ ?_ ?_ ?_ ?_ <;> intro hne <;> first | exact rfl | exact absurd rfl hne | (rw [xV_ge (by decide), xV_ge (by decide)]; rcases hk with h | h | h <;> rw [h] <;> exact rfl)
  · have e : dAF (uAF d 18 mm v) 18 m' = dAF d 18 m' := by first | (rw [dAD_self]; simp [vf_upd, hm]) | (rw [dAF_self]; simp [vf_upd, hm]) | (rw [dAI_self]; simp [upd, hm]) | (show vf_upd _ mm v m' = _; simp [vf_upd, hm])
    exact xV_mv (C' := C) (d' := (uAF d 18 mm v)) (j' := j) (C := C) (d := d) (j := j) (m := m') (by unfold mvw; rw [e]; rfl) rfl g
theorem xs_seed {dA : Nat → ClassId} {C : tp_C} {d : md_T} {j : xj_T} {mm : Nat} {v : Int32} (hk : cK C mm = 13) (hmm : mm < cN C) : wr_s (xW dA C d j) (xr mm 0) (jA j (xr mm 0), .inr (cK C mm + 2, (xFs C d j mm).set 13 (Value.int v))) = xW dA C (uAI d 23 mm v) j := by
  refine xs_M hmm rfl rfl rfl ?_ ?_ (fun m' hm g hg => ?_) (fun r _ => rfl) (fun m' i h0 _ => by unfold xME; split <;> first | rfl | omega)
  · rw [xV_ge (by decide)]; rw [hk]; exact (by simp [vf_upd, upd, dAD_self, dAF_self, dAI_self, cS, cB, cA, cP, wS, wB, wA, wP, jWf, jNf, jWn, jNn, jSr, sWf, sNf, sWn, sNn, sSr] : Value.int (dAI (uAI d 23 mm v) 23 mm) = Value.int v)
  · refine f18 (P := fun g => g ≠ 13 → xV C (uAI d 23 mm v) j mm g = xV C d j mm g) ?_ ?_ ?_ ?_ ?_ ?_ ?_ ?_ ?_ ?_ ?_ ?_ ?_ ?_ ?_ ?_ ?_ ?_ <;> intro hne <;> first | exact rfl | exact absurd rfl hne | (rw [xV_ge (by decide), xV_ge (by decide)]; rw [hk]; exact rfl)
  · have e : dAI (uAI d 23 mm v) 23 m' = dAI d 23 m' := by first | (rw [dAD_self]; simp [vf_upd, hm]) | (rw [dAF_self]; simp [vf_upd, hm]) | (rw [dAI_self]; simp [upd, hm]) | (show vf_upd _ mm v m' = _; simp [vf_upd, hm])
    exact xV_mv (C' := C) (d' := (uAI d 23 mm v)) (j' := j) (C := C) (d := d) (j := j) (m := m') (by unfold mvw; rw [e]; rfl) rfl g
theorem xs_many {dA : Nat → ClassId} {C : tp_C} {d : md_T} {j : xj_T} {mm : Nat} {v : Nat} (hk : cK C mm = 7) (hmm : mm < cN C) : wr_s (xW dA C d j) (xr mm 0) (jA j (xr mm 0), .inr (cK C mm + 2, (xFs C d j mm).set 13 (Value.int (nI v)))) = xW dA (wP C (vf_upd (cP C) mm v)) d j := by
  refine xs_M hmm rfl rfl rfl ?_ ?_ (fun m' hm g hg => ?_) (fun r _ => rfl) (fun m' i h0 _ => by unfold xME; split <;> first | rfl | omega)
  · rw [xV_ge (by decide)]; rw [show cK (wP C (vf_upd (cP C) mm v)) = cK C from rfl, hk]; exact (by simp [vf_upd, upd, dAD_self, dAF_self, dAI_self, cS, cB, cA, cP, wS, wB, wA, wP, jWf, jNf, jWn, jNn, jSr, sWf, sNf, sWn, sNn, sSr] : Value.int (nI (cP (wP C (vf_upd (cP C) mm v)) mm)) = Value.int (nI v))
  · refine f18 (P := fun g => g ≠ 13 → xV (wP C (vf_upd (cP C) mm v)) d j mm g = xV C d j mm g) ?_ ?_ ?_ ?_ ?_ ?_ ?_ ?_ ?_ ?_ ?_ ?_ ?_ ?_ ?_ ?_ ?_ ?_ <;> intro hne <;> first | exact rfl | exact absurd rfl hne | (rw [xV_ge (by decide), xV_ge (by decide)]; rw [show cK (wP C (vf_upd (cP C) mm v)) = cK C from rfl, hk]; exact rfl)
  · have e : cP (wP C (vf_upd (cP C) mm v)) m' = cP C m' := by first | (rw [dAD_self]; simp [vf_upd, hm]) | (rw [dAF_self]; simp [vf_upd, hm]) | (rw [dAI_self]; simp [upd, hm]) | (show vf_upd _ mm v m' = _; simp [vf_upd, hm])
    exact xV_mv (C' := (wP C (vf_upd (cP C) mm v))) (d' := d) (j' := j) (C := C) (d := d) (j := j) (m := m') (by unfold mvw; rw [e]; rfl) rfl g
theorem xs_Wf2 {dA : Nat → ClassId} {C : tp_C} {d : md_T} {j : xj_T} {mm : Nat} {v : UInt64} (hk : cK C mm = 2) (hmm : mm < cN C) : wr_s (xW dA C d j) (xr mm 0) (jA j (xr mm 0), .inr (cK C mm + 2, (xFs C d j mm).set 13 (Value.double v))) = xW dA C d (sWf j mm v) := by
  refine xs_M hmm rfl rfl rfl ?_ ?_ (fun m' hm g hg => ?_) (fun r _ => rfl) (fun m' i h0 _ => by unfold xME; split <;> first | rfl | omega)
  · rw [xV_ge (by decide)]; rw [hk]; exact (by simp [vf_upd, upd, dAD_self, dAF_self, dAI_self, cS, cB, cA, cP, wS, wB, wA, wP, jWf, jNf, jWn, jNn, jSr, sWf, sNf, sWn, sNn, sSr] : Value.double (jWf (sWf j mm v) mm) = Value.double v)
  · refine f18 (P := fun g => g ≠ 13 → xV C d (sWf j mm v) mm g = xV C d j mm g) ?_ ?_ ?_ ?_ ?_ ?_ ?_ ?_ ?_ ?_ ?_ ?_ ?_ ?_ ?_ ?_ ?_ ?_ <;> intro hne <;> first | exact rfl | exact absurd rfl hne | (rw [xV_ge (by decide), xV_ge (by decide)]; rw [hk]; exact rfl)
  · have e : jWf (sWf j mm v) m' = jWf j m' := by first | (rw [dAD_self]; simp [vf_upd, hm]) | (rw [dAF_self]; simp [vf_upd, hm]) | (rw [dAI_self]; simp [upd, hm]) | (show vf_upd _ mm v m' = _; simp [vf_upd, hm])
    exact xV_mv (C' := C) (d' := d) (j' := (sWf j mm v)) (C := C) (d := d) (j := j) (m := m') (by unfold mvw; rw [e]; rfl) rfl g
theorem xs_Nf2 {dA : Nat → ClassId} {C : tp_C} {d : md_T} {j : xj_T} {mm : Nat} {v : UInt32} (hk : cK C mm = 2) (hmm : mm < cN C) : wr_s (xW dA C d j) (xr mm 0) (jA j (xr mm 0), .inr (cK C mm + 2, (xFs C d j mm).set 14 (Value.float v))) = xW dA C d (sNf j mm v) := by
  refine xs_M hmm rfl rfl rfl ?_ ?_ (fun m' hm g hg => ?_) (fun r _ => rfl) (fun m' i h0 _ => by unfold xME; split <;> first | rfl | omega)
  · rw [xV_ge (by decide)]; rw [hk]; exact (by simp [vf_upd, upd, dAD_self, dAF_self, dAI_self, cS, cB, cA, cP, wS, wB, wA, wP, jWf, jNf, jWn, jNn, jSr, sWf, sNf, sWn, sNn, sSr] : Value.float (jNf (sNf j mm v) mm) = Value.float v)
  · refine f18 (P := fun g => g ≠ 14 → xV C d (sNf j mm v) mm g = xV C d j mm g) ?_ ?_ ?_ ?_ ?_ ?_ ?_ ?_ ?_ ?_ ?_ ?_ ?_ ?_ ?_ ?_ ?_ ?_ <;> intro hne <;> first | exact rfl | exact absurd rfl hne | (rw [xV_ge (by decide), xV_ge (by decide)]; rw [hk]; exact rfl)
  · have e : jNf (sNf j mm v) m' = jNf j m' := by first | (rw [dAD_self]; simp [vf_upd, hm]) | (rw [dAF_self]; simp [vf_upd, hm]) | (rw [dAI_self]; simp [upd, hm]) | (show vf_upd _ mm v m' = _; simp [vf_upd, hm])
    exact xV_mv (C' := C) (d' := d) (j' := (sNf j mm v)) (C := C) (d := d) (j := j) (m := m') (by unfold mvw; rw [e]; rfl) rfl g
theorem xs_Wf11 {dA : Nat → ClassId} {C : tp_C} {d : md_T} {j : xj_T} {mm : Nat} {v : UInt64} (hk : cK C mm = 11) (hmm : mm < cN C) : wr_s (xW dA C d j) (xr mm 0) (jA j (xr mm 0), .inr (cK C mm + 2, (xFs C d j mm).set 11 (Value.double v))) = xW dA C d (sWf j mm v) := by
  refine xs_M hmm rfl rfl rfl ?_ ?_ (fun m' hm g hg => ?_) (fun r _ => rfl) (fun m' i h0 _ => by unfold xME; split <;> first | rfl | omega)
  · rw [xV_ge (by decide)]; rw [hk]; exact (by simp [vf_upd, upd, dAD_self, dAF_self, dAI_self, cS, cB, cA, cP, wS, wB, wA, wP, jWf, jNf, jWn, jNn, jSr, sWf, sNf, sWn, sNn, sSr] : Value.double (jWf (sWf j mm v) mm) = Value.double v)
  · refine f18 (P := fun g => g ≠ 11 → xV C d (sWf j mm v) mm g = xV C d j mm g) ?_ ?_ ?_ ?_ ?_ ?_ ?_ ?_ ?_ ?_ ?_ ?_ ?_ ?_ ?_ ?_ ?_ ?_ <;> intro hne <;> first | exact rfl | exact absurd rfl hne | (rw [xV_ge (by decide), xV_ge (by decide)]; rw [hk]; exact rfl)
  · have e : jWf (sWf j mm v) m' = jWf j m' := by first | (rw [dAD_self]; simp [vf_upd, hm]) | (rw [dAF_self]; simp [vf_upd, hm]) | (rw [dAI_self]; simp [upd, hm]) | (show vf_upd _ mm v m' = _; simp [vf_upd, hm])
    exact xV_mv (C' := C) (d' := d) (j' := (sWf j mm v)) (C := C) (d := d) (j := j) (m := m') (by unfold mvw; rw [e]; rfl) rfl g
theorem xs_Nf11 {dA : Nat → ClassId} {C : tp_C} {d : md_T} {j : xj_T} {mm : Nat} {v : UInt32} (hk : cK C mm = 11) (hmm : mm < cN C) : wr_s (xW dA C d j) (xr mm 0) (jA j (xr mm 0), .inr (cK C mm + 2, (xFs C d j mm).set 12 (Value.float v))) = xW dA C d (sNf j mm v) := by
  refine xs_M hmm rfl rfl rfl ?_ ?_ (fun m' hm g hg => ?_) (fun r _ => rfl) (fun m' i h0 _ => by unfold xME; split <;> first | rfl | omega)
  · rw [xV_ge (by decide)]; rw [hk]; exact (by simp [vf_upd, upd, dAD_self, dAF_self, dAI_self, cS, cB, cA, cP, wS, wB, wA, wP, jWf, jNf, jWn, jNn, jSr, sWf, sNf, sWn, sNn, sSr] : Value.float (jNf (sNf j mm v) mm) = Value.float v)
  · refine f18 (P := fun g => g ≠ 12 → xV C d (sNf j mm v) mm g = xV C d j mm g) ?_ ?_ ?_ ?_ ?_ ?_ ?_ ?_ ?_ ?_ ?_ ?_ ?_ ?_ ?_ ?_ ?_ ?_ <;> intro hne <;> first | exact rfl | exact absurd rfl hne | (rw [xV_ge (by decide), xV_ge (by decide)]; rw [hk]; exact rfl)
  · have e : jNf (sNf j mm v) m' = jNf j m' := by first | (rw [dAD_self]; simp [vf_upd, hm]) | (rw [dAF_self]; simp [vf_upd, hm]) | (rw [dAI_self]; simp [upd, hm]) | (show vf_upd _ mm v m' = _; simp [vf_upd, hm])
    exact xV_mv (C' := C) (d' := d) (j' := (sNf j mm v)) (C := C) (d := d) (j := j) (m := m') (by unfold mvw; rw [e]; rfl) rfl g
theorem xs_Wn3 {dA : Nat → ClassId} {C : tp_C} {d : md_T} {j : xj_T} {mm : Nat} {v : UInt64} (hk : cK C mm = 3) (hmm : mm < cN C) : wr_s (xW dA C d j) (xr mm 0) (jA j (xr mm 0), .inr (cK C mm + 2, (xFs C d j mm).set 13 (Value.double v))) = xW dA C d (sWn j mm v) := by
  refine xs_M hmm rfl rfl rfl ?_ ?_ (fun m' hm g hg => ?_) (fun r _ => rfl) (fun m' i h0 _ => by unfold xME; split <;> first | rfl | omega)
  · rw [xV_ge (by decide)]; rw [hk]; exact (by simp [vf_upd, upd, dAD_self, dAF_self, dAI_self, cS, cB, cA, cP, wS, wB, wA, wP, jWf, jNf, jWn, jNn, jSr, sWf, sNf, sWn, sNn, sSr] : Value.double (jWn (sWn j mm v) mm) = Value.double v)
  · refine f18 (P := fun g => g ≠ 13 → xV C d (sWn j mm v) mm g = xV C d j mm g) ?_ ?_ ?_ ?_ ?_ ?_ ?_ ?_ ?_ ?_ ?_ ?_ ?_ ?_ ?_ ?_ ?_ ?_ <;> intro hne <;> first | exact rfl | exact absurd rfl hne | (rw [xV_ge (by decide), xV_ge (by decide)]; rw [hk]; exact rfl)
  · have e : jWn (sWn j mm v) m' = jWn j m' := by first | (rw [dAD_self]; simp [vf_upd, hm]) | (rw [dAF_self]; simp [vf_upd, hm]) | (rw [dAI_self]; simp [upd, hm]) | (show vf_upd _ mm v m' = _; simp [vf_upd, hm])
    exact xV_mv (C' := C) (d' := d) (j' := (sWn j mm v)) (C := C) (d := d) (j := j) (m := m') (by unfold mvw; rw [e]; rfl) rfl g
theorem xs_Nn3 {dA : Nat → ClassId} {C : tp_C} {d : md_T} {j : xj_T} {mm : Nat} {v : UInt32} (hk : cK C mm = 3) (hmm : mm < cN C) : wr_s (xW dA C d j) (xr mm 0) (jA j (xr mm 0), .inr (cK C mm + 2, (xFs C d j mm).set 14 (Value.float v))) = xW dA C d (sNn j mm v) := by
  refine xs_M hmm rfl rfl rfl ?_ ?_ (fun m' hm g hg => ?_) (fun r _ => rfl) (fun m' i h0 _ => by unfold xME; split <;> first | rfl | omega)
  · rw [xV_ge (by decide)]; rw [hk]; exact (by simp [vf_upd, upd, dAD_self, dAF_self, dAI_self, cS, cB, cA, cP, wS, wB, wA, wP, jWf, jNf, jWn, jNn, jSr, sWf, sNf, sWn, sNn, sSr] : Value.float (jNn (sNn j mm v) mm) = Value.float v)
  · refine f18 (P := fun g => g ≠ 14 → xV C d (sNn j mm v) mm g = xV C d j mm g) ?_ ?_ ?_ ?_ ?_ ?_ ?_ ?_ ?_ ?_ ?_ ?_ ?_ ?_ ?_ ?_ ?_ ?_ <;> intro hne <;> first | exact rfl | exact absurd rfl hne | (rw [xV_ge (by decide), xV_ge (by decide)]; rw [hk]; exact rfl)
  · have e : jNn (sNn j mm v) m' = jNn j m' := by first | (rw [dAD_self]; simp [vf_upd, hm]) | (rw [dAF_self]; simp [vf_upd, hm]) | (rw [dAI_self]; simp [upd, hm]) | (show vf_upd _ mm v m' = _; simp [vf_upd, hm])
    exact xV_mv (C' := C) (d' := d) (j' := (sNn j mm v)) (C := C) (d := d) (j := j) (m := m') (by unfold mvw; rw [e]; rfl) rfl g
theorem xs_Wn11 {dA : Nat → ClassId} {C : tp_C} {d : md_T} {j : xj_T} {mm : Nat} {v : UInt64} (hk : cK C mm = 11) (hmm : mm < cN C) : wr_s (xW dA C d j) (xr mm 0) (jA j (xr mm 0), .inr (cK C mm + 2, (xFs C d j mm).set 15 (Value.double v))) = xW dA C d (sWn j mm v) := by
  refine xs_M hmm rfl rfl rfl ?_ ?_ (fun m' hm g hg => ?_) (fun r _ => rfl) (fun m' i h0 _ => by unfold xME; split <;> first | rfl | omega)
  · rw [xV_ge (by decide)]; rw [hk]; exact (by simp [vf_upd, upd, dAD_self, dAF_self, dAI_self, cS, cB, cA, cP, wS, wB, wA, wP, jWf, jNf, jWn, jNn, jSr, sWf, sNf, sWn, sNn, sSr] : Value.double (jWn (sWn j mm v) mm) = Value.double v)
  · refine f18 (P := fun g => g ≠ 15 → xV C d (sWn j mm v) mm g = xV C d j mm g) ?_ ?_ ?_ ?_ ?_ ?_ ?_ ?_ ?_ ?_ ?_ ?_ ?_ ?_ ?_ ?_ ?_ ?_ <;> intro hne <;> first | exact rfl | exact absurd rfl hne | (rw [xV_ge (by decide), xV_ge (by decide)]; rw [hk]; exact rfl)
  · have e : jWn (sWn j mm v) m' = jWn j m' := by first | (rw [dAD_self]; simp [vf_upd, hm]) | (rw [dAF_self]; simp [vf_upd, hm]) | (rw [dAI_self]; simp [upd, hm]) | (show vf_upd _ mm v m' = _; simp [vf_upd, hm])
    exact xV_mv (C' := C) (d' := d) (j' := (sWn j mm v)) (C := C) (d := d) (j := j) (m := m') (by unfold mvw; rw [e]; rfl) rfl g
theorem xs_Nn11 {dA : Nat → ClassId} {C : tp_C} {d : md_T} {j : xj_T} {mm : Nat} {v : UInt32} (hk : cK C mm = 11) (hmm : mm < cN C) : wr_s (xW dA C d j) (xr mm 0) (jA j (xr mm 0), .inr (cK C mm + 2, (xFs C d j mm).set 16 (Value.float v))) = xW dA C d (sNn j mm v) := by
  refine xs_M hmm rfl rfl rfl ?_ ?_ (fun m' hm g hg => ?_) (fun r _ => rfl) (fun m' i h0 _ => by unfold xME; split <;> first | rfl | omega)
  · rw [xV_ge (by decide)]; rw [hk]; exact (by simp [vf_upd, upd, dAD_self, dAF_self, dAI_self, cS, cB, cA, cP, wS, wB, wA, wP, jWf, jNf, jWn, jNn, jSr, sWf, sNf, sWn, sNn, sSr] : Value.float (jNn (sNn j mm v) mm) = Value.float v)
  · refine f18 (P := fun g => g ≠ 16 → xV C d (sNn j mm v) mm g = xV C d j mm g) ?_ ?_ ?_ ?_ ?_ ?_ ?_ ?_ ?_ ?_ ?_ ?_ ?_ ?_ ?_ ?_ ?_ ?_ <;> intro hne <;> first | exact rfl | exact absurd rfl hne | (rw [xV_ge (by decide), xV_ge (by decide)]; rw [hk]; exact rfl)
  · have e : jNn (sNn j mm v) m' = jNn j m' := by first | (rw [dAD_self]; simp [vf_upd, hm]) | (rw [dAF_self]; simp [vf_upd, hm]) | (rw [dAI_self]; simp [upd, hm]) | (show vf_upd _ mm v m' = _; simp [vf_upd, hm])
    exact xV_mv (C' := C) (d' := d) (j' := (sNn j mm v)) (C := C) (d := d) (j := j) (m := m') (by unfold mvw; rw [e]; rfl) rfl g
theorem xs_Sr2 {dA : Nat → ClassId} {C : tp_C} {d : md_T} {j : xj_T} {mm : Nat} {v : UInt64} (hk : cK C mm = 2) (hmm : mm < cN C) : wr_s (xW dA C d j) (xr mm 0) (jA j (xr mm 0), .inr (cK C mm + 2, (xFs C d j mm).set 17 (Value.double v))) = xW dA C d (sSr j mm v) := by
  refine xs_M hmm rfl rfl rfl ?_ ?_ (fun m' hm g hg => ?_) (fun r _ => rfl) (fun m' i h0 _ => by unfold xME; split <;> first | rfl | omega)
  · rw [xV_ge (by decide)]; rw [hk]; exact (by simp [vf_upd, upd, dAD_self, dAF_self, dAI_self, cS, cB, cA, cP, wS, wB, wA, wP, jWf, jNf, jWn, jNn, jSr, sWf, sNf, sWn, sNn, sSr] : Value.double (jSr (sSr j mm v) mm) = Value.double v)
  · refine f18 (P := fun g => g ≠ 17 → xV C d (sSr j mm v) mm g = xV C d j mm g) ?_ ?_ ?_ ?_ ?_ ?_ ?_ ?_ ?_ ?_ ?_ ?_ ?_ ?_ ?_ ?_ ?_ ?_ <;> intro hne <;> first | exact rfl | exact absurd rfl hne | (rw [xV_ge (by decide), xV_ge (by decide)]; rw [hk]; exact rfl)
  · have e : jSr (sSr j mm v) m' = jSr j m' := by first | (rw [dAD_self]; simp [vf_upd, hm]) | (rw [dAF_self]; simp [vf_upd, hm]) | (rw [dAI_self]; simp [upd, hm]) | (show vf_upd _ mm v m' = _; simp [vf_upd, hm])
    exact xV_mv (C' := C) (d' := d) (j' := (sSr j mm v)) (C := C) (d := d) (j := j) (m := m') (by unfold mvw; rw [e]; rfl) rfl g
theorem xs_P2 {dA : Nat → ClassId} {C : tp_C} {d : md_T} {j : xj_T} {v : Nat} : wr_s (xW dA C d j) 0 (jA j 0, .inr (0, (xPs C d j).set 2 (Value.int (nI v)))) = xW dA (wM C v) d j := by
  refine xW_setP (by decide) rfl rfl ?_ ?_ (fun m' i' _ _ => rfl)
  · show some (Sum.inr (0, xPs (wM C v) d j)) = _
    rw [xPs_set (C := C) (d := d) (j := j) (f := 2) (v := Value.int (nI v)) (C' := (wM C v)) (d' := d) (j' := j) rfl (f17 (P := fun g => g ≠ 2 → xPV (wM C v) d j g = xPV C d j g) (fun _ => rfl) (fun _ => rfl) (fun h => absurd rfl h) (fun _ => rfl) (fun _ => rfl) (fun _ => rfl) (fun _ => rfl) (fun _ => rfl) (fun _ => rfl) (fun _ => rfl) (fun _ => rfl) (fun _ => rfl) (fun _ => rfl) (fun _ => rfl) (fun _ => rfl) (fun _ => rfl) (fun _ => rfl))]
  · exact f10 (P := fun q => q ≠ 0 → xPE dA (wM C v) d j q = xPE dA C d j q) (fun h => absurd rfl h) (fun _ => rfl) (fun _ => rfl) (fun _ => rfl) (fun _ => rfl) (fun _ => rfl) (fun _ => rfl) (fun _ => rfl) (fun _ => rfl) (fun _ => rfl)
theorem xs_P3 {dA : Nat → ClassId} {C : tp_C} {d : md_T} {j : xj_T} {v : Nat} : wr_s (xW dA C d j) 0 (jA j 0, .inr (0, (xPs C d j).set 3 (Value.int (nI v)))) = xW dA (wR C v) d j := by
  refine xW_setP (by decide) rfl rfl ?_ ?_ (fun m' i' _ _ => rfl)
  · show some (Sum.inr (0, xPs (wR C v) d j)) = _
    rw [xPs_set (C := C) (d := d) (j := j) (f := 3) (v := Value.int (nI v)) (C' := (wR C v)) (d' := d) (j' := j) rfl (f17 (P := fun g => g ≠ 3 → xPV (wR C v) d j g = xPV C d j g) (fun _ => rfl) (fun _ => rfl) (fun _ => rfl) (fun h => absurd rfl h) (fun _ => rfl) (fun _ => rfl) (fun _ => rfl) (fun _ => rfl) (fun _ => rfl) (fun _ => rfl) (fun _ => rfl) (fun _ => rfl) (fun _ => rfl) (fun _ => rfl) (fun _ => rfl) (fun _ => rfl) (fun _ => rfl))]
  · exact f10 (P := fun q => q ≠ 0 → xPE dA (wR C v) d j q = xPE dA C d j q) (fun h => absurd rfl h) (fun _ => rfl) (fun _ => rfl) (fun _ => rfl) (fun _ => rfl) (fun _ => rfl) (fun _ => rfl) (fun _ => rfl) (fun _ => rfl) (fun _ => rfl)
theorem xs_P4 {dA : Nat → ClassId} {C : tp_C} {d : md_T} {j : xj_T} {v : Nat} : wr_s (xW dA C d j) 0 (jA j 0, .inr (0, (xPs C d j).set 4 (Value.int (nI v)))) = xW dA (wH C v) d j := by
  refine xW_setP (by decide) rfl rfl ?_ ?_ (fun m' i' _ _ => rfl)
  · show some (Sum.inr (0, xPs (wH C v) d j)) = _
    rw [xPs_set (C := C) (d := d) (j := j) (f := 4) (v := Value.int (nI v)) (C' := (wH C v)) (d' := d) (j' := j) rfl (f17 (P := fun g => g ≠ 4 → xPV (wH C v) d j g = xPV C d j g) (fun _ => rfl) (fun _ => rfl) (fun _ => rfl) (fun _ => rfl) (fun h => absurd rfl h) (fun _ => rfl) (fun _ => rfl) (fun _ => rfl) (fun _ => rfl) (fun _ => rfl) (fun _ => rfl) (fun _ => rfl) (fun _ => rfl) (fun _ => rfl) (fun _ => rfl) (fun _ => rfl) (fun _ => rfl))]
  · exact f10 (P := fun q => q ≠ 0 → xPE dA (wH C v) d j q = xPE dA C d j q) (fun h => absurd rfl h) (fun _ => rfl) (fun _ => rfl) (fun _ => rfl) (fun _ => rfl) (fun _ => rfl) (fun _ => rfl) (fun _ => rfl) (fun _ => rfl) (fun _ => rfl)
theorem xs_P9 {dA : Nat → ClassId} {C : tp_C} {d : md_T} {j : xj_T} {v : Nat} : wr_s (xW dA C d j) 0 (jA j 0, .inr (0, (xPs C d j).set 9 (Value.int (nI v)))) = xW dA (wZ C v) d j := by
  refine xW_setP (by decide) rfl rfl ?_ ?_ (fun m' i' _ _ => rfl)
  · show some (Sum.inr (0, xPs (wZ C v) d j)) = _
    rw [xPs_set (C := C) (d := d) (j := j) (f := 9) (v := Value.int (nI v)) (C' := (wZ C v)) (d' := d) (j' := j) rfl (f17 (P := fun g => g ≠ 9 → xPV (wZ C v) d j g = xPV C d j g) (fun _ => rfl) (fun _ => rfl) (fun _ => rfl) (fun _ => rfl) (fun _ => rfl) (fun _ => rfl) (fun _ => rfl) (fun _ => rfl) (fun _ => rfl) (fun h => absurd rfl h) (fun _ => rfl) (fun _ => rfl) (fun _ => rfl) (fun _ => rfl) (fun _ => rfl) (fun _ => rfl) (fun _ => rfl))]
  · exact f10 (P := fun q => q ≠ 0 → xPE dA (wZ C v) d j q = xPE dA C d j q) (fun h => absurd rfl h) (fun _ => rfl) (fun _ => rfl) (fun _ => rfl) (fun _ => rfl) (fun _ => rfl) (fun _ => rfl) (fun _ => rfl) (fun _ => rfl) (fun _ => rfl)
theorem xs_P13 {dA : Nat → ClassId} {C : tp_C} {d : md_T} {j : xj_T} {v : Nat} : wr_s (xW dA C d j) 0 (jA j 0, .inr (0, (xPs C d j).set 13 (Value.int (nI v)))) = xW dA (wW C v) d j := by
  refine xW_setP (by decide) rfl rfl ?_ ?_ (fun m' i' _ _ => rfl)
  · show some (Sum.inr (0, xPs (wW C v) d j)) = _
    rw [xPs_set (C := C) (d := d) (j := j) (f := 13) (v := Value.int (nI v)) (C' := (wW C v)) (d' := d) (j' := j) rfl (f17 (P := fun g => g ≠ 13 → xPV (wW C v) d j g = xPV C d j g) (fun _ => rfl) (fun _ => rfl) (fun _ => rfl) (fun _ => rfl) (fun _ => rfl) (fun _ => rfl) (fun _ => rfl) (fun _ => rfl) (fun _ => rfl) (fun _ => rfl) (fun _ => rfl) (fun _ => rfl) (fun _ => rfl) (fun h => absurd rfl h) (fun _ => rfl) (fun _ => rfl) (fun _ => rfl))]
  · exact f10 (P := fun q => q ≠ 0 → xPE dA (wW C v) d j q = xPE dA C d j q) (fun h => absurd rfl h) (fun _ => rfl) (fun _ => rfl) (fun _ => rfl) (fun _ => rfl) (fun _ => rfl) (fun _ => rfl) (fun _ => rfl) (fun _ => rfl) (fun _ => rfl)
theorem xs_P5 {dA : Nat → ClassId} {C : tp_C} {d : md_T} {j : xj_T} {v : Int32} : wr_s (xW dA C d j) 0 (jA j 0, .inr (0, (xPs C d j).set 5 (Value.int v))) = xW dA C (uI d 12 v) j := by
  refine xW_setP (by decide) rfl rfl ?_ ?_ (fun m' i' _ _ => rfl)
  · show some (Sum.inr (0, xPs C (uI d 12 v) j)) = _
    rw [xPs_set (C := C) (d := d) (j := j) (f := 5) (v := Value.int v) (C' := C) (d' := (uI d 12 v)) (j' := j) rfl (f17 (P := fun g => g ≠ 5 → xPV C (uI d 12 v) j g = xPV C d j g) (fun _ => rfl) (fun _ => rfl) (fun _ => rfl) (fun _ => rfl) (fun _ => rfl) (fun h => absurd rfl h) (fun _ => rfl) (fun _ => rfl) (fun _ => rfl) (fun _ => rfl) (fun _ => rfl) (fun _ => rfl) (fun _ => rfl) (fun _ => rfl) (fun _ => rfl) (fun _ => rfl) (fun _ => rfl))]
  · exact f10 (P := fun q => q ≠ 0 → xPE dA C (uI d 12 v) j q = xPE dA C d j q) (fun h => absurd rfl h) (fun _ => rfl) (fun _ => rfl) (fun _ => rfl) (fun _ => rfl) (fun _ => rfl) (fun _ => rfl) (fun _ => rfl) (fun _ => rfl) (fun _ => rfl)
theorem xs_P6 {dA : Nat → ClassId} {C : tp_C} {d : md_T} {j : xj_T} {v : Int32} : wr_s (xW dA C d j) 0 (jA j 0, .inr (0, (xPs C d j).set 6 (Value.int v))) = xW dA C (uI d 15 v) j := by
  refine xW_setP (by decide) rfl rfl ?_ ?_ (fun m' i' _ _ => rfl)
  · show some (Sum.inr (0, xPs C (uI d 15 v) j)) = _
    rw [xPs_set (C := C) (d := d) (j := j) (f := 6) (v := Value.int v) (C' := C) (d' := (uI d 15 v)) (j' := j) rfl (f17 (P := fun g => g ≠ 6 → xPV C (uI d 15 v) j g = xPV C d j g) (fun _ => rfl) (fun _ => rfl) (fun _ => rfl) (fun _ => rfl) (fun _ => rfl) (fun _ => rfl) (fun h => absurd rfl h) (fun _ => rfl) (fun _ => rfl) (fun _ => rfl) (fun _ => rfl) (fun _ => rfl) (fun _ => rfl) (fun _ => rfl) (fun _ => rfl) (fun _ => rfl) (fun _ => rfl))]
  · exact f10 (P := fun q => q ≠ 0 → xPE dA C (uI d 15 v) j q = xPE dA C d j q) (fun h => absurd rfl h) (fun _ => rfl) (fun _ => rfl) (fun _ => rfl) (fun _ => rfl) (fun _ => rfl) (fun _ => rfl) (fun _ => rfl) (fun _ => rfl) (fun _ => rfl)
theorem xs_P7 {dA : Nat → ClassId} {C : tp_C} {d : md_T} {j : xj_T} {v : Int32} : wr_s (xW dA C d j) 0 (jA j 0, .inr (0, (xPs C d j).set 7 (Value.int v))) = xW dA C (uI d 16 v) j := by
  refine xW_setP (by decide) rfl rfl ?_ ?_ (fun m' i' _ _ => rfl)
  · show some (Sum.inr (0, xPs C (uI d 16 v) j)) = _
    rw [xPs_set (C := C) (d := d) (j := j) (f := 7) (v := Value.int v) (C' := C) (d' := (uI d 16 v)) (j' := j) rfl (f17 (P := fun g => g ≠ 7 → xPV C (uI d 16 v) j g = xPV C d j g) (fun _ => rfl) (fun _ => rfl) (fun _ => rfl) (fun _ => rfl) (fun _ => rfl) (fun _ => rfl) (fun _ => rfl) (fun h => absurd rfl h) (fun _ => rfl) (fun _ => rfl) (fun _ => rfl) (fun _ => rfl) (fun _ => rfl) (fun _ => rfl) (fun _ => rfl) (fun _ => rfl) (fun _ => rfl))]
  · exact f10 (P := fun q => q ≠ 0 → xPE dA C (uI d 16 v) j q = xPE dA C d j q) (fun h => absurd rfl h) (fun _ => rfl) (fun _ => rfl) (fun _ => rfl) (fun _ => rfl) (fun _ => rfl) (fun _ => rfl) (fun _ => rfl) (fun _ => rfl) (fun _ => rfl)
theorem xs_R2 {dA : Nat → ClassId} {C : tp_C} {d : md_T} {j : xj_T} {i : Nat} {v : Nat} : wr_s (xW dA C d j) 2 (jA j 2, e_I (dA 0) 6 (upd (fun s => nI (cO C s)) i (nI v))) = xW dA (wO C (vf_upd (cO C) i v)) d j := by
  refine xW_setP (by decide) rfl rfl ?_ ?_ (fun m' i' _ _ => rfl)
  · show some (e_I (dA 0) 6 (fun s => nI (vf_upd (cO C) i v s))) = _; congr 2; funext k; unfold vf_upd upd; split <;> rfl
  · exact f10 (P := fun q => q ≠ 2 → xPE dA (wO C (vf_upd (cO C) i v)) d j q = xPE dA C d j q) (fun _ => rfl) (fun _ => rfl) (fun h => absurd rfl h) (fun _ => rfl) (fun _ => rfl) (fun _ => rfl) (fun _ => rfl) (fun _ => rfl) (fun _ => rfl) (fun _ => rfl)
theorem xs_R3 {dA : Nat → ClassId} {C : tp_C} {d : md_T} {j : xj_T} {i : Nat} {v : UInt64} : wr_s (xW dA C d j) 3 (jA j 3, e_D (dA 2) 720 (vf_upd (dAD d 40) i v)) = xW dA C (uAD d 40 i v) j := by
  refine xW_setP (by decide) rfl rfl ?_ ?_ (fun m' i' _ _ => rfl)
  · show some (e_D (dA 2) 720 (dAD (uAD d 40 i v) 40)) = _; rw [dAD_self]
  · exact f10 (P := fun q => q ≠ 3 → xPE dA C (uAD d 40 i v) j q = xPE dA C d j q) (fun _ => rfl) (fun _ => rfl) (fun _ => rfl) (fun h => absurd rfl h) (fun _ => rfl) (fun _ => rfl) (fun _ => rfl) (fun _ => rfl) (fun _ => rfl) (fun _ => rfl)
theorem xs_R4 {dA : Nat → ClassId} {C : tp_C} {d : md_T} {j : xj_T} {i : Nat} {v : Int32} : wr_s (xW dA C d j) 4 (jA j 4, e_I (dA 0) 6 (upd (dAI d 39) i v)) = xW dA C (uAI d 39 i v) j := by
  refine xW_setP (by decide) rfl rfl ?_ ?_ (fun m' i' _ _ => rfl)
  · show some (e_I (dA 0) 6 (dAI (uAI d 39 i v) 39)) = _; rw [dAI_self]
  · exact f10 (P := fun q => q ≠ 4 → xPE dA C (uAI d 39 i v) j q = xPE dA C d j q) (fun _ => rfl) (fun _ => rfl) (fun _ => rfl) (fun _ => rfl) (fun h => absurd rfl h) (fun _ => rfl) (fun _ => rfl) (fun _ => rfl) (fun _ => rfl) (fun _ => rfl)
theorem xs_R5 {dA : Nat → ClassId} {C : tp_C} {d : md_T} {j : xj_T} {i : Nat} {v : Int64} : wr_s (xW dA C d j) 5 (jA j 5, e_L (dA 4) 6 (vp_updL (fun k => (dAD d 42 k).toInt64) i v)) = xW dA C (uAD d 42 i v.toUInt64) j := by
  refine xW_setP (by decide) rfl rfl ?_ ?_ (fun m' i' _ _ => rfl)
  · show some (e_L (dA 4) 6 (fun k => (dAD (uAD d 42 i v.toUInt64) 42 k).toInt64)) = _; rw [dAD_self]; congr 2; funext k; unfold vf_upd vp_updL; split <;> simp
  · exact f10 (P := fun q => q ≠ 5 → xPE dA C (uAD d 42 i v.toUInt64) j q = xPE dA C d j q) (fun _ => rfl) (fun _ => rfl) (fun _ => rfl) (fun _ => rfl) (fun _ => rfl) (fun h => absurd rfl h) (fun _ => rfl) (fun _ => rfl) (fun _ => rfl) (fun _ => rfl)
theorem xs_R6 {dA : Nat → ClassId} {C : tp_C} {d : md_T} {j : xj_T} {i : Nat} {v : Int32} : wr_s (xW dA C d j) 6 (jA j 6, e_I (dA 0) 20 (upd (dAI d 10) i v)) = xW dA C (uAI d 10 i v) j := by
  refine xW_setP (by decide) rfl rfl ?_ ?_ (fun m' i' _ _ => rfl)
  · show some (e_I (dA 0) 20 (dAI (uAI d 10 i v) 10)) = _; rw [dAI_self]
  · exact f10 (P := fun q => q ≠ 6 → xPE dA C (uAI d 10 i v) j q = xPE dA C d j q) (fun _ => rfl) (fun _ => rfl) (fun _ => rfl) (fun _ => rfl) (fun _ => rfl) (fun _ => rfl) (fun h => absurd rfl h) (fun _ => rfl) (fun _ => rfl) (fun _ => rfl)
theorem xs_R7 {dA : Nat → ClassId} {C : tp_C} {d : md_T} {j : xj_T} {i : Nat} {v : Bool} : wr_s (xW dA C d j) 7 (jA j 7, e_I (dA 1) 20 (upd (fun k => bI (jRc j k)) i (bI v))) = xW dA C d (sRc j i v) := by
  refine xW_setP (by decide) rfl rfl ?_ ?_ (fun m' i' _ _ => rfl)
  · show some (e_I (dA 1) 20 (fun k => bI (vf_upd (jRc j) i v k))) = _; congr 2; funext k; unfold vf_upd upd; split <;> rfl
  · exact f10 (P := fun q => q ≠ 7 → xPE dA C d (sRc j i v) q = xPE dA C d j q) (fun _ => rfl) (fun _ => rfl) (fun _ => rfl) (fun _ => rfl) (fun _ => rfl) (fun _ => rfl) (fun _ => rfl) (fun h => absurd rfl h) (fun _ => rfl) (fun _ => rfl)
theorem xs_R8 {dA : Nat → ClassId} {C : tp_C} {d : md_T} {j : xj_T} {i : Nat} {v : Int32} : wr_s (xW dA C d j) 8 (jA j 8, e_I (dA 0) 20 (upd (jOd j) i v)) = xW dA C d (sOd j i v) := by
  refine xW_setP (by decide) rfl rfl ?_ ?_ (fun m' i' _ _ => rfl)
  · show some (e_I (dA 0) 20 (vf_upd (jOd j) i v)) = _; congr 2
  · exact f10 (P := fun q => q ≠ 8 → xPE dA C d (sOd j i v) q = xPE dA C d j q) (fun _ => rfl) (fun _ => rfl) (fun _ => rfl) (fun _ => rfl) (fun _ => rfl) (fun _ => rfl) (fun _ => rfl) (fun _ => rfl) (fun h => absurd rfl h) (fun _ => rfl)
theorem xs_wr {dA : Nat → ClassId} {C : tp_C} {d : md_T} {j : xj_T} {mm : Nat} {i : Nat} {v : UInt64} (hk : cK C mm = 2) (hmm : mm < cN C) : wr_s (xW dA C d j) (xr mm 4) (jA j (xr mm 4), e_D (dA 2) 4 (vf_upd (jWr j mm) i v)) = xW dA C d (sWr j mm i v) := by
  have e : ∀ m', jWr (sWr j mm i v) m' = if m' = mm then vf_upd (jWr j mm) i v else jWr j m' := fun m' => by
    show (fun b => up2 (jWr j) mm i v m' b) = _
    funext b; unfold up2 vf_upd; by_cases h : m' = mm
    · subst h; simp
    · simp [h]
  refine xW_setM (by decide) hmm rfl rfl ?_ (f10 (P := fun q => xPE dA C d (sWr j mm i v) q = xPE dA C d j q) rfl rfl rfl rfl rfl rfl rfl rfl rfl rfl) (fun m' i' hi hm' hne => ?_)
  · refine (xME_2_4 (C := C) hk).trans ?_; rw [e mm, if_pos rfl]
  · refine f6 (P := fun i' => ¬ (m' = mm ∧ i' = 4) → xME dA C d (sWr j mm i v) m' i' = xME dA C d j m' i') ?_ ?_ ?_ ?_ ?_ ?_ i' hi hne <;> intro hne
    · exact rfl
    · exact rfl
    · exact rfl
    · exact rfl
    · have h : m' ≠ mm := fun h => hne ⟨h, rfl⟩
      show xM4 (cK C m') dA C d (sWr j mm i v) m' = xM4 (cK C m') dA C d j m'
      have e2 := e m'; rw [if_neg h] at e2; unfold xM4; rw [e2] <;> rfl
    · exact rfl
theorem xs_nr {dA : Nat → ClassId} {C : tp_C} {d : md_T} {j : xj_T} {mm : Nat} {i : Nat} {v : UInt32} (hk : cK C mm = 2) (hmm : mm < cN C) : wr_s (xW dA C d j) (xr mm 5) (jA j (xr mm 5), e_F (dA 3) 4 (vf_upd (jNr j mm) i v)) = xW dA C d (sNr j mm i v) := by
  have e : ∀ m', jNr (sNr j mm i v) m' = if m' = mm then vf_upd (jNr j mm) i v else jNr j m' := fun m' => by
    show (fun b => up2 (jNr j) mm i v m' b) = _
    funext b; unfold up2 vf_upd; by_cases h : m' = mm
    · subst h; simp
    · simp [h]
  refine xW_setM (by decide) hmm rfl rfl ?_ (f10 (P := fun q => xPE dA C d (sNr j mm i v) q = xPE dA C d j q) rfl rfl rfl rfl rfl rfl rfl rfl rfl rfl) (fun m' i' hi hm' hne => ?_)
  · refine (xME_2_5 (C := C) hk).trans ?_; rw [e mm, if_pos rfl]
  · refine f6 (P := fun i' => ¬ (m' = mm ∧ i' = 5) → xME dA C d (sNr j mm i v) m' i' = xME dA C d j m' i') ?_ ?_ ?_ ?_ ?_ ?_ i' hi hne <;> intro hne
    · exact rfl
    · exact rfl
    · exact rfl
    · exact rfl
    · exact rfl
    · have h : m' ≠ mm := fun h => hne ⟨h, rfl⟩
      show xM5 (cK C m') dA C d (sNr j mm i v) m' = xM5 (cK C m') dA C d j m'
      have e2 := e m'; rw [if_neg h] at e2; unfold xM5; rw [e2] <;> rfl
theorem xs_tx {dA : Nat → ClassId} {C : tp_C} {d : md_T} {j : xj_T} {mm : Nat} {i : Nat} {v : UInt64} (hk : cK C mm = 7) (hmm : mm < cN C) : wr_s (xW dA C d j) (xr mm 4) (jA j (xr mm 4), e_D (dA 2) 8 (vf_upd (cX C mm) i v)) = xW dA (wX C (up2 (cX C) mm i v)) d j := by
  have e : ∀ m', cX (wX C (up2 (cX C) mm i v)) m' = if m' = mm then vf_upd (cX C mm) i v else cX C m' := fun m' => by
    show (fun b => up2 (cX C) mm i v m' b) = _
    funext b; unfold up2 vf_upd; by_cases h : m' = mm
    · subst h; simp
    · simp [h]
  refine xW_setM (by decide) hmm rfl rfl ?_ (f10 (P := fun q => xPE dA (wX C (up2 (cX C) mm i v)) d j q = xPE dA C d j q) rfl rfl rfl rfl rfl rfl rfl rfl rfl rfl) (fun m' i' hi hm' hne => ?_)
  · refine (xME_7_4 (C := (wX C (up2 (cX C) mm i v))) hk).trans ?_; rw [e mm, if_pos rfl]
  · refine f6 (P := fun i' => ¬ (m' = mm ∧ i' = 4) → xME dA (wX C (up2 (cX C) mm i v)) d j m' i' = xME dA C d j m' i') ?_ ?_ ?_ ?_ ?_ ?_ i' hi hne <;> intro hne
    · exact rfl
    · exact rfl
    · exact rfl
    · exact rfl
    · have h : m' ≠ mm := fun h => hne ⟨h, rfl⟩
      show xM4 (cK C m') dA (wX C (up2 (cX C) mm i v)) d j m' = xM4 (cK C m') dA C d j m'
      have e2 := e m'; rw [if_neg h] at e2; unfold xM4; rw [e2] <;> rfl
    · exact rfl
theorem xs_ty {dA : Nat → ClassId} {C : tp_C} {d : md_T} {j : xj_T} {mm : Nat} {i : Nat} {v : UInt64} (hk : cK C mm = 7) (hmm : mm < cN C) : wr_s (xW dA C d j) (xr mm 5) (jA j (xr mm 5), e_D (dA 2) 8 (vf_upd (cY C mm) i v)) = xW dA (wY C (up2 (cY C) mm i v)) d j := by
  have e : ∀ m', cY (wY C (up2 (cY C) mm i v)) m' = if m' = mm then vf_upd (cY C mm) i v else cY C m' := fun m' => by
    show (fun b => up2 (cY C) mm i v m' b) = _
    funext b; unfold up2 vf_upd; by_cases h : m' = mm
    · subst h; simp
    · simp [h]
  refine xW_setM (by decide) hmm rfl rfl ?_ (f10 (P := fun q => xPE dA (wY C (up2 (cY C) mm i v)) d j q = xPE dA C d j q) rfl rfl rfl rfl rfl rfl rfl rfl rfl rfl) (fun m' i' hi hm' hne => ?_)
  · refine (xME_7_5 (C := (wY C (up2 (cY C) mm i v))) hk).trans ?_; rw [e mm, if_pos rfl]
  · refine f6 (P := fun i' => ¬ (m' = mm ∧ i' = 5) → xME dA (wY C (up2 (cY C) mm i v)) d j m' i' = xME dA C d j m' i') ?_ ?_ ?_ ?_ ?_ ?_ i' hi hne <;> intro hne
    · exact rfl
    · exact rfl
    · exact rfl
    · exact rfl
    · exact rfl
    · have h : m' ≠ mm := fun h => hne ⟨h, rfl⟩
      show xM5 (cK C m') dA (wY C (up2 (cY C) mm i v)) d j m' = xM5 (cK C m') dA C d j m'
      have e2 := e m'; rw [if_neg h] at e2; unfold xM5; rw [e2] <;> rfl
