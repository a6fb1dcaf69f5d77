/-! a field of a module, or of the panel, is written: the new world -/
theorem xs_M {dA : Nat → ClassId} {C C' : tp_C} {d d' : md_T} {j j' : xj_T} {mm f : Nat} {v : Value} (hmm : mm < cN C) (hN : cN C' = cN C) (hK : cK C' = cK C) (hA : jA j' = jA j) (hv : xV C' d' j' mm f = v) (h : ∀ g, g < 18 → g ≠ f → xV C' d' j' mm g = xV C d j mm g) (ho : ∀ m', m' ≠ mm → ∀ g, g < 18 → xV C' d' j' m' g = xV C d j m' g) (hp : ∀ r, r < 10 → xPE dA C' d' j' r = xPE dA C d j r) (ha : ∀ m' i, 0 < i → i < 6 → xME dA C' d' j' m' i = xME dA C d j m' i) : wr_s (xW dA C d j) (xr mm 0) (jA j (xr mm 0), .inr (cK C mm + 2, (xFs C d j mm).set f v)) = xW dA C' d' j' := by
  refine xW_setM (by decide) hmm hN hA ?_ hp (fun m' i' hi' hm' hne => ?_)
  · show some (Sum.inr (cK C' mm + 2, xFs C' d' j' mm)) = _
    rw [xFs_set (by rw [hK]) hv h, hK]
  · by_cases e : i' = 0
    · subst e
      have hm2 : m' ≠ mm := fun q => hne ⟨q, rfl⟩
      show some (Sum.inr (cK C' m' + 2, xFs C' d' j' m')) = some (Sum.inr (cK C m' + 2, xFs C d j m'))
      rw [xFs_congr (by rw [hK]) (ho m' hm2), hK]
    · exact ha m' i' (by omega) hi'
theorem xs_wide {dA : Nat → ClassId} {C : tp_C} {d : md_T} {j : xj_T} {mm : Nat} {v : UInt64} (hmm : mm < cN C) : wr_s (xW dA C d j) (xr mm 0) (jA j (xr mm 0), .inr (cK C mm + 2, (xFs C d j mm).set 6 (.double v))) = xW dA C (uAD d 19 mm v) j := by
  refine xs_M hmm rfl rfl rfl ?_ (fun g hg hne => ?_) (fun m' hm g hg => ?_) (fun r _ => rfl) (fun m' i h0 _ => by unfold xME; split <;> first | rfl | omega)
  · show Value.double (dAD (uAD d 19 mm v) 19 mm) = _
    rw [dAD_self]; simp [vf_upd]
  · unfold xV; split <;> first | rfl | exact absurd rfl hne
  · unfold xV; split <;> first | rfl | (rw [dAD_self]; simp [vf_upd, hm])
theorem xs_narrow {dA : Nat → ClassId} {C : tp_C} {d : md_T} {j : xj_T} {mm : Nat} {v : UInt32} (hmm : mm < cN C) : wr_s (xW dA C d j) (xr mm 0) (jA j (xr mm 0), .inr (cK C mm + 2, (xFs C d j mm).set 7 (.float v))) = xW dA C (uAF d 20 mm v) j := by
  refine xs_M hmm rfl rfl rfl ?_ (fun g hg hne => ?_) (fun m' hm g hg => ?_) (fun r _ => rfl) (fun m' i h0 _ => by unfold xME; split <;> first | rfl | omega)
  · show Value.float (dAF (uAF d 20 mm v) 20 mm) = _
    rw [dAF_self]; simp [vf_upd]
  · unfold xV; split <;> first | rfl | exact absurd rfl hne
  · unfold xV; split <;> first | rfl | (rw [dAF_self]; simp [vf_upd, hm])
theorem xs_lamp {dA : Nat → ClassId} {C : tp_C} {d : md_T} {j : xj_T} {mm : Nat} {v : Int32} (hmm : mm < cN C) : wr_s (xW dA C d j) (xr mm 0) (jA j (xr mm 0), .inr (cK C mm + 2, (xFs C d j mm).set 8 (.int v))) = xW dA C (uAI d 24 mm v) j := by
  refine xs_M hmm rfl rfl rfl ?_ (fun g hg hne => ?_) (fun m' hm g hg => ?_) (fun r _ => rfl) (fun m' i h0 _ => by unfold xME; split <;> first | rfl | omega)
  · show Value.int (dAI (uAI d 24 mm v) 24 mm) = _
    rw [dAI_self]; simp [upd]
  · unfold xV; split <;> first | rfl | exact absurd rfl hne
  · unfold xV; split <;> first | rfl | (rw [dAI_self]; simp [upd, hm])
theorem xs_apart {dA : Nat → ClassId} {C : tp_C} {d : md_T} {j : xj_T} {mm : Nat} {v : UInt64} (hmm : mm < cN C) : wr_s (xW dA C d j) (xr mm 0) (jA j (xr mm 0), .inr (cK C mm + 2, (xFs C d j mm).set 9 (.double v))) = xW dA C (uAD d 25 mm v) j := by
  refine xs_M hmm rfl rfl rfl ?_ (fun g hg hne => ?_) (fun m' hm g hg => ?_) (fun r _ => rfl) (fun m' i h0 _ => by unfold xME; split <;> first | rfl | omega)
  · show Value.double (dAD (uAD d 25 mm v) 25 mm) = _
    rw [dAD_self]; simp [vf_upd]
  · unfold xV; split <;> first | rfl | exact absurd rfl hne
  · unfold xV; split <;> first | rfl | (rw [dAD_self]; simp [vf_upd, hm])
