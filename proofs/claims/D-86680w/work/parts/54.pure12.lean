/-! a run's step keeps what a run needs -/
theorem tk_A (C : tp_C) (n : Nat) (d : md_T) {k : Nat} : dAI (tkN C n d) k = dAI d k := A_it (f := tkS C) (fun i d => congrFun (tkS_A C i d) k) n d
theorem ru_A (C : tp_C) (t : UInt64) (d : md_T) {k : Nat} (h : k ≠ 24) : dAI (ruD C t d) k = dAI d k := by
  have hs : ∀ t d, dAI (sgA C t d) k = dAI d k := fun t d => sgN_A h
  have hr : ∀ d, dAI (raD C d) k = dAI d k := fun d => raN_A h
  have ht : ∀ d, dAI (rateD C d) k = dAI d k := fun d => rfl
  have h1 : ∀ d n, dAI (c1I d n) k = dAI d k := fun d n => rfl
  have h2 : ∀ d n, dAI (c2I d n) k = dAI d k := fun d n => rfl
  have k2 : ∀ d, dAI (kpD C 2 d) k = dAI d k := fun d => rfl
  have k3 : ∀ d, dAI (kpD C 3 d) k = dAI d k := fun d => rfl
  unfold ruD; split
  · exact hs t d
  · split
    · unfold ru1; rw [hs, h1, ht, hr, hs]
    · unfold ru2 r2c r2b r2a; rw [hs, h2, ht, hr, hs, k3, ht, hr, hs, k2, ht, hr, hs]
theorem st_A (C : tp_C) (t : UInt64) (d : md_T) {k : Nat} (h1 : k ≠ 23) (h2 : k ≠ 24) : dAI (stD C t d) k = dAI d k := by
  have e1 : dAI (stD C t d) k = dAI (raD C (tmU (otD C (ruD C t (s1D C d))))) k := A_it (f := dfS) (fun i d => rfl) (cN C) _
  have e2 : dAI (raD C (tmU (otD C (ruD C t (s1D C d))))) k = dAI (otD C (ruD C t (s1D C d))) k := raN_A h2
  have e3 : dAI (otD C (ruD C t (s1D C d))) k = dAI (ruD C t (s1D C d)) k := A_it (f := otS C) (fun i d => otS_A C i d h1) (cN C) _
  have e4 : dAI (s1D C d) k = dAI d k := tk_A C (cN C) d
  rw [e1, e2, e3, ru_A C t _ h2, e4]
theorem ts_cnt {C : tp_C} {d : md_T} {s : Nat} (hs : smOK d) (h : s < cZ C) : cntN (tsD C d) s = cntN d s + 1 := by
  have e1 : dAI (tsD C d) 39 = pm (dAI d 39) (cZ C) (fun s => nI (cntN d s + 1)) := dAI_sAI _ 39 _
  show ixN (dAI (tsD C d) 39 s) = _
  rw [e1]; unfold pm; rw [if_pos h]
  have := hs.le s
  exact ixN_nI (by omega)
theorem ts_sm {C : tp_C} {d : md_T} (hs : smOK d) (h : ∀ s, s < cZ C → cntN d s < 120) : smOK (tsD C d) := by
  have e1 : dAI (tsD C d) 39 = pm (dAI d 39) (cZ C) (fun s => nI (cntN d s + 1)) := dAI_sAI _ 39 _
  intro s
  rw [e1]; unfold pm
  split
  · rename_i hz; have := h s hz; exact ⟨cntN d s + 1, by omega, rfl⟩
  · exact hs s
theorem ts_D (C : tp_C) (d : md_T) {k : Nat} (h : k ≠ 40) : dAD (tsD C d) k = dAD d k := sAD_ne d 40 _ h
theorem iOK_ts {C : tp_C} {f : Nat → Int32} {d : md_T} (h : iOK C f d) : iOK C f (tsD C d) := by
  have e3 : dAI (tsD C d) 10 = dAI d 10 := by
    show dAI (sAI (sAD d 40 _) 39 _) 10 = _
    simp [sAI, sAD, dAI, va_up]
  refine ⟨?_, ?_, ?_, ?_, ?_, e3.trans h.l⟩
  · unfold rOK
    rw [ts_D C d (by decide), ts_D C d (by decide), ts_D C d (by decide)]
    exact h.r
  · unfold gOK
    rw [ts_D C d (by decide), ts_D C d (by decide), ts_D C d (by decide)]
    exact h.g
  · unfold nOK; rw [ts_D C d (by decide)]; exact h.n
  · unfold fOK; rw [ts_D C d (by decide)]; exact h.f
  · unfold zOK; rw [ts_D C d (by decide)]; exact h.z
theorem rnS_ok {C : tp_C} {f : Nat → Int32} {e : md_T} (hC : mOK C) (hV : vOK C) (hA : aOK C) (hie : iOK C f e) (hse : smOK e) (hce : ∀ s, s < cZ C → cntN e s < 120) : iOK C f (rnS C e) ∧ smOK (rnS C e) ∧ (∀ s, s < cZ C → cntN (rnS C e) s = cntN e s + 1) ∧ dD (rnS C e) = dD e := by
  have hH := hC.hv
  have i0 : iOK C f (uI e 44 (dI e 12 + nI 1)) := iOK_mv hie rfl rfl rfl
  have i1 : iOK C f (rn1 C e) := iOK_st hC hV hA (hv_ok (by omega)) (hv_ok (k := cH C + 1) (by omega)) i0
  have i2 : iOK C f (uI (rn1 C e) 15 (dI (rn1 C e) 15 + nI 1)) := iOK_mv i1 rfl rfl rfl
  have a1 : dAI (uI (rn1 C e) 15 (dI (rn1 C e) 15 + nI 1)) 39 = dAI e 39 := st_A C _ _ (by decide) (by decide)
  have s2 : smOK (uI (rn1 C e) 15 (dI (rn1 C e) 15 + nI 1)) := sm_mv hse a1
  have c2 : ∀ s, cntN (uI (rn1 C e) 15 (dI (rn1 C e) 15 + nI 1)) s = cntN e s := fun s => by unfold cntN; rw [a1]
  refine ⟨iOK_ts i2, ts_sm s2 (fun s hs => by rw [c2]; exact hce s hs), fun s hs => by unfold rnS; rw [ts_cnt s2 hs, c2], ?_⟩
  show dD (rn1 C e) = _
  exact st_dD C _ _
theorem vOK_w (C : tp_C) (v : Nat) (h : vOK C) : vOK (wM C v) := h
theorem aOK_w (C : tp_C) (v : Nat) (h : aOK C) : aOK (wM C v) := h
