/-! what a step keeps in the panel -/
theorem stJ_f (C : tp_C) (t : UInt64) (d : md_T) (j : xj_T) : jA (stJ C t d j) = jA j ∧ jDn (stJ C t d j) = jDn j ∧ jOd (stJ C t d j) = jOd j ∧ jSr (stJ C t d j) = jSr j ∧ jRc (stJ C t d j) = jRc j := by
  unfold stJ
  split
  · exact ⟨rfl, rfl, rfl, rfl, rfl⟩
  · split <;> exact ⟨rfl, rfl, rfl, rfl, rfl⟩
theorem jOK_st {C : tp_C} {t : UInt64} {d : md_T} {j : xj_T} (hDl : dlOK C) (h11 : ∀ m, cK C m = 11 → m < cN C) (hr : cR C ≤ 2) : jOK C (stD C t d) (stJ C t d j) := by
  have e1 : dAD (stD C t d) 21 = dAD (otD C (ruD C t (s1D C d))) 21 := (it_ok (n := cN C) (P := fun x => dAD x 21 = dAD (raD C (tmU (otD C (ruD C t (s1D C d))))) 21) rfl (fun i a _ ha => (dfS_D i a (by decide)).trans ha) (cN C) (Nat.le_refl _)).trans (raN_D (by decide))
  have e2 : dAF (stD C t d) 22 = dAF (otD C (ruD C t (s1D C d))) 22 := (it_ok (n := cN C) (P := fun x => dAF x 22 = dAF (raD C (tmU (otD C (ruD C t (s1D C d))))) 22) rfl (fun i a _ ha => (show dAF (dfS i a) 22 = dAF a 22 from rfl).trans ha) (cN C) (Nat.le_refl _)).trans (raN_F (by decide))
  have key : jOK C (otD C (ruD C t (s1D C d))) (stJ C t d j) := by
    rcases (show cR C = 0 ∨ cR C = 1 ∨ cR C = 2 by omega) with h | h | h
    · rw [← gbX_0 h, ← stJ_0 h]; exact jOK_fb hDl h11
    · rw [← gbX_1 h, ← stJ_1 h]; exact jOK_fb hDl h11
    · rw [← gbX_2 h, ← stJ_2 h]; exact jOK_fb hDl h11
  exact jOK_mv e1 e2 (fun _ _ => rfl) (fun _ _ => rfl) key
theorem wrOK_fb {C : tp_C} {t : UInt64} {e : md_T} {jj : xj_T} {n : Nat} (h : wrOK jj) : wrOK (fbJ C t e jj n) := ⟨fun m i => h.1 m i, fun m i => h.2 m i⟩
theorem wrOK_st {C : tp_C} {f : Nat → Int32} {t : UInt64} {d : md_T} {j : xj_T} (hC : mOK C) (hV : vOK C) (hA : aOK C) (ht : tOK t) (ht2 : tOK (hf_ t)) (hI : iOK C f d) (hw : wrOK j) : wrOK (stJ C t d j) := by
  obtain ⟨pz, r0, r0b⟩ := sp_0 hI hw
  have q1 : spOK C f d j (rateD C (raD C (sgA C t (s1D C d)))) (sj1 C t d j) := (sp_s hC hV hA ht 1 pz).1
  have p1 : spOK C f d j (rateD C (se1 C t d)) (sk1 C t d j) := (sp_s hC hV hA ht2 1 pz).1
  have p1k : spOK C f d j (ra_ C t d) (sk1 C t d j) := sp_2 p1
  have p2 : spOK C f d j (rateD C (se2 C t d)) (sk2 C t d j) := (sp_s hC hV hA ht2 2 p1k).1
  have p2k : spOK C f d j (rb_ C t d) (sk2 C t d j) := sp_3 p2
  have p3 : spOK C f d j (rateD C (se3 C t d)) (sk3 C t d j) := (sp_s hC hV hA ht 3 p2k).1
  unfold stJ
  split
  · exact wrOK_fb pz.2.2.1
  · split
    · exact wrOK_fb q1.2.2.1
    · exact wrOK_fb p3.2.2.1
theorem ru_25 {C : tp_C} {t : UInt64} {d : md_T} {k : Nat} (h17 : k ≠ 17) (h19 : k ≠ 19) (h56 : k ≠ 56) (h47 : k ≠ 47) (h48 : k ≠ 48) : dAD (ruD C t d) k = dAD d k := by
  have hs : ∀ t d, dAD (sgA C t d) k = dAD d k := fun t d => sgN_D h17
  have hr : ∀ d, dAD (raD C d) k = dAD d k := fun d => raN_D h19
  have ht : ∀ d, dAD (rateD C d) k = dAD d k := fun d => rate_D C d h56
  unfold ruD; split
  · exact hs t d
  · split
    · unfold ru1; rw [hs, c1_D h56, ht, hr, hs]
    · unfold ru2 r2c r2b r2a; rw [hs, c2_D h56, ht, hr, hs, kp3_D h48, ht, hr, hs, kp2_D h47, ht, hr, hs]
theorem apOK_st {C : tp_C} {f : Nat → Int32} {t : UInt64} {d : md_T} (hC : mOK C) (hV : vOK C) (hA : aOK C) (ht : tOK t) (ht2 : tOK (hf_ t)) (hI : iOK C f d) (h : apOK d) : apOK (stD C t d) := by
  obtain ⟨i3, h3, z3⟩ := iOK_s1 hI
  have iX : iOK C f (otD C (ruD C t (s1D C d))) := iOK_otN (iOK_ru hC hV hA ht ht2 i3 h3 z3) (cN C)
  have iY := iOK_ra hC hV hA (iOK_tm iX)
  refine apOK_dfN iY (apOK_mv ?_ h) (cN C)
  have e1 : dAD (otD C (ruD C t (s1D C d))) 25 = dAD (ruD C t (s1D C d)) 25 := it_ok (n := cN C) (P := fun x => dAD x 25 = dAD (ruD C t (s1D C d)) 25) rfl (fun i a _ ha => (otS_D C i a (by decide) (by decide)).trans ha) (cN C) (Nat.le_refl _)
  have ev := vw_s1 C d
  simp only [vw, Prod.mk.injEq] at ev
  exact (raN_D (by decide)).trans (e1.trans ((ru_25 (by decide) (by decide) (by decide) (by decide) (by decide)).trans ev.2.2.2.2.2.2.2.2.2.2.1))
/-- which module fails -/
def faI (C : tp_C) (a : Int32) : Int32 := match fi_ (fun m => decide (nI (cA C m) = a)) (cN C) with
  | some m => nI m
  | none => -1
/-- what the panel notes in a run -/
def rnJ (C : tp_C) : Nat → md_T → xj_T → xj_T
  | 0, _, j => j
  | r + 1, d, j => match flN C d with
    | some _ => j
    | none => rnJ C r (rnS C d) (stJ C (hvT (cH C)) (uI d 44 (dI d 12 + nI 1)) j)
noncomputable def rnK (C : tp_C) (d : md_T) (n : Int32) (j : xj_T) : xj_T := if inB n (nI 1) (nI 100) = true ∧ ¬ cM C = 0 ∧ dI d 12 + n ≤ nI 300 ∧ rnB C d (ixN n) = none then rnJ (wM C 2) (ixN n) (rn0 C d) j else j
/-- all strips have the same count while a panel runs -/
def eqS (C : tp_C) (d : md_T) : Prop := ¬ cM C = 0 → ∀ s, s < cZ C → cntN d s = cntN d 0
theorem rnB_x {C : tp_C} {d : md_T} {n : Nat} (hE : eqS C d) (hM : ¬ cM C = 0) : rnB C d n = none ↔ (cZ C = 0 ∨ cntN d 0 + n ≤ 120) := by
  constructor
  · intro h
    by_cases hz : cZ C = 0
    · exact Or.inl hz
    · right
      have := fi_inv0 h 0 (by omega)
      simpa using this
  · intro h
    refine fi_none (fun k hk => ?_)
    have e := hE hM k hk
    have : cntN d k + n ≤ 120 := by rcases h with h | h <;> omega
    simp [this]
theorem hv_h {k : Nat} (hk : k < 22) : FP.fdiv (FP.d2f (hvT k)) FP.fconst2 = FP.d2f (hf_ (hvT k)) := by
  have h : ∀ k, k < 22 → FP.fdiv (FP.d2f (hvT k)) FP.fconst2 = FP.d2f (hf_ (hvT k)) := by decide +kernel
  exact h k hk
