/-! modes, runs, trials -/
theorem dD_it {f : Nat → md_T → md_T} (h : ∀ i d, dD (f i d) = dD d) (n : Nat) (d : md_T) : dD (it_ f n d) = dD d := it_ok (P := fun x => dD x = dD d) (n := n) rfl (fun i a _ ha => (h i a).trans ha) n (Nat.le_refl n)
theorem tk_dD (C : tp_C) (n : Nat) (d : md_T) : dD (tkN C n d) = dD d := dD_it (fun i d => by unfold tkS; split; rfl; split <;> rfl) n d
theorem sg_dD (C : tp_C) (t : UInt64) (d : md_T) : dD (sgA C t d) = dD d := dD_it (fun i d => by
  unfold sgS; split
  · exact (mAfterF_dD _ _ _).trans (mAfter_dD _ _ _)
  · rfl) (cN C) d
theorem ra_dD (C : tp_C) (d : md_T) : dD (raD C d) = dD d := raN_dD
theorem rt_dD (C : tp_C) (d : md_T) : dD (rateD C d) = dD d := rfl
theorem c1_dD (d : md_T) (n : Nat) : dD (c1I d n) = dD d := rfl
theorem c2_dD (d : md_T) (n : Nat) : dD (c2I d n) = dD d := rfl
theorem kp1_dD (C : tp_C) (d : md_T) : dD (kpD C 1 d) = dD d := rfl
theorem kp2_dD (C : tp_C) (d : md_T) : dD (kpD C 2 d) = dD d := rfl
theorem kp3_dD (C : tp_C) (d : md_T) : dD (kpD C 3 d) = dD d := rfl
theorem ru_dD (C : tp_C) (t : UInt64) (d : md_T) : dD (ruD C t d) = dD d := by
  unfold ruD; split
  · exact sg_dD C t d
  · split
    · unfold ru1; rw [sg_dD, c1_dD, rt_dD, ra_dD, sg_dD]
    · unfold ru2 r2c r2b r2a; rw [sg_dD, c2_dD, rt_dD, ra_dD, sg_dD, kp3_dD, rt_dD, ra_dD, sg_dD, kp2_dD, rt_dD, ra_dD, sg_dD]
theorem ot_dD (C : tp_C) (d : md_T) : dD (otD C d) = dD d := dD_it (fun i d => by unfold otS; split; rfl; split; rfl; split <;> rfl) (cN C) d
theorem df_dD (n : Nat) (d : md_T) : dD (dfN n d) = dD d := dD_it (f := dfS) (fun i d => rfl) n d
theorem st_dD (C : tp_C) (t : UInt64) (d : md_T) : dD (stD C t d) = dD d := by
  unfold stD s1D
  rw [df_dD, ra_dD]
  show dD (otD C _) = _
  rw [ot_dD, ru_dD, kp1_dD, rt_dD]
  exact tk_dD C (cN C) d
-- the check keeps what runs
theorem ciD_D (C : tp_C) (m : Nat) (d : md_T) : dAD (ciD C m d) = dAD d := by unfold ciD; split <;> rfl
theorem ciD_F (C : tp_C) (m : Nat) (d : md_T) : dAF (ciD C m d) = dAF d := by unfold ciD; split <;> rfl
theorem ciD_A (C : tp_C) (m : Nat) (d : md_T) {k : Nat} (h : k ≠ 43) : dAI (ciD C m d) k = dAI d k := by
  unfold ciD; split
  · rfl
  · simp [sAI, dAI, va_up, h]
theorem ciD_dI (C : tp_C) (m : Nat) (d : md_T) : dI (ciD C m d) = dI d := by unfold ciD; split <;> rfl
theorem ciD_dD (C : tp_C) (m : Nat) (d : md_T) : dD (ciD C m d) = dD d := by unfold ciD; split <;> rfl
theorem ciL_keep {C : tp_C} {P : md_T → Prop} {d : md_T} (h : P d) (hs : ∀ m x, P x → P (ciD C m x)) (n : Nat) : P (ciL C d n) := it_ok (n := n) h (fun i a _ ha => hs i a ha) n (Nat.le_refl n)
theorem ck_keep {C : tp_C} {P : md_T → Prop} {d : md_T} (h : P d) (hs : ∀ m x, P x → P (ciD C m x)) (hu : ∀ x v, P x → P (uI x 16 v)) : P (ckD C d) := by
  unfold ckD; split
  · exact hu _ _ h
  · split
    · exact hu _ _ h
    · split
      · exact hu _ _ (ciL_keep h hs _)
      · exact hu _ _ (ciL_keep h hs _)
theorem ck_D (C : tp_C) (d : md_T) : dAD (ckD C d) = dAD d := ck_keep (P := fun x => dAD x = dAD d) rfl (fun m x h => (ciD_D C m x).trans h) (fun x v h => h)
theorem ck_F (C : tp_C) (d : md_T) : dAF (ckD C d) = dAF d := ck_keep (P := fun x => dAF x = dAF d) rfl (fun m x h => (ciD_F C m x).trans h) (fun x v h => h)
theorem ck_A (C : tp_C) (d : md_T) {k : Nat} (hk : k ≠ 43) : dAI (ckD C d) k = dAI d k := ck_keep (P := fun x => dAI x k = dAI d k) rfl (fun m x h => (ciD_A C m x hk).trans h) (fun x v h => h)
theorem ck_aOK {C : tp_C} {d : md_T} (h : ckN C d = 0) : aOK C := by
  intro m hm
  unfold ckN at h
  cases h1 : fi_ (ckP1 C) (cN C) with
  | some k => rw [h1] at h; have h : 1 + k = 0 := h; omega
  | none =>
    rw [h1] at h
    cases h2 : fi_ (ckP2 C) (cN C) with
    | some k => rw [h2] at h; have h : 1 + k = 0 := h; omega
    | none =>
      have a1 := fi_inv0 h1 m hm
      have a2 := fi_inv0 h2 m hm
      unfold ckP1 at a1
      unfold ckP2 at a2
      refine ⟨by simpa using a1, fun hk => ?_⟩
      rw [hk] at a2
      simp at a2
      omega
def moW (C : tp_C) (d : md_T) : md_T := uI (ckD C d) 16 (dI d 16)
theorem iOK_mv {C : tp_C} {f : Nat → Int32} {d d' : md_T} (h : iOK C f d) (e1 : dAD d' = dAD d) (e2 : dAF d' = dAF d) (e3 : dAI d' 10 = dAI d 10) : iOK C f d' := by
  unfold iOK rOK gOK nOK fOK zOK
  rw [e1, e2, e3]
  exact h
theorem iOK_moW {C : tp_C} {f : Nat → Int32} {d : md_T} (h : iOK C f d) : iOK C f (moW C d) := iOK_mv h (ck_D C d) (ck_F C d) (ck_A C d (by decide))
theorem mOK_wM {C : tp_C} {v : Nat} (h : mOK C) (hv : v ≤ 2) : mOK (wM C v) := ⟨h.1, h.2.1, h.2.2.1, h.2.2.2.1, h.2.2.2.2.1, hv, h.2.2.2.2.2.2⟩
def c0I (d : md_T) (n : Nat) : md_T := sAI d 39 (pm (dAI d 39) n (fun _ => nI 0))
theorem c0I_0 (d : md_T) : c0I d 0 = d := by unfold c0I; rw [pm_0, sAI_self]
theorem c0I_s (d : md_T) (n : Nat) : uAI (c0I d n) 39 n (nI 0) = c0I d (n + 1) := by unfold c0I; rw [uAI_sAI, pm_sI rfl]
theorem c0_cnt {d : md_T} {n s : Nat} (h : s < n) : cntN (c0I d n) s = 0 := by
  unfold cntN c0I
  rw [dAI_sAI]; unfold pm; rw [if_pos h]; rfl
theorem c0_sm {d : md_T} (h : smOK d) (n : Nat) : smOK (c0I d n) := by
  intro s
  unfold c0I
  rw [dAI_sAI]
  unfold pm
  split
  · exact ⟨0, by omega, rfl⟩
  · exact h s
theorem sm_mv {d d' : md_T} (h : smOK d) (e : dAI d' 39 = dAI d 39) : smOK d' := by unfold smOK; rw [e]; exact h
/-- what a step and a beginning keep of the ints -/
theorem A_it {f : Nat → md_T → md_T} {k : Nat} (h : ∀ i d, dAI (f i d) k = dAI d k) (n : Nat) (d : md_T) : dAI (it_ f n d) k = dAI d k := it_ok (P := fun x => dAI x k = dAI d k) (n := n) rfl (fun i a _ ha => (h i a).trans ha) n (Nat.le_refl n)
theorem be_A (C : tp_C) (d : md_T) {k : Nat} (h1 : k ≠ 10) (h2 : k ≠ 23) (h3 : k ≠ 24) : dAI (beD C d) k = dAI d k := by
  have e1 : dAI (beD C d) k = dAI (be1 C d) k := A_it (f := beS C) (fun i d => rfl) (cN C) _
  have e2 : dAI (be1 C d) k = dAI (bgN C (cN C) (be0 C d)) k := raN_A h3
  have e3 : dAI (bgN C (cN C) (be0 C d)) k = dAI (be0 C d) k := A_it (fun i d => bgS_A C i d h2 h3) (cN C) _
  rw [e1, e2, e3]
  show dAI (sAI d 10 _) k = _
  simp [sAI, dAI, va_up, h1]
def moS (C : tp_C) (d : md_T) : md_T := tsD (wM C 1) (c0I (beD (wM C 1) (moW C d)) (cZ C))
def moI (C : tp_C) (d : md_T) (m : Int32) : Int32 := if inB m (nI 0) (nI 1) then (if m = nI 1 ∧ ¬ ckN C d = 0 then -103 else nI (cM C)) else -102
def moC (C : tp_C) (d : md_T) (m : Int32) : tp_C := if inB m (nI 0) (nI 1) = true ∧ ¬ (m = nI 1 ∧ ¬ ckN C d = 0) then wM C (ixN m) else C
def moD (C : tp_C) (d : md_T) (m : Int32) : md_T := if m = nI 1 then (if ckN C d = 0 then moS C d else moW C d) else d
/-- a run -/
def flN (C : tp_C) (d : md_T) : Option Nat := fi_ (fun m => decide (nI (cA C m) = dI d 12 + nI 1)) (cN C)
def rn1 (C : tp_C) (d : md_T) : md_T := stD C (hvT (cH C)) (uI d 44 (dI d 12 + nI 1))
def rnS (C : tp_C) (d : md_T) : md_T := tsD C (uI (rn1 C d) 15 (dI (rn1 C d) 15 + nI 1))
def rnR (C : tp_C) (n : Nat) : Nat → md_T → Int32 × md_T
  | 0, d => (nI n, d)
  | r + 1, d => match flN C d with
    | some m => (-1000 - nI m, d)
    | none => rnR C n r (rnS C d)
def rnB (C : tp_C) (d : md_T) (n : Nat) : Option Nat := fi_ (fun s => !decide (cntN d s + n ≤ 120)) (cZ C)
def rnO (C : tp_C) (d : md_T) (n : Int32) : Prop := inB n (nI 1) (nI 100) = true ∧ ¬ cM C = 0 ∧ dI d 12 + n ≤ nI 300 ∧ rnB C d (ixN n) = none
def rn0 (C : tp_C) (d : md_T) : md_T := uD d 45 (hvT (cH C))
noncomputable def rnI (C : tp_C) (d : md_T) (n : Int32) : Int32 := if inB n (nI 1) (nI 100) then (if cM C = 0 then -103 else if dI d 12 + n ≤ nI 300 ∧ rnB C d (ixN n) = none then (rnR (wM C 2) (ixN n) (ixN n) (rn0 C d)).1 else -104) else -102
noncomputable def rnC (C : tp_C) (d : md_T) (n : Int32) : tp_C := if inB n (nI 1) (nI 100) = true ∧ ¬ cM C = 0 ∧ dI d 12 + n ≤ nI 300 ∧ rnB C d (ixN n) = none then wM C 2 else C
noncomputable def rnD (C : tp_C) (d : md_T) (n : Int32) : md_T := if inB n (nI 1) (nI 100) = true ∧ ¬ cM C = 0 ∧ dI d 12 + n ≤ nI 300 ∧ rnB C d (ixN n) = none then (rnR (wM C 2) (ixN n) (ixN n) (rn0 C d)).2 else d
/-- trials -/
def trN (C : tp_C) (t : UInt64) (n : Nat) (d : md_T) : md_T := it_ (fun _ => stD C t) n (uD (beD C d) 45 t)
theorem ckN_le (C : tp_C) (d : md_T) : ckN C d ≤ cN C := by
  unfold ckN; split
  · rename_i m h; have := (fi_inv h).1; omega
  · split
    · rename_i m h; have := (fi_inv h).1; omega
    · split
      · rename_i m h; have := (fi_inv h).1; omega
      · omega
