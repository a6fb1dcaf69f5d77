/-! a step of the reference -/
def fOK (d : md_T) : Prop := (∀ k, bD 1075 (dAD d 49 k)) ∧ (∀ k, bF 1075 (dAF d 53 k))
def nOK (d : md_T) : Prop := (∀ k, bD 1075 (dAD d 54 k)) ∧ (∀ k, bF 1075 (dAF d 55 k))
def gOK (d : md_T) : Prop := (∀ k, bD 1087 (dAD d 46 k)) ∧ (∀ k, bD 1087 (dAD d 47 k)) ∧ (∀ k, bD 1087 (dAD d 48 k)) ∧ (∀ k, bF 1087 (dAF d 50 k)) ∧ (∀ k, bF 1087 (dAF d 51 k)) ∧ (∀ k, bF 1087 (dAF d 52 k))
def hOK (d : md_T) : Prop := (∀ k, bD 1087 (dAD d 56 k)) ∧ (∀ k, bF 1087 (dAF d 57 k))
def zOK (C : tp_C) (d : md_T) : Prop := ∀ k, ¬ (k < cN C ∧ cK C k = 2) → dAD d 56 k = FP.dconst0 ∧ dAF d 57 k = FP.fconst0
/-- what those that remember otherwise take -/
def nxD (C : tp_C) (d : md_T) (m : Nat) : UInt64 := if fx_gt (inD C (dAD d 19) m 1) FP.dconst0 then inD C (dAD d 19) m 0 else dAD d 17 m
def nxF (C : tp_C) (d : md_T) (m : Nat) : UInt32 := if fy_gt (inF C (dAF d 20) m 1) FP.fconst0 then inF C (dAF d 20) m 0 else dAF d 18 m
def tk0 (m : Nat) (d : md_T) : md_T := uAF (uAD d 49 m (dAD d 17 m)) 53 m (dAF d 18 m)
def tkS (C : tp_C) : Nat → md_T → md_T := fun m d => if cK C m = 3 then uAF (uAD (tk0 m d) 54 m (nxD C d m)) 55 m (nxF C d m) else if cK C m = 11 then uAF (uAD (tk0 m d) 54 m (inD C (dAD d 19) m 0)) 55 m (inF C (dAF d 20) m 0) else tk0 m d
def tkN (C : tp_C) (n : Nat) (d : md_T) : md_T := it_ (tkS C) n d
def tkD (C : tp_C) (d : md_T) : md_T := tkN C (cN C) d
theorem okM_3 {C : tp_C} {m : Nat} (h : okM C m) (hk : cK C m = 3) : (cF C m 0).isSome = true ∧ (cF C m 1).isSome = true := by
  have h1 := h.1
  unfold hiB at h1
  rw [hk] at h1
  have h1 : ((cF C m 0).isSome && (cF C m 1).isSome) = true := h1
  simpa only [Bool.and_eq_true] using h1
theorem okM_11 {C : tp_C} {m : Nat} (h : okM C m) (hk : cK C m = 11) : (cF C m 0).isSome = true := by
  have h1 := h.1
  unfold hiB at h1
  rw [hk] at h1
  exact h1
/-- rates put together -/
def c1G (d : md_T) : Nat → UInt64 := fun j => FP.dadd (dAD d 46 j) (dAD d 56 j)
def c1F (d : md_T) : Nat → UInt32 := fun j => FP.fadd (dAF d 50 j) (dAF d 57 j)
def c1I (d : md_T) (n : Nat) : md_T := sAF (sAD d 56 (pm (dAD d 56) n (c1G d))) 57 (pm (dAF d 57) n (c1F d))
def c2G (d : md_T) : Nat → UInt64 := fun j => FP.ddiv (FP.dadd (FP.dadd (FP.dadd (dAD d 46 j) (FP.dmul 4611686018427387904 (dAD d 47 j))) (FP.dmul 4611686018427387904 (dAD d 48 j))) (dAD d 56 j)) 4618441417868443648
def c2F (d : md_T) : Nat → UInt32 := fun j => FP.fdiv (FP.fadd (FP.fadd (FP.fadd (dAF d 50 j) (FP.fmul FP.fconst2 (dAF d 51 j))) (FP.fmul FP.fconst2 (dAF d 52 j))) (dAF d 57 j)) 1086324736
def c2I (d : md_T) (n : Nat) : md_T := sAF (sAD d 56 (pm (dAD d 56) n (c2G d))) 57 (pm (dAF d 57) n (c2F d))
theorem c1I_0 (d : md_T) : c1I d 0 = d := by unfold c1I; rw [pm_0, pm_0, sAD_self, sAF_self]
theorem c2I_0 (d : md_T) : c2I d 0 = d := by unfold c2I; rw [pm_0, pm_0, sAD_self, sAF_self]
theorem c1I_s (d : md_T) (n : Nat) : uAF (uAD (c1I d n) 56 n (c1G d n)) 57 n (c1F d n) = c1I d (n + 1) := by
  unfold c1I; rw [uAD_sAF, uAD_sAD, uAF_sAF, pm_s rfl, pm_s rfl]
theorem c2I_s (d : md_T) (n : Nat) : uAF (uAD (c2I d n) 56 n (c2G d n)) 57 n (c2F d n) = c2I d (n + 1) := by
  unfold c2I; rw [uAD_sAF, uAD_sAD, uAF_sAF, pm_s rfl, pm_s rfl]
/-- others: rows moved on, noise -/
def shf {α : Type} (f : Nat → α) (m k : Nat) : Nat → α := fun j => if 16 * m ≤ j ∧ j < 16 * m + k then f (j + 1) else f j
theorem shf_0 {α : Type} (f : Nat → α) (m : Nat) : shf f m 0 = f := by funext j; unfold shf; rw [if_neg (by omega)]
theorem shf_s {α : Type} (f : Nat → α) (m k : Nat) : vf_upd (shf f m k) (16 * m + k) (f (16 * m + k + 1)) = shf f m (k + 1) := by
  funext j; unfold vf_upd shf
  by_cases e : j = 16 * m + k
  · rw [if_pos e, if_pos (by omega), e]
  · rw [if_neg e]
    by_cases h : 16 * m ≤ j ∧ j < 16 * m + k
    · rw [if_pos h, if_pos (by omega)]
    · rw [if_neg h, if_neg (by omega)]
theorem shf_at {α : Type} (f : Nat → α) (m k : Nat) : shf f m k (16 * m + k + 1) = f (16 * m + k + 1) := by unfold shf; rw [if_neg (by omega)]
theorem shf_all {α : Type} {P : α → Prop} {f : Nat → α} {m k : Nat} (h : ∀ j, P (f j)) : ∀ j, P (shf f m k j) := by
  intro j; unfold shf; split
  · exact h _
  · exact h _
def dlN (C : tp_C) (m : Nat) : Nat := ixN (FP.d2i (cS C m))
def dlOK (C : tp_C) : Prop := ∀ m, cK C m = 11 → ∃ n, 1 ≤ n ∧ n ≤ 16 ∧ FP.d2i (cS C m) = nI n
theorem dlOK.n {C : tp_C} (h : dlOK C) {m : Nat} (hk : cK C m = 11) : 1 ≤ dlN C m ∧ dlN C m ≤ 16 ∧ FP.d2i (cS C m) = nI (dlN C m) := by
  obtain ⟨n, h1, h2, h3⟩ := h m hk
  unfold dlN
  rw [h3, ixN_nI (by omega)]
  exact ⟨h1, h2, rfl⟩
def rwI (d : md_T) (m k : Nat) : md_T := sAF (sAD d 21 (shf (dAD d 21) m k)) 22 (shf (dAF d 22) m k)
theorem rwI_0 (d : md_T) (m : Nat) : rwI d m 0 = d := by unfold rwI; rw [shf_0, shf_0, sAD_self, sAF_self]
theorem rwI_s (d : md_T) (m k : Nat) : uAF (uAD (rwI d m k) 21 (16 * m + k) (dAD d 21 (16 * m + k + 1))) 22 (16 * m + k) (dAF d 22 (16 * m + k + 1)) = rwI d m (k + 1) := by
  unfold rwI; rw [uAD_sAF, uAD_sAD, uAF_sAF, shf_s, shf_s]
def sdN (x : Int32) : Int32 := 1664525 * x + 1013904223
def otS (C : tp_C) : Nat → md_T → md_T := fun m d => if cK C m = 3 then uAF (uAD d 17 m (dAD d 54 m)) 18 m (dAF d 55 m) else if cK C m = 11 then uAF (uAD (rwI d m (dlN C m - 1)) 21 (16 * m + (dlN C m - 1)) (dAD d 54 m)) 22 (16 * m + (dlN C m - 1)) (dAF d 55 m) else if cK C m = 13 then uAF (uAD (uAI d 23 m (sdN (dAI d 23 m))) 17 m (nsV (sdN (dAI d 23 m)))) 18 m (FP.d2f (nsV (sdN (dAI d 23 m)))) else d
def otN (C : tp_C) (n : Nat) (d : md_T) : md_T := it_ (otS C) n d
def otD (C : tp_C) (d : md_T) : md_T := otN C (cN C) d
/-- how far apart the twins are -/
def dfV (d : md_T) (m : Nat) : UInt64 := FP.dsub (dAD d 19 m) (FP.f2d (dAF d 20 m))
def dfA (d : md_T) (m : Nat) : UInt64 := if fx_lt (dfV d m) FP.dconst0 then FP.dneg (dfV d m) else dfV d m
def dfS (m : Nat) (d : md_T) : md_T := uAD d 25 m (if fx_gt (dfA d m) (dAD d 25 m) then dfA d m else dAD d 25 m)
def dfN (n : Nat) (d : md_T) : md_T := it_ dfS n d
/-- the stages by the rule -/
def ru0 (C : tp_C) (t : UInt64) (d : md_T) : md_T := sgA C t d
def ru1 (C : tp_C) (t : UInt64) (d : md_T) : md_T := sgA C (FP.ddiv t 4611686018427387904) (c1I (rateD C (raD C (sgA C t d))) (cN C))
def r2a (C : tp_C) (t : UInt64) (d : md_T) : md_T := kpD C 2 (rateD C (raD C (sgA C (FP.ddiv t 4611686018427387904) d)))
def r2b (C : tp_C) (t : UInt64) (d : md_T) : md_T := kpD C 3 (rateD C (raD C (sgA C (FP.ddiv t 4611686018427387904) d)))
def r2c (C : tp_C) (t : UInt64) (d : md_T) : md_T := rateD C (raD C (sgA C t d))
def ru2 (C : tp_C) (t : UInt64) (d : md_T) : md_T := sgA C t (c2I (r2c C t (r2b C t (r2a C t d))) (cN C))
def ruD (C : tp_C) (t : UInt64) (d : md_T) : md_T := if cR C = 0 then ru0 C t d else if cR C = 1 then ru1 C t d else ru2 C t d
def s1D (C : tp_C) (d : md_T) : md_T := kpD C 1 (rateD C (tkD C d))
def tmU (d : md_T) : md_T := uI d 12 (dI d 12 + nI 1)
def stD (C : tp_C) (t : UInt64) (d : md_T) : md_T := dfN (cN C) (raD C (tmU (otD C (ruD C t (s1D C d)))))
