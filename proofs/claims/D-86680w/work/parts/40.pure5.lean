/-! arrays changed place by place; reading, rates, stages -/
def pm {α : Type} (f : Nat → α) (n : Nat) (g : Nat → α) : Nat → α := fun j => if j < n then g j else f j
theorem pm_0 {α : Type} (f g : Nat → α) : pm f 0 g = f := by funext j; simp [pm]
theorem pm_s {α : Type} {f g : Nat → α} {n : Nat} {v : α} (h : v = g n) : vf_upd (pm f n g) n v = pm f (n + 1) g := by
  subst h
  funext j
  unfold vf_upd pm
  by_cases e : j = n
  · rw [if_pos e, if_pos (by omega), e]
  · rw [if_neg e]
    by_cases h2 : j < n
    · rw [if_pos h2, if_pos (by omega)]
    · rw [if_neg h2, if_neg (by omega)]
theorem pm_k {α : Type} {f g : Nat → α} {n : Nat} (h : g n = f n) : pm f n g = pm f (n + 1) g := by
  funext j
  unfold pm
  by_cases h2 : j < n
  · rw [if_pos h2, if_pos (by omega)]
  · rw [if_neg h2]
    by_cases e : j = n
    · rw [if_pos (by omega), e, h]
    · rw [if_neg (by omega)]
theorem pm_at {α : Type} (f g : Nat → α) (n : Nat) : pm f n g n = f n := by simp [pm]
theorem pm_all {α : Type} {P : α → Prop} {f g : Nat → α} {n : Nat} (h1 : ∀ j, P (f j)) (h2 : ∀ j, j < n → P (g j)) : ∀ j, P (pm f n g j) := by
  intro j; unfold pm; split
  · rename_i h; exact h2 j h
  · exact h1 j
theorem uAD_sAF (d : md_T) (k : Nat) (f : Nat → UInt32) (k' j : Nat) (v : UInt64) : uAD (sAF d k f) k' j v = sAF (uAD d k' j v) k f := rfl
theorem uAF_uAD (d : md_T) (k j : Nat) (v : UInt64) (k' j' : Nat) (w : UInt32) : uAF (uAD d k j v) k' j' w = uAD (uAF d k' j' w) k j v := rfl
theorem it_ok {α : Type} {P : α → Prop} {f : Nat → α → α} {n : Nat} {a : α} (h0 : P a) (h : ∀ i a, i < n → P a → P (f i a)) : ∀ k, k ≤ n → P (it_ f k a)
  | 0, _ => h0
  | k + 1, hk => h k _ (by omega) (it_ok h0 h k (by omega))
theorem mLight_D (d : md_T) (m : Nat) : dAD (mLight d m) = dAD d := by unfold mLight; split <;> rfl
theorem mLight_F (d : md_T) (m : Nat) : dAF (mLight d m) = dAF d := by unfold mLight; split <;> rfl
theorem mLight_dD (d : md_T) (m : Nat) : dD (mLight d m) = dD d := by unfold mLight; split <;> rfl
theorem mLight_dI (d : md_T) (m : Nat) : dI (mLight d m) = dI d := by unfold mLight; split <;> rfl
theorem mLight_A (d : md_T) (m : Nat) {k : Nat} (h : k ≠ 24) : dAI (mLight d m) k = dAI d k := by
  unfold mLight; split
  · simp [uAI, dAI, va_up, h]
  · rfl
theorem mAfter_D (d : md_T) (m : Nat) (v : UInt64) : dAD (mAfter d m v) = dAD d := by unfold mAfter; split; exact mLight_D d m; rfl
theorem mAfter_F (d : md_T) (m : Nat) (v : UInt64) : dAF (mAfter d m v) = dAF d := by unfold mAfter; split; exact mLight_F d m; rfl
theorem mAfter_dD (d : md_T) (m : Nat) (v : UInt64) : dD (mAfter d m v) = dD d := by unfold mAfter; split; exact mLight_dD d m; rfl
theorem mAfter_dI (d : md_T) (m : Nat) (v : UInt64) : dI (mAfter d m v) = dI d := by unfold mAfter; split; exact mLight_dI d m; rfl
theorem mAfter_A (d : md_T) (m : Nat) (v : UInt64) {k : Nat} (h : k ≠ 24) : dAI (mAfter d m v) k = dAI d k := by unfold mAfter; split; exact mLight_A d m h; rfl
theorem mAfterF_D (d : md_T) (m : Nat) (v : UInt32) : dAD (mAfterF d m v) = dAD d := by unfold mAfterF; split; exact mLight_D d m; rfl
theorem mAfterF_F (d : md_T) (m : Nat) (v : UInt32) : dAF (mAfterF d m v) = dAF d := by unfold mAfterF; split; exact mLight_F d m; rfl
theorem mAfterF_dD (d : md_T) (m : Nat) (v : UInt32) : dD (mAfterF d m v) = dD d := by unfold mAfterF; split; exact mLight_dD d m; rfl
theorem mAfterF_dI (d : md_T) (m : Nat) (v : UInt32) : dI (mAfterF d m v) = dI d := by unfold mAfterF; split; exact mLight_dI d m; rfl
theorem mAfterF_A (d : md_T) (m : Nat) (v : UInt32) {k : Nat} (h : k ≠ 24) : dAI (mAfterF d m v) k = dAI d k := by unfold mAfterF; split; exact mLight_A d m h; rfl
theorem mkL_D (C : tp_C) (d : md_T) (m : Nat) : dAD (mkL C d m) = dAD d := by unfold mkL; split <;> first | rfl | (split; exact mLight_D d m; rfl)
theorem mkL_F (C : tp_C) (d : md_T) (m : Nat) : dAF (mkL C d m) = dAF d := by unfold mkL; split <;> first | rfl | (split; exact mLight_F d m; rfl)
theorem mkL_dD (C : tp_C) (d : md_T) (m : Nat) : dD (mkL C d m) = dD d := by unfold mkL; split <;> first | rfl | (split; exact mLight_dD d m; rfl)
theorem mkL_dI (C : tp_C) (d : md_T) (m : Nat) : dI (mkL C d m) = dI d := by unfold mkL; split <;> first | rfl | (split; exact mLight_dI d m; rfl)
theorem mkL_A (C : tp_C) (d : md_T) (m : Nat) {k : Nat} (h : k ≠ 24) : dAI (mkL C d m) k = dAI d k := by unfold mkL; split <;> first | rfl | (split; exact mLight_A d m h; rfl)
theorem mkLF_D (C : tp_C) (d : md_T) (m : Nat) : dAD (mkLF C d m) = dAD d := by unfold mkLF; split <;> first | rfl | (split; exact mLight_D d m; rfl)
theorem mkLF_F (C : tp_C) (d : md_T) (m : Nat) : dAF (mkLF C d m) = dAF d := by unfold mkLF; split <;> first | rfl | (split; exact mLight_F d m; rfl)
theorem mkLF_dD (C : tp_C) (d : md_T) (m : Nat) : dD (mkLF C d m) = dD d := by unfold mkLF; split <;> first | rfl | (split; exact mLight_dD d m; rfl)
theorem mkLF_dI (C : tp_C) (d : md_T) (m : Nat) : dI (mkLF C d m) = dI d := by unfold mkLF; split <;> first | rfl | (split; exact mLight_dI d m; rfl)
theorem mkLF_A (C : tp_C) (d : md_T) (m : Nat) {k : Nat} (h : k ≠ 24) : dAI (mkLF C d m) k = dAI d k := by unfold mkLF; split <;> first | rfl | (split; exact mLight_A d m h; rfl)
/-- what is made is a number -/
theorem mkD_n {C : tp_C} {d : md_T} {m : Nat} (hC : mOK C) (hV : vOK C) (hR : rOK d) (hI : okM C m) : vf_n64 (mkD C d m) := by
  have ha : ∀ i, bD 1075 (a0D C (dAD d 19) m i) := fun i => a0_b hR.rd
  unfold mkD
  split
  · exact bD_n (su_b hR.rd)
  · exact bD_n (bD_neg (ha 0))
  · exact nD_mul (ha 0) (ha 1)
  · split
    · split
      · exact bD_n (K := 1) bD_0
      · split
        · exact bD_n bD_15
        · exact bD_n bD_m15
    · rename_i h; exact nD_div (bD_n (ha 0)) (nzD_ne (ha 1) (by simpa using h))
  · split
    · exact bD_n (K := 1) bD_0
    · rename_i h; exact rt_n ⟨bD_up (ha 0), by simpa using h⟩
  · rename_i h; exact tb_n hV (ha 0) (hI.2 h) (hC.p m)
  · split
    · unfold vf_n64; decide
    · unfold vf_n64; decide
  · split
    · exact bD_n (ha 0)
    · exact bD_n (ha 1)
  · exact nD_mul (ha 0) (hV.s m)
  · exact bD_n (hR.rw _)
  · split
    · exact bD_n (hV.s m)
    · split
      · exact bD_n (bD_neg (hV.s m))
      · exact bD_n (ha 0)
  · exact bD_n (hR.st _)
theorem mkF_n {C : tp_C} {d : md_T} {m : Nat} (hC : mOK C) (hV : vOK C) (hR : rOK d) (hI : okM C m) : vf_n32 (mkF C d m) := by
  have ha : ∀ i, bF 1075 (a0F C (dAF d 20) m i) := fun i => a0_bF hR.rf
  have hs : bF 1096 (sF C m) := bF_d2f (hV.s m)
  unfold mkF
  split
  · exact bF_n (su_bF hR.rf)
  · exact bF_n (bF_neg (ha 0))
  · exact nF_mul (ha 0) (ha 1)
  · split
    · split
      · exact bF_n (K := 1) bF_0
      · split
        · exact bF_n bF_15
        · exact bF_n bF_m15
    · rename_i h; exact nF_div (bF_n (ha 0)) (nzF_ne (ha 1) (by simpa using h))
  · split
    · exact bF_n (K := 1) bF_0
    · rename_i h; exact nF_d2f (rt_n ⟨bD_up (bD_f2d (ha 0)), fx_lt_f2d (ha 0) (by simpa using h)⟩)
  · rename_i h; exact tf_n hV (ha 0) (hI.2 h) (hC.p m)
  · split
    · unfold vf_n32; decide
    · unfold vf_n32; decide
  · split
    · exact bF_n (ha 0)
    · exact bF_n (ha 1)
  · exact nF_mul (ha 0) hs
  · exact bF_n (hR.rwf _)
  · split
    · exact bF_n hs
    · split
      · exact bF_n (bF_neg hs)
      · exact bF_n (ha 0)
  · exact bF_n (hR.sf _)
/-- one module read -/
def mR1 (C : tp_C) (m : Nat) (d : md_T) : md_T := uAD (mAfter (mkL C d m) m (mkD C d m)) 19 m (clD (mkD C d m))
def mR2 (C : tp_C) (m : Nat) (d : md_T) : md_T := uAF (mAfterF (mkLF C d m) m (mkF C d m)) 20 m (clF (mkF C d m))
def mRd (C : tp_C) (m : Nat) (d : md_T) : md_T := mR2 C m (mR1 C m d)
theorem upd_all {α : Type} {P : α → Prop} {f : Nat → α} {k : Nat} {v : α} (h : ∀ j, P (f j)) (hv : P v) : ∀ j, P (vf_upd f k v j) := by
  intro j; unfold vf_upd; split
  · exact hv
  · exact h j
theorem mR1_D (C : tp_C) (m : Nat) (d : md_T) {k : Nat} (h : k ≠ 19) : dAD (mR1 C m d) k = dAD d k := by
  unfold mR1
  simp only [uAD, dAD, va_up, h, if_false]
  exact congrFun ((mAfter_D _ _ _).trans (mkL_D _ _ _)) k
theorem mR1_19 (C : tp_C) (m : Nat) (d : md_T) : dAD (mR1 C m d) 19 = vf_upd (dAD d 19) m (clD (mkD C d m)) := by
  unfold mR1
  rw [dAD_self, mAfter_D, mkL_D]
theorem mR1_F (C : tp_C) (m : Nat) (d : md_T) : dAF (mR1 C m d) = dAF d := (mAfter_F _ _ _).trans (mkL_F _ _ _)
theorem mR1_dD (C : tp_C) (m : Nat) (d : md_T) : dD (mR1 C m d) = dD d := (mAfter_dD _ _ _).trans (mkL_dD _ _ _)
theorem mR1_dI (C : tp_C) (m : Nat) (d : md_T) : dI (mR1 C m d) = dI d := (mAfter_dI _ _ _).trans (mkL_dI _ _ _)
theorem mR1_A (C : tp_C) (m : Nat) (d : md_T) {k : Nat} (h : k ≠ 24) : dAI (mR1 C m d) k = dAI d k := (mAfter_A _ _ _ h).trans (mkL_A _ _ _ h)
theorem mR2_F (C : tp_C) (m : Nat) (d : md_T) {k : Nat} (h : k ≠ 20) : dAF (mR2 C m d) k = dAF d k := by
  unfold mR2
  simp only [uAF, dAF, va_up, h, if_false]
  exact congrFun ((mAfterF_F _ _ _).trans (mkLF_F _ _ _)) k
theorem mR2_20 (C : tp_C) (m : Nat) (d : md_T) : dAF (mR2 C m d) 20 = vf_upd (dAF d 20) m (clF (mkF C d m)) := by
  unfold mR2
  rw [dAF_self, mAfterF_F, mkLF_F]
theorem mR2_D (C : tp_C) (m : Nat) (d : md_T) : dAD (mR2 C m d) = dAD d := (mAfterF_D _ _ _).trans (mkLF_D _ _ _)
theorem mR2_dD (C : tp_C) (m : Nat) (d : md_T) : dD (mR2 C m d) = dD d := (mAfterF_dD _ _ _).trans (mkLF_dD _ _ _)
theorem mR2_dI (C : tp_C) (m : Nat) (d : md_T) : dI (mR2 C m d) = dI d := (mAfterF_dI _ _ _).trans (mkLF_dI _ _ _)
theorem mR2_A (C : tp_C) (m : Nat) (d : md_T) {k : Nat} (h : k ≠ 24) : dAI (mR2 C m d) k = dAI d k := (mAfterF_A _ _ _ h).trans (mkLF_A _ _ _ h)
theorem mRd_D (C : tp_C) (m : Nat) (d : md_T) {k : Nat} (h : k ≠ 19) : dAD (mRd C m d) k = dAD d k := (congrFun (mR2_D _ _ _) k).trans (mR1_D _ _ _ h)
theorem mRd_F (C : tp_C) (m : Nat) (d : md_T) {k : Nat} (h : k ≠ 20) : dAF (mRd C m d) k = dAF d k := (mR2_F _ _ _ h).trans (congrFun (mR1_F _ _ _) k)
theorem mRd_dD (C : tp_C) (m : Nat) (d : md_T) : dD (mRd C m d) = dD d := (mR2_dD _ _ _).trans (mR1_dD _ _ _)
theorem mRd_dI (C : tp_C) (m : Nat) (d : md_T) : dI (mRd C m d) = dI d := (mR2_dI _ _ _).trans (mR1_dI _ _ _)
theorem mRd_A (C : tp_C) (m : Nat) (d : md_T) {k : Nat} (h : k ≠ 24) : dAI (mRd C m d) k = dAI d k := (mR2_A _ _ _ h).trans (mR1_A _ _ _ h)
theorem mR1_ok {C : tp_C} {d : md_T} {m : Nat} (hC : mOK C) (hV : vOK C) (hR : rOK d) (hI : okM C m) : rOK (mR1 C m d) := by
  refine ⟨?_, ?_, ?_, ?_, ?_, ?_⟩
  · rw [mR1_19]; exact upd_all hR.rd (cl_b (mkD_n hC hV hR hI))
  · rw [mR1_F]; exact hR.rf
  · rw [mR1_D _ _ _ (by decide)]; exact hR.st
  · rw [mR1_F]; exact hR.sf
  · rw [mR1_D _ _ _ (by decide)]; exact hR.rw
  · rw [mR1_F]; exact hR.rwf
theorem mR2_ok {C : tp_C} {d : md_T} {m : Nat} (hC : mOK C) (hV : vOK C) (hR : rOK d) (hI : okM C m) : rOK (mR2 C m d) := by
  refine ⟨?_, ?_, ?_, ?_, ?_, ?_⟩
  · rw [mR2_D]; exact hR.rd
  · rw [mR2_20]; exact upd_all hR.rf (cl_bF (mkF_n hC hV hR hI))
  · rw [mR2_D]; exact hR.st
  · rw [mR2_F _ _ _ (by decide)]; exact hR.sf
  · rw [mR2_D]; exact hR.rw
  · rw [mR2_F _ _ _ (by decide)]; exact hR.rwf
theorem mRd_ok {C : tp_C} {d : md_T} {m : Nat} (hC : mOK C) (hV : vOK C) (hR : rOK d) (hI : okM C m) : rOK (mRd C m d) := mR2_ok hC hV (mR1_ok hC hV hR hI) hI
/-- all modules read, level by level -/
def aOK (C : tp_C) : Prop := ∀ m, m < cN C → okM C m
def rmx (f : Nat → Int32) (n : Nat) : Int32 := it_ (fun m a => if f m ≤ a then a else f m) n (nI 0)
theorem rmx_s (f : Nat → Int32) (n : Nat) : rmx f (n + 1) = if f n ≤ rmx f n then rmx f n else f n := rfl
def lvOK (f : Nat → Int32) : Prop := ∀ m, f m ≤ nI 20
theorem rmx_nat {f : Nat → Int32} (h : lvOK f) : ∀ n, ∃ k, k ≤ 20 ∧ rmx f n = nI k
  | 0 => ⟨0, by omega, rfl⟩
  | n + 1 => by
    obtain ⟨k, h1, h2⟩ := rmx_nat h n
    rw [rmx_s, h2]
    split
    · exact ⟨k, h1, rfl⟩
    · rename_i hgt
      have h3 := h n
      rw [Int32.le_iff_toInt_le, nI_toInt (by omega)] at hgt h3
      obtain ⟨j, hj, e⟩ := nI_of (x := f n) (by rw [Int32.lt_iff_toInt_lt]; show ¬ (f n).toInt < 0; omega)
      rw [e, nI_toInt hj] at h3
      exact ⟨j, by omega, e⟩
def mxN (f : Nat → Int32) (n : Nat) : Nat := ixN (rmx f n)
theorem mxN_le {f : Nat → Int32} (h : lvOK f) (n : Nat) : mxN f n ≤ 20 := by
  obtain ⟨k, h1, h2⟩ := rmx_nat h n
  unfold mxN; rw [h2, ixN_nI (by omega)]; exact h1
theorem mxN_eq {f : Nat → Int32} (h : lvOK f) (n : Nat) : rmx f n = nI (mxN f n) := by
  obtain ⟨k, h1, h2⟩ := rmx_nat h n
  unfold mxN; rw [h2, ixN_nI (by omega)]
def raS (C : tp_C) (l : Nat) : Nat → md_T → md_T := fun m d => if dAI d 10 m = nI l then mRd C m d else d
def raT (C : tp_C) : Nat → md_T → md_T := fun l d => it_ (raS C l) (cN C) d
def raN (C : tp_C) (n : Nat) (d : md_T) : md_T := it_ (raT C) n d
def raD (C : tp_C) (d : md_T) : md_T := raN C (mxN (dAI d 10) (cN C) + 1) d
theorem raS_s (C : tp_C) (l m : Nat) (d : md_T) : it_ (raS C l) (m + 1) d = if dAI (it_ (raS C l) m d) 10 m = nI l then mRd C m (it_ (raS C l) m d) else it_ (raS C l) m d := rfl
theorem raS_ok {C : tp_C} {d : md_T} {l : Nat} (hC : mOK C) (hV : vOK C) (hA : aOK C) (hR : rOK d) : ∀ k, k ≤ cN C → rOK (it_ (raS C l) k d) :=
  it_ok hR (fun i a hi h => by
    unfold raS; split
    · exact mRd_ok hC hV h (hA i hi)
    · exact h)
theorem raN_ok {C : tp_C} {d : md_T} (hC : mOK C) (hV : vOK C) (hA : aOK C) (hR : rOK d) (n : Nat) : rOK (raN C n d) :=
  it_ok (n := n) hR (fun _ _ _ h => raS_ok hC hV hA h _ (Nat.le_refl _)) n (Nat.le_refl n)
theorem raD_ok {C : tp_C} {d : md_T} (hC : mOK C) (hV : vOK C) (hA : aOK C) (hR : rOK d) : rOK (raD C d) := raN_ok hC hV hA hR _
theorem raS_keep {C : tp_C} {l : Nat} {P : md_T → Prop} (h : ∀ m d, P d → P (mRd C m d)) : ∀ m d, P d → P (raS C l m d) := by
  intro m d hd; unfold raS; split
  · exact h m d hd
  · exact hd
theorem raN_keep {C : tp_C} {P : md_T → Prop} (h : ∀ m d, P d → P (mRd C m d)) {n : Nat} {d : md_T} (hd : P d) : P (raN C n d) :=
  it_ok (n := n) hd (fun _ _ _ h2 => it_ok (n := cN C) h2 (fun i a _ h3 => raS_keep h i a h3) (cN C) (Nat.le_refl _)) n (Nat.le_refl n)
theorem raN_D {C : tp_C} {n : Nat} {d : md_T} {k : Nat} (h : k ≠ 19) : dAD (raN C n d) k = dAD d k := raN_keep (P := fun x => dAD x k = dAD d k) (fun m x hx => (mRd_D C m x h).trans hx) rfl
theorem raN_F {C : tp_C} {n : Nat} {d : md_T} {k : Nat} (h : k ≠ 20) : dAF (raN C n d) k = dAF d k := raN_keep (P := fun x => dAF x k = dAF d k) (fun m x hx => (mRd_F C m x h).trans hx) rfl
theorem raN_A {C : tp_C} {n : Nat} {d : md_T} {k : Nat} (h : k ≠ 24) : dAI (raN C n d) k = dAI d k := raN_keep (P := fun x => dAI x k = dAI d k) (fun m x hx => (mRd_A C m x h).trans hx) rfl
theorem raN_dD {C : tp_C} {n : Nat} {d : md_T} : dD (raN C n d) = dD d := raN_keep (P := fun x => dD x = dD d) (fun m x hx => (mRd_dD C m x).trans hx) rfl
theorem raN_dI {C : tp_C} {n : Nat} {d : md_T} : dI (raN C n d) = dI d := raN_keep (P := fun x => dI x = dI d) (fun m x hx => (mRd_dI C m x).trans hx) rfl
/-- rates -/
def rtG (C : tp_C) (d : md_T) : Nat → UInt64 := fun j => if cK C j = 2 then suD C (dAD d 19) j else dAD d 56 j
def rtGF (C : tp_C) (d : md_T) : Nat → UInt32 := fun j => if cK C j = 2 then suF C (dAF d 20) j else dAF d 57 j
def rtI (C : tp_C) (d : md_T) (n : Nat) : md_T := sAF (sAD d 56 (pm (dAD d 56) n (rtG C d))) 57 (pm (dAF d 57) n (rtGF C d))
def rateD (C : tp_C) (d : md_T) : md_T := rtI C d (cN C)
theorem rtI_0 (C : tp_C) (d : md_T) : rtI C d 0 = d := by unfold rtI; rw [pm_0, pm_0, sAD_self, sAF_self]
theorem rtI_s (C : tp_C) (d : md_T) (n : Nat) (h : cK C n = 2) : uAF (uAD (rtI C d n) 56 n (suD C (dAD d 19) n)) 57 n (suF C (dAF d 20) n) = rtI C d (n + 1) := by
  unfold rtI
  rw [uAD_sAF, uAD_sAD, uAF_sAF, pm_s (by simp [rtG, h]), pm_s (by simp [rtGF, h])]
theorem rtI_k (C : tp_C) (d : md_T) (n : Nat) (h : ¬ cK C n = 2) : rtI C d n = rtI C d (n + 1) := by
  unfold rtI
  rw [pm_k (g := rtG C d) (by simp [rtG, h]), pm_k (g := rtGF C d) (by simp [rtGF, h])]
/-- a stage: the gatherers' states on by a length -/
def sgV (d : md_T) (t : UInt64) (m : Nat) : UInt64 := FP.dadd (dAD d 49 m) (FP.dmul t (dAD d 56 m))
def sgW (d : md_T) (t : UInt64) (m : Nat) : UInt32 := FP.fadd (dAF d 53 m) (FP.fmul (FP.d2f t) (dAF d 57 m))
def sg1 (t : UInt64) (m : Nat) (d : md_T) : md_T := uAD (mAfter d m (sgV d t m)) 17 m (clD (sgV d t m))
def sg2 (t : UInt64) (m : Nat) (d : md_T) : md_T := uAF (mAfterF d m (sgW d t m)) 18 m (clF (sgW d t m))
def sgS (C : tp_C) (t : UInt64) : Nat → md_T → md_T := fun m d => if cK C m = 2 then sg2 t m (sg1 t m d) else d
def sgN (C : tp_C) (t : UInt64) (n : Nat) (d : md_T) : md_T := it_ (sgS C t) n d
def sgA (C : tp_C) (t : UInt64) (d : md_T) : md_T := sgN C t (cN C) d
theorem sgN_s (C : tp_C) (t : UInt64) (n : Nat) (d : md_T) : sgN C t (n + 1) d = if cK C n = 2 then sg2 t n (sg1 t n (sgN C t n d)) else sgN C t n d := rfl
theorem sg1_D (t : UInt64) (m : Nat) (d : md_T) {k : Nat} (h : k ≠ 17) : dAD (sg1 t m d) k = dAD d k := by
  unfold sg1
  simp only [uAD, dAD, va_up, h, if_false]
  exact congrFun (mAfter_D _ _ _) k
theorem sg1_F (t : UInt64) (m : Nat) (d : md_T) : dAF (sg1 t m d) = dAF d := mAfter_F _ _ _
theorem sg2_F (t : UInt64) (m : Nat) (d : md_T) {k : Nat} (h : k ≠ 18) : dAF (sg2 t m d) k = dAF d k := by
  unfold sg2
  simp only [uAF, dAF, va_up, h, if_false]
  exact congrFun (mAfterF_F _ _ _) k
theorem sg2_D (t : UInt64) (m : Nat) (d : md_T) : dAD (sg2 t m d) = dAD d := mAfterF_D _ _ _
/-- what a stage takes: a length that isn't zero; states ahead of the step; rates that are numbers -/
def qOK (d : md_T) : Prop := (∀ k, bD 1075 (dAD d 49 k)) ∧ (∀ k, bF 1075 (dAF d 53 k)) ∧ (∀ k, vf_n64 (dAD d 56 k)) ∧ (∀ k, vf_n32 (dAF d 57 k))
def tOK (t : UInt64) : Prop := nzD t ∧ nzF (FP.d2f t) ∧ bD 1075 t
theorem sgV_n {d : md_T} {t : UInt64} {m : Nat} (ht : tOK t) (hq : qOK d) : vf_n64 (sgV d t m) := nD_add' (hq.1 m) (nD_mulz ht.1 (hq.2.2.1 m))
theorem sgW_n {d : md_T} {t : UInt64} {m : Nat} (ht : tOK t) (hq : qOK d) : vf_n32 (sgW d t m) := nF_add' (hq.2.1 m) (nF_mulz ht.2.1 (hq.2.2.2 m))
theorem sg1_q {t : UInt64} {m : Nat} {d : md_T} (h : qOK d) : qOK (sg1 t m d) := by
  unfold qOK
  rw [sg1_D t m d (by decide), sg1_D t m d (by decide), sg1_F]; exact h
theorem sg2_q {t : UInt64} {m : Nat} {d : md_T} (h : qOK d) : qOK (sg2 t m d) := by
  unfold qOK
  rw [sg2_F t m d (by decide), sg2_F t m d (by decide), sg2_D]; exact h
theorem sg1_ok {t : UInt64} {m : Nat} {d : md_T} (ht : tOK t) (hq : qOK d) (h : rOK d) : rOK (sg1 t m d) := by
  refine ⟨?_, ?_, ?_, ?_, ?_, ?_⟩
  · rw [sg1_D t m d (by decide)]; exact h.rd
  · rw [sg1_F]; exact h.rf
  · unfold sg1; rw [dAD_self, mAfter_D]; exact upd_all h.st (cl_b (sgV_n ht hq))
  · rw [sg1_F]; exact h.sf
  · rw [sg1_D t m d (by decide)]; exact h.rw
  · rw [sg1_F]; exact h.rwf
theorem sg2_ok {t : UInt64} {m : Nat} {d : md_T} (ht : tOK t) (hq : qOK d) (h : rOK d) : rOK (sg2 t m d) := by
  refine ⟨?_, ?_, ?_, ?_, ?_, ?_⟩
  · rw [sg2_D]; exact h.rd
  · rw [sg2_F t m d (by decide)]; exact h.rf
  · rw [sg2_D]; exact h.st
  · unfold sg2; rw [dAF_self, mAfterF_F]; exact upd_all h.sf (cl_bF (sgW_n ht hq))
  · rw [sg2_D]; exact h.rw
  · rw [sg2_F t m d (by decide)]; exact h.rwf
theorem sgN_ok {C : tp_C} {t : UInt64} {d : md_T} (ht : tOK t) (hq : qOK d) (h : rOK d) (n : Nat) : rOK (sgN C t n d) ∧ qOK (sgN C t n d) :=
  it_ok (P := fun x => rOK x ∧ qOK x) (n := n) ⟨h, hq⟩ (fun i a _ hh => by
    unfold sgS; split
    · exact ⟨sg2_ok ht (sg1_q hh.2) (sg1_ok ht hh.2 hh.1), sg2_q (sg1_q hh.2)⟩
    · exact hh) n (Nat.le_refl n)
/-- rates kept -/
def kpI (w : Nat) (d : md_T) (n : Nat) : md_T := if w = 1 then sAF (sAD d 46 (pm (dAD d 46) n (dAD d 56))) 50 (pm (dAF d 50) n (dAF d 57)) else if w = 2 then sAF (sAD d 47 (pm (dAD d 47) n (dAD d 56))) 51 (pm (dAF d 51) n (dAF d 57)) else sAF (sAD d 48 (pm (dAD d 48) n (dAD d 56))) 52 (pm (dAF d 52) n (dAF d 57))
def kpD (C : tp_C) (w : Nat) (d : md_T) : md_T := kpI w d (cN C)
theorem kpI_0 (w : Nat) (d : md_T) : kpI w d 0 = d := by
  unfold kpI; repeat' split
  all_goals rw [pm_0, pm_0, sAD_self, sAF_self]
theorem kpI_1 {w : Nat} (d : md_T) (n : Nat) (h : w = 1) : uAF (uAD (kpI w d n) 46 n (dAD d 56 n)) 50 n (dAF d 57 n) = kpI w d (n + 1) := by
  unfold kpI; rw [if_pos h, if_pos h, uAD_sAF, uAD_sAD, uAF_sAF, pm_s rfl, pm_s rfl]
theorem kpI_2 {w : Nat} (d : md_T) (n : Nat) (h : ¬ w = 1) (h2 : w = 2) : uAF (uAD (kpI w d n) 47 n (dAD d 56 n)) 51 n (dAF d 57 n) = kpI w d (n + 1) := by
  unfold kpI; rw [if_neg h, if_pos h2, if_neg h, if_pos h2, uAD_sAF, uAD_sAD, uAF_sAF, pm_s rfl, pm_s rfl]
theorem kpI_3 {w : Nat} (d : md_T) (n : Nat) (h : ¬ w = 1) (h2 : ¬ w = 2) : uAF (uAD (kpI w d n) 48 n (dAD d 56 n)) 52 n (dAF d 57 n) = kpI w d (n + 1) := by
  unfold kpI; rw [if_neg h, if_neg h2, if_neg h, if_neg h2, uAD_sAF, uAD_sAD, uAF_sAF, pm_s rfl, pm_s rfl]
theorem kpI_56 (w : Nat) (d : md_T) (n : Nat) : dAD (kpI w d n) 56 = dAD d 56 := by
  unfold kpI; by_cases h : w = 1
  · rw [if_pos h]; rfl
  · rw [if_neg h]; by_cases h2 : w = 2
    · rw [if_pos h2]; rfl
    · rw [if_neg h2]; rfl
theorem kpI_57 (w : Nat) (d : md_T) (n : Nat) : dAF (kpI w d n) 57 = dAF d 57 := by
  unfold kpI; by_cases h : w = 1
  · rw [if_pos h]; rfl
  · rw [if_neg h]; by_cases h2 : w = 2
    · rw [if_pos h2]; rfl
    · rw [if_neg h2]; rfl
theorem sgN_q {C : tp_C} {t : UInt64} {d : md_T} (hq : qOK d) (n : Nat) : qOK (sgN C t n d) :=
  it_ok (P := fun x => qOK x) (n := n) hq (fun i a _ hh => by
    unfold sgS; split
    · exact sg2_q (sg1_q hh)
    · exact hh) n (Nat.le_refl n)
theorem sgS_fin {C : tp_C} {t : UInt64} {m : Nat} (h : cK C m = 2) (d : md_T) : uAF (mAfterF (sg1 t m d) m (FP.fadd (dAF d 53 m) (FP.fmul (FP.d2f t) (dAF d 57 m)))) 18 m (clF (FP.fadd (dAF d 53 m) (FP.fmul (FP.d2f t) (dAF d 57 m)))) = sgS C t m d := by
  unfold sgS; rw [if_pos h]; unfold sg2 sgW; rw [sg1_F]
