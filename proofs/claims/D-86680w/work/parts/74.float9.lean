/-! Math.abs, Math.max of doubles -/
def abD (v : UInt64) : UInt64 := (v.toInt64 &&& 9223372036854775807).toUInt64
def mxD (a b : UInt64) : UInt64 := Native.java_lang_Math.nans.pick64 true a b
theorem abD_nat (v : UInt64) : (abD v).toNat = v.toNat % 2 ^ 63 := by
  show (v.toBitVec &&& (9223372036854775807 : Int64).toBitVec).toNat = v.toBitVec.toNat % 2 ^ 63
  rw [BitVec.toNat_and]
  show v.toBitVec.toNat &&& (2 ^ 63 - 1) = _
  rw [Nat.and_two_pow_sub_one_eq_mod]
theorem dneg_nat (x : UInt64) : (FP.dneg x).toNat = if x.toNat < 2 ^ 63 then x.toNat + 2 ^ 63 else x.toNat - 2 ^ 63 := by
  have hx := x.toNat_lt
  unfold FP.dneg
  rw [UInt64.toNat_xor]
  have e : (0x8000000000000000 : UInt64).toNat = 2 ^ 63 := by decide
  rw [e]
  split
  · rename_i hlt
    exact fl_xor1 hlt
  · rename_i hge
    have e3 : x.toNat = (x.toNat - 2 ^ 63) + 2 ^ 63 := by omega
    have e4 := fl_xor2 (a := x.toNat - 2 ^ 63) (k := 63) (by omega)
    rw [← e3] at e4
    exact e4
theorem abD_pos {v : UInt64} (h : v.toNat < 2 ^ 63) : abD v = v := UInt64.toNat_inj.mp (by rw [abD_nat]; omega)
theorem abD_neg {v : UInt64} (h : ¬ v.toNat < 2 ^ 63) : abD v = FP.dneg v := UInt64.toNat_inj.mp (by rw [abD_nat, dneg_nat, if_neg h]; have := v.toNat_lt; omega)
theorem abD_n {v : UInt64} (h : vf_n64 v) : vf_n64 (abD v) := by
  rw [nD_iff] at *; rw [abD_nat]; omega
theorem v64_sgn {x : UInt64} {s : Bool} {c : Nat} {q : Int} (h : v64 x = .fin s c q) : s = decide (2 ^ 63 ≤ x.toNat) := by
  have hx := x.toNat_lt
  obtain ⟨h1, h2, h3, h4, h5, h6⟩ := fl_c64
  have e : ∀ n, n < 2 ^ 64 → FP.Core.fieldS FP.Core.b64 n = decide (2 ^ 63 ≤ n) := by
    intro n hn
    show (n / 2 ^ 52 / 2 ^ 11 % 2 == 1) = _
    by_cases h : 2 ^ 63 ≤ n
    · have e1 : n / 2 ^ 52 / 2 ^ 11 % 2 = 1 := by omega
      rw [e1]; simp only [h, decide_true]; rfl
    · have e1 : n / 2 ^ 52 / 2 ^ 11 % 2 = 0 := by omega
      rw [e1]; simp only [h, decide_false]; rfl
  unfold v64 FP.Core.decode at h
  rw [e _ hx] at h
  split at h
  · split at h <;> cases h
  · split at h
    · injection h with h _ _; exact h.symm
    · injection h with h _ _; exact h.symm
theorem zD_pos {x : UInt64} (h : x.toNat < 2 ^ 63) : 0 ≤ zD x := by
  unfold zD
  cases e : v64 x with
  | nan => exact Int.le_refl _
  | inf s => exact Int.le_refl _
  | fin s c q =>
    have hs := v64_sgn e
    rw [decide_eq_false (by omega)] at hs
    subst hs
    exact Int.natCast_nonneg _
theorem zD_npos {x : UInt64} (h : ¬ x.toNat < 2 ^ 63) : zD x ≤ 0 := by
  unfold zD
  cases e : v64 x with
  | nan => exact Int.le_refl _
  | inf s => exact Int.le_refl _
  | fin s c q =>
    have hs := v64_sgn e
    rw [decide_eq_true (by omega)] at hs
    subst hs
    show -(((c * 2 ^ (q + 1074).toNat : Nat)) : Int) ≤ 0
    omega
theorem zD_neg {x : UInt64} (h : fD x) : fD (FP.dneg x) ∧ zD (FP.dneg x) = -zD x := by
  obtain ⟨s, c, q, h1⟩ := h
  have hn : vf_n64 x := (nD_val x).mpr (by rw [h1]; exact fun e => by cases e)
  have hv := (v64_neg hn).1
  rw [h1] at hv
  have hv : v64 (FP.dneg x) = .fin (!s) c q := hv
  refine ⟨⟨_, _, _, hv⟩, ?_⟩
  unfold zD
  rw [hv, h1]
  cases s
  · rfl
  · show ((c * 2 ^ (q + 1074).toNat : Nat) : Int) = - -((c * 2 ^ (q + 1074).toNat : Nat) : Int)
    omega
theorem abD_z {x : UInt64} (h : fD x) : fD (abD x) ∧ zD (abD x) = (if zD x < 0 then -zD x else zD x) ∧ (abD x).toNat < 2 ^ 63 := by
  have h3 : (abD x).toNat < 2 ^ 63 := by rw [abD_nat]; omega
  by_cases hx : x.toNat < 2 ^ 63
  · have := zD_pos hx
    exact ⟨by rw [abD_pos hx]; exact h, by rw [abD_pos hx, if_neg (by omega)], h3⟩
  · have := zD_npos hx
    obtain ⟨h1, h2⟩ := zD_neg h
    refine ⟨by rw [abD_neg hx]; exact h1, ?_, h3⟩
    rw [abD_neg hx, h2]
    split <;> omega
/-- the greater of the two, as the reference finds it -/
theorem mxD_df {a v : UInt64} (ha : fD a) (ha2 : a.toNat < 2 ^ 63) (hv : fD v) : mxD a (abD v) = (if fx_gt (if fx_lt v FP.dconst0 then FP.dneg v else v) a then (if fx_lt v FP.dconst0 then FP.dneg v else v) else a) := by
  obtain ⟨b1, b2, b3⟩ := abD_z hv
  obtain ⟨n1, n2⟩ := zD_neg hv
  have hz := zD_pos ha2
  have hsg : ((a >>> 63 == 1) == true) = false := by
    have e : a >>> 63 = 0 := by
      apply UInt64.toNat_inj.mp
      rw [UInt64.toNat_shiftRight]
      show a.toNat >>> (63 % 64) = 0
      rw [Nat.shiftRight_eq_div_pow]
      exact Nat.div_eq_of_lt ha2
    rw [e]; rfl
  have hp : ∀ b, fD b → mxD a b = if zD b ≤ zD a then a else b := by
    intro b hb
    unfold mxD Native.java_lang_Math.nans.pick64
    rw [fx_ord ha hb]
    rcases Int.lt_trichotomy (zD a) (zD b) with h | h | h
    · rw [show compare (zD a) (zD b) = .lt from Int.compare_eq_lt.mpr h]
      show b = _; exact (if_neg (by omega)).symm
    · rw [show compare (zD a) (zD b) = .eq from Int.compare_eq_eq.mpr h]
      show (if ((a >>> 63 == 1) == true) = true then b else a) = _
      rw [hsg]; show a = _; exact (if_pos (by omega)).symm
    · rw [show compare (zD a) (zD b) = .gt from Int.compare_eq_gt.mpr h]
      show a = _; exact (if_pos (by omega)).symm
  rw [hp _ b1, b2, fx_lt_z hv fD_0, zD_0]
  by_cases h0 : zD v < 0
  · have hx : ¬ v.toNat < 2 ^ 63 := fun q => by have := zD_pos q; omega
    simp only [h0, decide_true, if_true]
    rw [fx_gt_z n1 ha, n2, abD_neg hx]
    by_cases h1 : zD a < -zD v
    · rw [if_neg (by omega), if_pos (by simp only [decide_eq_true_eq]; omega)]
    · rw [if_pos (by omega), if_neg (by simp only [decide_eq_true_eq]; omega)]
  · simp only [h0, decide_false, if_false, Bool.false_eq_true]
    rw [fx_gt_z hv ha]
    by_cases h1 : zD a < zD v
    · have hx : v.toNat < 2 ^ 63 := Classical.byContradiction fun q => by have := zD_npos q; omega
      rw [if_neg (by omega), if_pos (by simp only [decide_eq_true_eq]; omega), abD_pos hx]
    · rw [if_pos (by omega), if_neg (by simp only [decide_eq_true_eq]; omega)]
theorem dnan_f {a : UInt64} (h : vf_n64 a) : FP.dIsNaN a = false := by
  have h2 := (nD_val a).mp h
  unfold v64 at h2
  exact decide_eq_false h2
theorem abD_and (a : UInt64) : a &&& 0x7fffffffffffffff = abD a := UInt64.toNat_inj.mp (by rw [fl_mask64, abD_nat])
