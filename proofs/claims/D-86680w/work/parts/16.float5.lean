/-! order, by values in units of 2^-1074 -/
def zv (d : FP.Core.Datum) : Int := match d with
  | .fin s c q => FP.Core.signed s (c * 2 ^ (q + 1074).toNat)
  | _ => 0
def zD (x : UInt64) : Int := zv (v64 x)
def zF (x : UInt32) : Int := zv (v32 x)
def fD (x : UInt64) : Prop := ∃ s c q, v64 x = .fin s c q
def fF (x : UInt32) : Prop := ∃ s c q, v32 x = .fin s c q
theorem bD_f {K : Nat} {x : UInt64} (h : bD K x) : fD x := bd_fin h
theorem bF_f {K : Nat} {x : UInt32} (h : bF K x) : fF x := bd_fin h
theorem fl_cmp_scale {a b k : Int} (hk : 0 < k) : compare (a * k) (b * k) = compare a b := by
  simp only [compare, compareOfLessAndEq]
  have e1 : a * k < b * k ↔ a < b := Int.mul_lt_mul_right hk
  have e2 : a * k = b * k ↔ a = b := Int.mul_eq_mul_right_iff (by omega)
  simp only [e1, e2]
theorem fl_order {s t : Bool} {c d : Nat} {q r : Int} (hq : -1074 ≤ q) (hr : -1074 ≤ r) : FP.Core.order (.fin s c q) (.fin t d r) = some (compare (zv (.fin s c q)) (zv (.fin t d r))) := by
  show some (compare (FP.Core.signed s (c * 2 ^ (q - min q r).toNat)) (FP.Core.signed t (d * 2 ^ (r - min q r).toNat))) = some (compare (FP.Core.signed s (c * 2 ^ (q + 1074).toNat)) (FP.Core.signed t (d * 2 ^ (r + 1074).toNat)))
  have e1 : (q + 1074).toNat = (q - min q r).toNat + (min q r + 1074).toNat := by omega
  have e2 : (r + 1074).toNat = (r - min q r).toNat + (min q r + 1074).toNat := by omega
  rw [e1, e2, Nat.pow_add, Nat.pow_add, ← Nat.mul_assoc, ← Nat.mul_assoc, fl_sgn_mul s (c * 2 ^ (q - min q r).toNat) (2 ^ (min q r + 1074).toNat), fl_sgn_mul t (d * 2 ^ (r - min q r).toNat) (2 ^ (min q r + 1074).toNat), fl_cmp_scale]
  have : 0 < 2 ^ (min q r + 1074).toNat := Nat.two_pow_pos _
  omega
theorem fl_q64 {x : UInt64} {s : Bool} {c : Nat} {q : Int} (h : v64 x = .fin s c q) : -1074 ≤ q ∧ q ≤ 971 ∧ c < 2 ^ 53 := by
  have := v64_fits x
  rw [h] at this
  obtain ⟨h1, h2, h3, h4, h5, h6⟩ := fl_c64
  obtain ⟨a, b, c, d⟩ := this
  rw [h6] at a
  exact ⟨by omega, by omega, a⟩
theorem fl_q32 {x : UInt32} {s : Bool} {c : Nat} {q : Int} (h : v32 x = .fin s c q) : -149 ≤ q ∧ q ≤ 104 ∧ c < 2 ^ 24 := by
  have := v32_fits x
  rw [h] at this
  obtain ⟨h1, h2, h3, h4, h5, h6⟩ := fl_c32
  obtain ⟨a, b, c, d⟩ := this
  rw [h6] at a
  exact ⟨by omega, by omega, a⟩
theorem fx_ord {x y : UInt64} (hx : fD x) (hy : fD y) : FP.dcmp x y = some (compare (zD x) (zD y)) := by
  obtain ⟨s, c, q, h1⟩ := hx
  obtain ⟨t, d, r, h2⟩ := hy
  show FP.Core.order (v64 x) (v64 y) = _
  unfold zD
  rw [h1, h2]
  exact fl_order (fl_q64 h1).1 (fl_q64 h2).1
theorem fy_ord {x y : UInt32} (hx : fF x) (hy : fF y) : FP.fcmp x y = some (compare (zF x) (zF y)) := by
  obtain ⟨s, c, q, h1⟩ := hx
  obtain ⟨t, d, r, h2⟩ := hy
  show FP.Core.order (v32 x) (v32 y) = _
  unfold zF
  rw [h1, h2]
  exact fl_order (by have := (fl_q32 h1).1; omega) (by have := (fl_q32 h2).1; omega)
theorem fl_c_gt (a b : Int) : (some (compare a b) == some Ordering.gt) = decide (b < a) := by
  simp only [compare, compareOfLessAndEq]
  by_cases h1 : a < b
  · have : ¬ b < a := by omega
    simp [h1, this]
  · by_cases h2 : a = b
    · subst h2; simp
    · have : b < a := by omega
      simp [h1, h2, this]
theorem fl_c_lt (a b : Int) : (some (compare a b) == some Ordering.lt) = decide (a < b) := by
  simp only [compare, compareOfLessAndEq]
  by_cases h1 : a < b
  · simp [h1]
  · by_cases h2 : a = b
    · subst h2; simp
    · simp [h1, h2]
theorem fl_c_eq (a b : Int) : (some (compare a b) == some Ordering.eq) = decide (a = b) := by
  simp only [compare, compareOfLessAndEq]
  by_cases h1 : a < b
  · have : ¬ a = b := by omega
    simp [h1, this]
  · by_cases h2 : a = b
    · subst h2; simp
    · simp [h1, h2]
theorem fx_gt_z {x y : UInt64} (hx : fD x) (hy : fD y) : fx_gt x y = decide (zD y < zD x) := by unfold fx_gt; rw [fx_ord hx hy, fl_c_gt]
theorem fx_lt_z {x y : UInt64} (hx : fD x) (hy : fD y) : fx_lt x y = decide (zD x < zD y) := by unfold fx_lt; rw [fx_ord hx hy, fl_c_lt]
theorem fx_eq_z {x y : UInt64} (hx : fD x) (hy : fD y) : fx_eq x y = decide (zD x = zD y) := by unfold fx_eq; rw [fx_ord hx hy, fl_c_eq]
theorem fx_ge_z {x y : UInt64} (hx : fD x) (hy : fD y) : fx_ge x y = decide (zD y ≤ zD x) := by
  unfold fx_ge; rw [fx_ord hx hy, fl_c_eq, fl_c_gt]
  by_cases h1 : zD y < zD x
  · have : zD y ≤ zD x := by omega
    simp [h1, this]
  · by_cases h2 : zD x = zD y
    · simp [h2]
    · have : ¬ zD y ≤ zD x := by omega
      simp [h1, h2, this]
theorem fx_le_z {x y : UInt64} (hx : fD x) (hy : fD y) : fx_le x y = decide (zD x ≤ zD y) := by
  unfold fx_le; rw [fx_ord hx hy, fl_c_eq, fl_c_lt]
  by_cases h1 : zD x < zD y
  · have : zD x ≤ zD y := by omega
    simp [h1, this]
  · by_cases h2 : zD x = zD y
    · simp [h2]
    · have : ¬ zD x ≤ zD y := by omega
      simp [h1, h2, this]
theorem fy_gt_z {x y : UInt32} (hx : fF x) (hy : fF y) : fy_gt x y = decide (zF y < zF x) := by unfold fy_gt; rw [fy_ord hx hy, fl_c_gt]
theorem fy_lt_z {x y : UInt32} (hx : fF x) (hy : fF y) : fy_lt x y = decide (zF x < zF y) := by unfold fy_lt; rw [fy_ord hx hy, fl_c_lt]
theorem fy_eq_z {x y : UInt32} (hx : fF x) (hy : fF y) : fy_eq x y = decide (zF x = zF y) := by unfold fy_eq; rw [fy_ord hx hy, fl_c_eq]
theorem fy_ge_z {x y : UInt32} (hx : fF x) (hy : fF y) : fy_ge x y = decide (zF y ≤ zF x) := by
  unfold fy_ge; rw [fy_ord hx hy, fl_c_eq, fl_c_gt]
  by_cases h1 : zF y < zF x
  · have : zF y ≤ zF x := by omega
    simp [h1, this]
  · by_cases h2 : zF x = zF y
    · simp [h2]
    · have : ¬ zF y ≤ zF x := by omega
      simp [h1, h2, this]
theorem fy_le_z {x y : UInt32} (hx : fF x) (hy : fF y) : fy_le x y = decide (zF x ≤ zF y) := by
  unfold fy_le; rw [fy_ord hx hy, fl_c_eq, fl_c_lt]
  by_cases h1 : zF x < zF y
  · have : zF x ≤ zF y := by omega
    simp [h1, this]
  · by_cases h2 : zF x = zF y
    · simp [h2]
    · have : ¬ zF x ≤ zF y := by omega
      simp [h1, h2, this]
theorem bD_z {K : Nat} {x : UInt64} (h : fD x) : bD K x ↔ (zD x).natAbs < 2 ^ K := by
  obtain ⟨s, c, q, h1⟩ := h
  unfold bD bd zD
  rw [h1]
  show _ ↔ (FP.Core.signed s (c * 2 ^ (q + 1074).toNat)).natAbs < 2 ^ K
  rw [fl_sgn_abs]
  constructor
  · rintro ⟨s', c', q', e, -, h3⟩
    cases e; exact h3
  · intro h3
    exact ⟨s, c, q, rfl, (fl_q64 h1).1, h3⟩
theorem bF_z {K : Nat} {x : UInt32} (h : fF x) : bF K x ↔ (zF x).natAbs < 2 ^ K := by
  obtain ⟨s, c, q, h1⟩ := h
  unfold bF bd zF
  rw [h1]
  show _ ↔ (FP.Core.signed s (c * 2 ^ (q + 1074).toNat)).natAbs < 2 ^ K
  rw [fl_sgn_abs]
  constructor
  · rintro ⟨s', c', q', e, -, h3⟩
    cases e; exact h3
  · intro h3
    exact ⟨s, c, q, rfl, by have := (fl_q32 h1).1; omega, h3⟩
theorem nzD_z {x : UInt64} (h : fD x) (hz : zD x ≠ 0) : nzD x := by
  obtain ⟨s, c, q, h1⟩ := h
  refine ⟨s, c, q, h1, Nat.pos_of_ne_zero (fun e => hz ?_)⟩
  unfold zD; rw [h1, e]
  show FP.Core.signed s (0 * _) = 0
  rw [Nat.zero_mul]; cases s <;> rfl
theorem nzF_z {x : UInt32} (h : fF x) (hz : zF x ≠ 0) : nzF x := by
  obtain ⟨s, c, q, h1⟩ := h
  refine ⟨s, c, q, h1, Nat.pos_of_ne_zero (fun e => hz ?_)⟩
  unfold zF; rw [h1, e]
  show FP.Core.signed s (0 * _) = 0
  rw [Nat.zero_mul]; cases s <;> rfl
/-! the constants -/
theorem k0 : v64 FP.dconst0 = .fin false 0 (-1074) := by decide +kernel
theorem k1 : v64 FP.dconst1 = .fin false 4503599627370496 (-52) := by decide +kernel
theorem k15 : v64 4609434218613702656 = .fin false 6755399441055744 (-52) := by decide +kernel
theorem km15 : v64 13832806255468478464 = .fin true 6755399441055744 (-52) := by decide +kernel
theorem k0f : v32 FP.fconst0 = .fin false 0 (-149) := by decide +kernel
theorem k1f : v32 FP.fconst1 = .fin false 8388608 (-23) := by decide +kernel
theorem k15f : v32 1069547520 = .fin false 12582912 (-23) := by decide +kernel
theorem km15f : v32 3217031168 = .fin true 12582912 (-23) := by decide +kernel
theorem fl_sf (n : Nat) : FP.Core.signed false n = (n : Int) := by simp [FP.Core.signed]
theorem fl_st (n : Nat) : FP.Core.signed true n = -(n : Int) := by simp [FP.Core.signed]
theorem zv_f (s : Bool) (c : Nat) (q : Int) : zv (.fin s c q) = FP.Core.signed s (c * 2 ^ (q + 1074).toNat) := rfl
theorem zD_0 : zD FP.dconst0 = 0 := by unfold zD; rw [k0, zv_f, Nat.zero_mul, fl_sf]; rfl
theorem zF_0 : zF FP.fconst0 = 0 := by unfold zF; rw [k0f, zv_f, Nat.zero_mul, fl_sf]; rfl
theorem fl_15 : (6755399441055744 * 2 ^ 1022 : Nat) = 3 * 2 ^ 1073 := by
  rw [show (6755399441055744 : Nat) = 3 * 2 ^ 51 from by decide, Nat.mul_assoc, ← Nat.pow_add]
theorem fl_15f : (12582912 * 2 ^ 1051 : Nat) = 3 * 2 ^ 1073 := by
  rw [show (12582912 : Nat) = 3 * 2 ^ 22 from by decide, Nat.mul_assoc, ← Nat.pow_add]
theorem zD_15 : zD 4609434218613702656 = ((3 * 2 ^ 1073 : Nat) : Int) := by
  unfold zD; rw [k15, zv_f, fl_sf, show ((-52 : Int) + 1074).toNat = 1022 from by decide, fl_15]
theorem zD_m15 : zD 13832806255468478464 = -((3 * 2 ^ 1073 : Nat) : Int) := by
  unfold zD; rw [km15, zv_f, fl_st, show ((-52 : Int) + 1074).toNat = 1022 from by decide, fl_15]
theorem zF_15 : zF 1069547520 = ((3 * 2 ^ 1073 : Nat) : Int) := by
  unfold zF; rw [k15f, zv_f, fl_sf, show ((-23 : Int) + 1074).toNat = 1051 from by decide, fl_15f]
theorem zF_m15 : zF 3217031168 = -((3 * 2 ^ 1073 : Nat) : Int) := by
  unfold zF; rw [km15f, zv_f, fl_st, show ((-23 : Int) + 1074).toNat = 1051 from by decide, fl_15f]
theorem fl_3 : 3 * 2 ^ 1073 < 2 ^ 1075 := by
  have : (2 : Nat) ^ 1075 = 4 * 2 ^ 1073 := by rw [show (1075 : Nat) = 2 + 1073 from rfl, Nat.pow_add]
  have h2 : 0 < (2 : Nat) ^ 1073 := Nat.two_pow_pos _
  omega
theorem fD_15 : fD 4609434218613702656 := ⟨_, _, _, k15⟩
theorem fD_m15 : fD 13832806255468478464 := ⟨_, _, _, km15⟩
theorem fF_15 : fF 1069547520 := ⟨_, _, _, k15f⟩
theorem fF_m15 : fF 3217031168 := ⟨_, _, _, km15f⟩
theorem fD_0 : fD FP.dconst0 := ⟨_, _, _, k0⟩
theorem fF_0 : fF FP.fconst0 := ⟨_, _, _, k0f⟩
theorem bD_15 : bD 1075 4609434218613702656 := by rw [bD_z fD_15, zD_15]; have := fl_3; omega
theorem bD_m15 : bD 1075 13832806255468478464 := by rw [bD_z fD_m15, zD_m15]; have := fl_3; omega
theorem bF_15 : bF 1075 1069547520 := by rw [bF_z fF_15, zF_15]; have := fl_3; omega
theorem bF_m15 : bF 1075 3217031168 := by rw [bF_z fF_m15, zF_m15]; have := fl_3; omega
theorem bD_0 {K : Nat} : bD K FP.dconst0 := by rw [bD_z fD_0, zD_0]; exact Nat.two_pow_pos _
theorem bF_0 {K : Nat} : bF K FP.fconst0 := by rw [bF_z fF_0, zF_0]; exact Nat.two_pow_pos _
