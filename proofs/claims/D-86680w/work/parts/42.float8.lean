/-! division by a power of two; whole numbers -/
theorem fl_lead2 {A : Nat} (hA : 0 < A) (k : Nat) : FP.Core.leading A (2 ^ k) = (A.log2 : Int) - (k : Int) := by
  unfold FP.Core.leading
  dsimp only
  rw [Nat.log2_two_pow]
  have hl := fl_log hA
  rw [if_pos]
  by_cases h : k ≤ A.log2
  · rw [show ((A.log2 : Int) - (k : Int)).toNat = A.log2 - k by omega, show (-((A.log2 : Int) - (k : Int))).toNat = 0 by omega, ← Nat.pow_add, Nat.pow_zero, Nat.mul_one, show k + (A.log2 - k) = A.log2 by omega]
    exact hl.1
  · rw [show ((A.log2 : Int) - (k : Int)).toNat = 0 by omega, show (-((A.log2 : Int) - (k : Int))).toNat = k - A.log2 by omega, Nat.pow_zero, Nat.mul_one]
    calc 2 ^ k = 2 ^ A.log2 * 2 ^ (k - A.log2) := by rw [← Nat.pow_add]; congr 1; omega
      _ ≤ A * 2 ^ (k - A.log2) := Nat.mul_le_mul_right _ hl.1
theorem fl_rr_p2 (f : FP.Core.Fmt) (s : Bool) (A k : Nat) (e : Int) : FP.Core.roundRatio f s A (2 ^ k) e = FP.Core.roundRatio f s A 1 (e - (k : Int)) := by
  unfold FP.Core.roundRatio
  by_cases h0 : A = 0
  · rw [if_pos h0, if_pos h0]
  · rw [if_neg h0, if_neg h0]
    have hA : 0 < A := Nat.pos_of_ne_zero h0
    have hq : FP.Core.quantum f A (2 ^ k) e = FP.Core.quantum f A 1 (e - (k : Int)) := by
      unfold FP.Core.quantum
      rw [fl_lead2 hA, fl_lead1 hA]
      congr 1
      omega
    rw [hq]
    generalize FP.Core.quantum f A 1 (e - (k : Int)) = q
    unfold FP.Core.roundAt
    congr 1
    unfold FP.Core.unitsNum FP.Core.unitsDen
    rw [Nat.one_mul]
    by_cases h1 : e - q ≤ 0
    · rw [show (e - q).toNat = 0 by omega, show (e - (k : Int) - q).toNat = 0 by omega, ← Nat.pow_add]
      congr 2
      omega
    · by_cases h2 : e - q ≤ k
      · rw [show (q - e).toNat = 0 by omega, show (e - (k : Int) - q).toNat = 0 by omega, Nat.pow_zero, Nat.mul_one, Nat.mul_one, ← fl_near_scale (A := A) (B := 2 ^ (q - (e - (k : Int))).toNat) (k := 2 ^ (e - q).toNat) (Nat.two_pow_pos _), ← Nat.pow_add]
        congr 2
        omega
      · rw [show (q - e).toNat = 0 by omega, show (q - (e - (k : Int))).toNat = 0 by omega, Nat.pow_zero, Nat.mul_one, ← fl_near_scale (A := A * 2 ^ (e - (k : Int) - q).toNat) (B := 1) (k := 2 ^ k) (Nat.two_pow_pos _), Nat.one_mul, Nat.mul_assoc, ← Nat.pow_add]
        congr 3
        omega
/-- a whole number as a double -/
theorem zD_i2d (i : Int32) : fD (FP.i2d i) ∧ zD (FP.i2d i) = i.toInt * ((2 ^ 1074 : Nat) : Int) := by
  have hv := v64_i2d i
  have hb : i.toInt.natAbs < 2 ^ 53 := by
    have h1 := Int32.toInt_lt i
    have h2 := Int32.le_toInt i
    omega
  have e0 : FP.Core.round FP.Core.b64 (FP.Core.ofInt i.toInt) = FP.Core.roundRatio FP.Core.b64 (decide (i.toInt < 0)) i.toInt.natAbs 1 0 := rfl
  obtain ⟨c', q', e1, e2, e3, e4⟩ := fl_rr_exact Gf64 (decide (i.toInt < 0)) (A := i.toInt.natAbs) (e := 0) hb (by decide) (by decide)
  have hv : v64 (FP.i2d i) = .fin (decide (i.toInt < 0)) c' q' := (hv.trans e0).trans e1
  have e2 : (-1074 : Int) ≤ q' := e2
  refine ⟨⟨_, c', q', hv⟩, ?_⟩
  unfold zD
  rw [hv, zv_f, e4, Nat.mul_assoc, ← Nat.pow_add, show (0 - q').toNat + (q' + 1074).toNat = 1074 by omega, fl_sgn_mul]
  congr 1
  unfold FP.Core.signed
  by_cases h : i.toInt < 0
  · rw [if_pos (by simpa using h)]; omega
  · rw [if_neg (by simpa using h)]; omega
def nsV (i : Int32) : UInt64 := FP.ddiv (FP.i2d i) 4746794007248502784
theorem k31 : v64 4746794007248502784 = .fin false (2 ^ 52) (-21) := by decide +kernel
theorem nsV_b (i : Int32) : bD 1075 (nsV i) := by
  obtain ⟨⟨s, c, q, hv⟩, hz⟩ := zD_i2d i
  obtain ⟨h1, h2, h3⟩ := fl_q64 hv
  have e1 : v64 (nsV i) = FP.Core.roundRatio FP.Core.b64 (s != false) c (2 ^ 52) (q - -21) := by
    unfold nsV
    rw [v64_div, hv, k31]
    show (if (2 ^ 52 : Nat) = 0 then (if c = 0 then FP.Core.Datum.nan else .inf (s != false)) else FP.Core.roundRatio FP.Core.b64 (s != false) c (2 ^ 52) (q - -21)) = _
    rw [if_neg (by decide)]
  rw [fl_rr_p2] at e1
  have hc : c * 2 ^ (q + 1074).toNat < 2 ^ 1106 := by
    have hb : (zD (FP.i2d i)).natAbs < 2 ^ 1106 := by
      rw [hz, Int.natAbs_mul, Int.natAbs_natCast]
      have h4 : i.toInt.natAbs < 2 ^ 32 := by
        have h1 := Int32.toInt_lt i
        have h2 := Int32.le_toInt i
        omega
      calc i.toInt.natAbs * 2 ^ 1074 < 2 ^ 32 * 2 ^ 1074 := Nat.mul_lt_mul_of_pos_right h4 (Nat.two_pow_pos _)
        _ = 2 ^ 1106 := by rw [← Nat.pow_add]
    unfold zD at hb
    rw [hv, zv_f, fl_sgn_abs] at hb
    exact hb
  by_cases hlow : q - -21 - ((52 : Nat) : Int) < -1074
  · -- tiny: the bound of rounding is enough
    have hq0 : c < 2 ^ 53 := h3
    obtain ⟨c', q', f1, f2, f3⟩ := fl_rr_bd Gf64 (by decide) (s != false) (A := c) (k := 53) (K := 1074) (e := q - -21 - ((52 : Nat) : Int)) hq0 (by omega) (by decide) (by decide)
    exact ⟨_, c', q', e1.trans f1, f2, Nat.lt_of_le_of_lt f3 (Nat.pow_lt_pow_right (by decide) (by decide))⟩
  · obtain ⟨c', q', f1, f2, f3, f4⟩ := fl_rr_exact Gf64 (s != false) (A := c) (e := q - -21 - ((52 : Nat) : Int)) h3 (by show (-1074 : Int) ≤ _; omega) (by show _ ≤ (971 : Int); omega)
    have f2 : (-1074 : Int) ≤ q' := f2
    refine ⟨_, c', q', e1.trans f1, f2, ?_⟩
    rw [f4, Nat.mul_assoc, ← Nat.pow_add, show (q - -21 - ((52 : Nat) : Int) - q').toNat + (q' + 1074).toNat = (q + 1074).toNat - 31 by omega]
    have e5 : (q + 1074).toNat = (q + 1074).toNat - 31 + 31 := by omega
    rw [e5, Nat.pow_add, ← Nat.mul_assoc] at hc
    have e6 : (2 : Nat) ^ 1106 = 2 ^ 1075 * 2 ^ 31 := by rw [← Nat.pow_add]
    rw [e6] at hc
    exact Nat.lt_of_mul_lt_mul_right hc
/-- lengths: halved k times -/
def hvT (k : Nat) : UInt64 := it_ (fun _ t => FP.ddiv t 4611686018427387904) k FP.dconst1
theorem hvT_s (k : Nat) : hvT (k + 1) = FP.ddiv (hvT k) 4611686018427387904 := rfl
def hvB (k : Nat) : Bool := decide (hvT k = UInt64.ofNat ((1023 - k) * 4503599627370496)) && decide (FP.d2f (hvT k) = UInt32.ofNat ((127 - k) * 8388608))
theorem hv_all : ∀ k, k < 24 → hvB k = true := by decide +kernel
theorem hv_v {k : Nat} (h : k < 24) : v64 (hvT k) = .fin false 4503599627370496 (-52 - (k : Int)) := by
  have h1 := hv_all k h
  unfold hvB at h1
  simp only [Bool.and_eq_true, decide_eq_true_eq] at h1
  rw [h1.1]
  have : ∀ k, k < 24 → v64 (UInt64.ofNat ((1023 - k) * 4503599627370496)) = .fin false 4503599627370496 (-52 - (k : Int)) := by decide +kernel
  exact this k h
theorem hv_w {k : Nat} (h : k < 24) : v32 (FP.d2f (hvT k)) = .fin false 8388608 (-23 - (k : Int)) := by
  have h1 := hv_all k h
  unfold hvB at h1
  simp only [Bool.and_eq_true, decide_eq_true_eq] at h1
  rw [h1.2]
  have : ∀ k, k < 24 → v32 (UInt32.ofNat ((127 - k) * 8388608)) = .fin false 8388608 (-23 - (k : Int)) := by decide +kernel
  exact this k h
theorem hv_ok {k : Nat} (h : k < 24) : tOK (hvT k) := by
  refine ⟨⟨_, _, _, hv_v h, by decide⟩, ⟨_, _, _, hv_w h, by decide⟩, ?_⟩
  refine ⟨_, _, _, hv_v h, by omega, ?_⟩
  have e1 : (4503599627370496 : Nat) = 2 ^ 52 := by decide
  rw [e1, ← Nat.pow_add]
  exact Nat.pow_lt_pow_right (by decide) (by omega)
theorem hv_n {k : Nat} (h : k < 24) : vf_n64 (hvT k) := bD_n (hv_ok h).2.2
