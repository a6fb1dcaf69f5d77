/-! Math.rint: the law -/
def csD (x : UInt64) : UInt64 := (FP.dconst1 &&& 0x7fffffffffffffff) ||| (if x >>> 63 == 1 then 0x8000000000000000 else 0)
def riD (x : UInt64) : UInt64 := FP.dmul (csD x) (rnA (abD x))
theorem cs_v (x : UInt64) : v64 (csD x) = .fin (x >>> 63 == 1) 4503599627370496 (-52) := by
  unfold csD; cases (x >>> 63 == 1) <;> decide +kernel
theorem cs_b (x : UInt64) : bD 1075 (csD x) := by
  refine ⟨_, _, _, cs_v x, by decide, ?_⟩
  rw [show ((-52 : Int) + 1074).toNat = 1022 from rfl, show (4503599627370496 : Nat) = 2 ^ 52 from rfl, ← Nat.pow_add]
  exact Nat.pow_lt_pow_right (by decide) (by omega)
theorem mul1 {a b : UInt64} {s : Bool} (ha : v64 a = .fin s 4503599627370496 (-52)) (hba : bD 1075 a) (hb : bD 1131 b) {k U : Nat} (hU : U = 1074) (hz : zD b = ((k * 2 ^ U : Nat) : Int)) : bD 1133 (FP.dmul a b) ∧ zD (FP.dmul a b) = FP.Core.signed s (k * 2 ^ U) := by
  have hm : bD 1133 (FP.dmul a b) := bD_up (bD_mul hba hb) (by omega)
  refine ⟨hm, ?_⟩
  obtain ⟨t, d, r, h1⟩ := bD_f hb
  obtain ⟨s1, c1, q1, h2⟩ := bD_f hm
  obtain ⟨r1, r2, r3⟩ := fl_q64 h1
  have h3 := v64_mul a b
  rw [ha, h1, h2] at h3
  have h3 : FP.Core.roundRatio FP.Core.b64 (s != t) (4503599627370496 * d) 1 (-52 + r) = .fin s1 c1 q1 := h3.symm
  unfold zD at hz ⊢
  rw [h1, zv_f] at hz
  rw [h2]
  have hab : d * 2 ^ (r + 1074).toNat = k * 2 ^ U := by
    have := congrArg Int.natAbs hz
    rw [fl_sgn_abs, Int.natAbs_natCast] at this
    exact this
  rcases Nat.eq_zero_or_pos d with rfl | hd
  · rw [Nat.zero_mul] at hab
    unfold FP.Core.roundRatio at h3
    rw [if_pos rfl] at h3
    cases h3
    rw [← hab, zv_f, Nat.zero_mul]
    cases s <;> cases t <;> rfl
  · have ht : t = false := by
      cases t
      · rfl
      · rw [fl_st] at hz
        have : 0 < d * 2 ^ (r + 1074).toNat := Nat.mul_pos hd (Nat.two_pow_pos _)
        omega
    have hk : 0 < k := by
      rcases Nat.eq_zero_or_pos k with rfl | h
      · rw [Nat.zero_mul] at hab
        have : 0 < d * 2 ^ (r + 1074).toNat := Nat.mul_pos hd (Nat.two_pow_pos _)
        omega
      · exact h
    have hr : -1022 ≤ r := by
      have h4 : 2 ^ U ≤ d * 2 ^ (r + 1074).toNat := by rw [hab]; exact Nat.le_mul_of_pos_left _ hk
      have h5 : d * 2 ^ (r + 1074).toNat < 2 ^ 53 * 2 ^ (r + 1074).toNat := Nat.mul_lt_mul_of_pos_right r3 (Nat.two_pow_pos _)
      rw [← Nat.pow_add] at h5
      have h6 := (Nat.pow_lt_pow_iff_right (show 1 < 2 by decide)).mp (Nat.lt_of_le_of_lt h4 h5)
      omega
    obtain ⟨e1, e2, e3⟩ := rr_val Gf64 (by decide) (by omega) h3
    have e4 : 4503599627370496 * d * 2 ^ (-52 + r + 1074).toNat = d * 2 ^ (r + 1074).toNat := by
      rw [show (r + 1074).toNat = 52 + (-52 + r + 1074).toNat by omega, Nat.pow_add, Nat.mul_comm 4503599627370496 d, Nat.mul_assoc]
    rw [e4, show (FP.Core.b64.qmin + 1074).toNat = 0 from rfl, show FP.Core.b64.p - 1 = 52 from rfl, rV_keep (by exact r3) (Nat.zero_le _), hab] at e3
    rw [zv_f, e3, e1, ht]
    cases s <;> rfl
theorem d2i_whole {x : UInt64} (hx : fD x) {k U : Nat} (hU : U = 1074) (hz : zD x = ((k * 2 ^ U : Nat) : Int)) (hk : k ≤ 1000000) : (FP.d2i x).toInt = (k : Int) := by
  obtain ⟨s, c, q, h1⟩ := hx
  obtain ⟨r1, r2, r3⟩ := fl_q64 h1
  have hd : FP.d2i x = FP.Core.toI (v64 x) := rfl
  rw [hd, h1]
  unfold zD at hz
  rw [h1, zv_f] at hz
  have hab : c * 2 ^ (q + 1074).toNat = k * 2 ^ U := by
    have := congrArg Int.natAbs hz
    rw [fl_sgn_abs, Int.natAbs_natCast] at this
    exact this
  have htr : c * 2 ^ q.toNat / 2 ^ (-q).toNat = k := by
    rcases Int.le_total 0 q with h | h
    · rw [show (-q).toNat = 0 by omega, Nat.pow_zero, Nat.div_one]
      rw [show (q + 1074).toNat = q.toNat + U by omega, Nat.pow_add, ← Nat.mul_assoc] at hab
      exact Nat.eq_of_mul_eq_mul_right (Nat.two_pow_pos U) hab
    · rw [show q.toNat = 0 by omega, Nat.pow_zero, Nat.mul_one]
      rw [show U = (-q).toNat + (q + 1074).toNat by omega, Nat.pow_add, ← Nat.mul_assoc] at hab
      rw [Nat.eq_of_mul_eq_mul_right (Nat.two_pow_pos _) hab]
      exact Nat.mul_div_cancel _ (Nat.two_pow_pos _)
  have htt : FP.Core.truncate s c q = (k : Int) := by
    unfold FP.Core.truncate
    rw [htr]
    cases s
    · rfl
    · rw [fl_st] at hz ⊢
      have h4 : k * 2 ^ U = 0 := by rw [hab] at hz; omega
      have : k = 0 := by
        rcases Nat.mul_eq_zero.mp h4 with h | h
        · exact h
        · exact absurd h (Nat.ne_of_gt (Nat.two_pow_pos U))
      omega
  show (Int32.ofInt (max (-2 ^ 31) (min (2 ^ 31 - 1) (FP.Core.truncate s c q)))).toInt = _
  rw [htt, show max (-2 ^ 31 : Int) (min (2 ^ 31 - 1) (k : Int)) = (k : Int) by omega]
  have hs : Int32.size = 4294967296 := rfl
  rw [Int32.toInt_ofInt]
  exact Int.bmod_eq_of_le (by omega) (by omega)
theorem sg_nat {x : UInt64} (h : (x >>> 63 == 1) = true) : ¬ x.toNat < 2 ^ 63 := by
  intro hlt
  have e : x >>> 63 = 0 := by
    apply UInt64.toNat_inj.mp
    rw [UInt64.toNat_shiftRight]
    show x.toNat >>> (63 % 64) = 0
    rw [Nat.shiftRight_eq_div_pow]
    exact Nat.div_eq_of_lt hlt
  rw [e] at h; cases h
/-- both ask whether the number is whole -/
theorem rn_set {x : UInt64} (hx : fD x) (h0 : 0 ≤ zD x) (h1 : zD x ≤ ((1000000 * 2 ^ 1074 : Nat) : Int)) : bD 1133 (riD x) ∧ fx_eq (riD x) x = fx_eq x (FP.i2d (FP.d2i x)) := by
  obtain ⟨U, hU⟩ : ∃ U : Nat, U = 1074 := ⟨_, rfl⟩
  obtain ⟨n, hn⟩ : ∃ n : Nat, zD x = (n : Int) := ⟨(zD x).toNat, by omega⟩
  obtain ⟨a1, a2, a3⟩ := abD_z hx
  rw [if_neg (by omega)] at a2
  obtain ⟨b1, ⟨k, k1, b2⟩, b3⟩ := rn_law a1 (by rw [a2]; exact hn) (show n ≤ 1000000 * 2 ^ 1074 from Int.ofNat_le.mp (by rw [← hn]; exact h1))
  obtain ⟨f1, e1⟩ := zD_i2d (FP.d2i x)
  rw [← hU] at b2 b3 h1 e1
  obtain ⟨m1, m2⟩ := mul1 (cs_v x) (cs_b x) b1 hU b2
  have m1 : bD 1133 (riD x) := m1
  have hP : 0 < 2 ^ U := Nat.two_pow_pos U
  have m3 : zD (riD x) = ((k * 2 ^ U : Nat) : Int) := by
    unfold riD
    rw [m2]
    cases hs : (x >>> 63 == 1)
    · rfl
    · have := zD_npos (sg_nat hs)
      have hn0 : n = 0 := by omega
      have := b3 0 (by rw [hn0, Nat.zero_mul])
      rw [b2, a2] at this
      rw [fl_st]; omega
  refine ⟨m1, ?_⟩
  rw [fx_eq_z (bD_f m1) hx, fx_eq_z hx f1, m3, e1, hn]
  by_cases hw : ∃ k', n = k' * 2 ^ U
  · obtain ⟨k', hk'⟩ := hw
    have c1 := b3 k' hk'
    rw [b2, a2, hn] at c1
    have hk6 : k' ≤ 1000000 := by
      rw [hn, hk'] at h1
      exact Nat.le_of_mul_le_mul_right (Int.ofNat_le.mp h1) hP
    have c2 := d2i_whole hx hU (by rw [hn, hk']) hk6
    rw [decide_eq_true c1, c2]
    symm; apply decide_eq_true
    rw [hk', Int.natCast_mul]
  · rw [decide_eq_false, decide_eq_false]
    · intro h
      apply hw
      have hi : 0 ≤ (FP.d2i x).toInt := by
        rcases Int.lt_or_le (FP.d2i x).toInt 0 with h2 | h2
        · have := Int.mul_neg_of_neg_of_pos h2 (Int.natCast_pos.mpr hP); omega
        · exact h2
      refine ⟨(FP.d2i x).toInt.toNat, ?_⟩
      apply Int.ofNat_inj.mp
      rw [Int.natCast_mul, h, Int.toNat_of_nonneg hi]
    · intro h; exact hw ⟨k, (Int.ofNat_inj.mp h).symm⟩
