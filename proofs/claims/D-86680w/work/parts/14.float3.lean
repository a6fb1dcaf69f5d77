theorem fl_mask64 (x : UInt64) : (x &&& 0x7fffffffffffffff).toNat = x.toNat % 2 ^ 63 := by
  rw [UInt64.toNat_and]
  have e : (0x7fffffffffffffff : UInt64).toNat = 2 ^ 63 - 1 := by decide
  rw [e, Nat.and_two_pow_sub_one_eq_mod]
theorem fl_mask32 (x : UInt32) : (x &&& 0x7fffffff).toNat = x.toNat % 2 ^ 31 := by
  rw [UInt32.toNat_and]
  have e : (0x7fffffff : UInt32).toNat = 2 ^ 31 - 1 := by decide
  rw [e, Nat.and_two_pow_sub_one_eq_mod]
theorem nD_iff (x : UInt64) : vf_n64 x ↔ x.toNat % 2 ^ 63 ≤ 9218868437227405312 := by
  unfold vf_n64
  rw [UInt64.le_iff_toNat_le, fl_mask64]
  rfl
theorem nF_iff (x : UInt32) : vf_n32 x ↔ x.toNat % 2 ^ 31 ≤ 2139095040 := by
  unfold vf_n32
  rw [UInt32.le_iff_toNat_le, fl_mask32]
  rfl
theorem fl_c64 : FP.Core.b64.tails = 4503599627370496 ∧ FP.Core.b64.exps = 2048 ∧ FP.Core.b64.qmin = -1074 ∧ FP.Core.b64.qmax = 971 ∧ FP.Core.b64.emax = 1023 ∧ FP.Core.b64.p = 53 := by decide
theorem fl_c32 : FP.Core.b32.tails = 8388608 ∧ FP.Core.b32.exps = 256 ∧ FP.Core.b32.qmin = -149 ∧ FP.Core.b32.qmax = 104 ∧ FP.Core.b32.emax = 127 ∧ FP.Core.b32.p = 24 := by decide
theorem nD_val (x : UInt64) : vf_n64 x ↔ v64 x ≠ .nan := by
  rw [nD_iff]
  obtain ⟨h1, h2, h3, h4, h5, h6⟩ := fl_c64
  have hx := x.toNat_lt
  unfold v64 FP.Core.decode FP.Core.fieldE FP.Core.fieldT
  rw [h1, h2]
  constructor
  · intro h
    split
    · split
      · intro q; cases q
      · exfalso; omega
    · split <;> intro q <;> cases q
  · intro h
    split at h
    · split at h
      · omega
      · exact absurd rfl h
    · omega
theorem nF_val (x : UInt32) : vf_n32 x ↔ v32 x ≠ .nan := by
  rw [nF_iff]
  obtain ⟨h1, h2, h3, h4, h5, h6⟩ := fl_c32
  have hx := x.toNat_lt
  unfold v32 FP.Core.decode FP.Core.fieldE FP.Core.fieldT
  rw [h1, h2]
  constructor
  · intro h
    split
    · split
      · intro q; cases q
      · exfalso; omega
    · split <;> intro q <;> cases q
  · intro h
    split at h
    · split at h
      · omega
      · exact absurd rfl h
    · omega
theorem fl_xor1 {a k : Nat} (h : a < 2 ^ k) : a ^^^ 2 ^ k = a + 2 ^ k := by
  have e : 2 ^ k * 1 + a = 2 ^ k * 1 ||| a := Nat.two_pow_add_eq_or_of_lt h 1
  have e2 : a ^^^ 2 ^ k = 2 ^ k * 1 ||| a := by
    apply Nat.eq_of_testBit_eq
    intro i
    rw [Nat.testBit_xor, Nat.testBit_or, Nat.mul_one, Nat.testBit_two_pow]
    by_cases hi : k = i
    · subst hi
      rw [Nat.testBit_lt_two_pow h]; simp
    · simp [hi]
  omega
theorem fl_xor2 {a k : Nat} (h : a < 2 ^ k) : (a + 2 ^ k) ^^^ 2 ^ k = a := by
  rw [← fl_xor1 h, Nat.xor_assoc, Nat.xor_self, Nat.xor_zero]
theorem v64_neg {x : UInt64} (h : vf_n64 x) : v64 (FP.dneg x) = FP.Core.negate (v64 x) ∧ vf_n64 (FP.dneg x) := by
  have hx := x.toNat_lt
  obtain ⟨h1, h2, h3, h4, h5, h6⟩ := fl_c64
  have e0 : (FP.dneg x).toNat = if x.toNat < 2 ^ 63 then x.toNat + 2 ^ 63 else x.toNat - 2 ^ 63 := by
    unfold FP.dneg
    rw [UInt64.toNat_xor]
    have e : (0x8000000000000000 : UInt64).toNat = 2 ^ 63 := by decide
    rw [e]
    split
    · rename_i hlt
      exact fl_xor1 hlt
    · rename_i hge
      have e3 : x.toNat = (x.toNat - 2 ^ 63) + 2 ^ 63 := by omega
      have e4 := fl_xor2 (a := x.toNat - 2 ^ 63) (k := 63) (by omega)
      rw [← e3] at e4
      exact e4
  have hn : vf_n64 (FP.dneg x) := by
    rw [nD_iff] at *
    rw [e0]
    split <;> omega
  refine ⟨?_, hn⟩
  rw [nD_iff] at h
  unfold v64 FP.Core.decode FP.Core.fieldE FP.Core.fieldT FP.Core.fieldS
  rw [h1, h2, e0]
  by_cases hlt : x.toNat < 2 ^ 63
  · rw [if_pos hlt]
    have k1 : (x.toNat + 2 ^ 63) / 4503599627370496 % 2048 = x.toNat / 4503599627370496 % 2048 := by omega
    have k2 : (x.toNat + 2 ^ 63) % 4503599627370496 = x.toNat % 4503599627370496 := by omega
    have k3 : ((x.toNat + 2 ^ 63) / 4503599627370496 / 2048 % 2 == 1) = true := by
      have : (x.toNat + 2 ^ 63) / 4503599627370496 / 2048 % 2 = 1 := by omega
      rw [this]; rfl
    have k4 : (x.toNat / 4503599627370496 / 2048 % 2 == 1) = false := by
      have : x.toNat / 4503599627370496 / 2048 % 2 = 0 := by omega
      rw [this]; rfl
    rw [k1, k2, k3, k4]
    split
    · split
      · rfl
      · rfl
    · split <;> rfl
  · rw [if_neg hlt]
    have k1 : (x.toNat - 2 ^ 63) / 4503599627370496 % 2048 = x.toNat / 4503599627370496 % 2048 := by omega
    have k2 : (x.toNat - 2 ^ 63) % 4503599627370496 = x.toNat % 4503599627370496 := by omega
    have k3 : ((x.toNat - 2 ^ 63) / 4503599627370496 / 2048 % 2 == 1) = false := by
      have : (x.toNat - 2 ^ 63) / 4503599627370496 / 2048 % 2 = 0 := by omega
      rw [this]; rfl
    have k4 : (x.toNat / 4503599627370496 / 2048 % 2 == 1) = true := by
      have : x.toNat / 4503599627370496 / 2048 % 2 = 1 := by omega
      rw [this]; rfl
    rw [k1, k2, k3, k4]
    split
    · split
      · rfl
      · rfl
    · split <;> rfl
theorem v32_neg {x : UInt32} (h : vf_n32 x) : v32 (FP.fneg x) = FP.Core.negate (v32 x) ∧ vf_n32 (FP.fneg x) := by
  have hx := x.toNat_lt
  obtain ⟨h1, h2, h3, h4, h5, h6⟩ := fl_c32
  have e0 : (FP.fneg x).toNat = if x.toNat < 2 ^ 31 then x.toNat + 2 ^ 31 else x.toNat - 2 ^ 31 := by
    unfold FP.fneg
    rw [UInt32.toNat_xor]
    have e : (0x80000000 : UInt32).toNat = 2 ^ 31 := by decide
    rw [e]
    split
    · rename_i hlt
      exact fl_xor1 hlt
    · rename_i hge
      have e3 : x.toNat = (x.toNat - 2 ^ 31) + 2 ^ 31 := by omega
      have e4 := fl_xor2 (a := x.toNat - 2 ^ 31) (k := 31) (by omega)
      rw [← e3] at e4
      exact e4
  have hn : vf_n32 (FP.fneg x) := by
    rw [nF_iff] at *
    rw [e0]
    split <;> omega
  refine ⟨?_, hn⟩
  rw [nF_iff] at h
  unfold v32 FP.Core.decode FP.Core.fieldE FP.Core.fieldT FP.Core.fieldS
  rw [h1, h2, e0]
  by_cases hlt : x.toNat < 2 ^ 31
  · rw [if_pos hlt]
    have k1 : (x.toNat + 2 ^ 31) / 8388608 % 256 = x.toNat / 8388608 % 256 := by omega
    have k2 : (x.toNat + 2 ^ 31) % 8388608 = x.toNat % 8388608 := by omega
    have k3 : ((x.toNat + 2 ^ 31) / 8388608 / 256 % 2 == 1) = true := by
      have : (x.toNat + 2 ^ 31) / 8388608 / 256 % 2 = 1 := by omega
      rw [this]; rfl
    have k4 : (x.toNat / 8388608 / 256 % 2 == 1) = false := by
      have : x.toNat / 8388608 / 256 % 2 = 0 := by omega
      rw [this]; rfl
    rw [k1, k2, k3, k4]
    split
    · split <;> rfl
    · split <;> rfl
  · rw [if_neg hlt]
    have k1 : (x.toNat - 2 ^ 31) / 8388608 % 256 = x.toNat / 8388608 % 256 := by omega
    have k2 : (x.toNat - 2 ^ 31) % 8388608 = x.toNat % 8388608 := by omega
    have k3 : ((x.toNat - 2 ^ 31) / 8388608 / 256 % 2 == 1) = false := by
      have : (x.toNat - 2 ^ 31) / 8388608 / 256 % 2 = 0 := by omega
      rw [this]; rfl
    have k4 : (x.toNat / 8388608 / 256 % 2 == 1) = true := by
      have : x.toNat / 8388608 / 256 % 2 = 1 := by omega
      rw [this]; rfl
    rw [k1, k2, k3, k4]
    split
    · split <;> rfl
    · split <;> rfl
/-! sizes in units of 2^-1074: bD K x: x is finite and its magnitude is below 2^K units -/
def bd (K : Nat) (d : FP.Core.Datum) : Prop := ∃ s c q, d = .fin s c q ∧ -1074 ≤ q ∧ c * 2 ^ (q + 1074).toNat < 2 ^ K
def bD (K : Nat) (x : UInt64) : Prop := bd K (v64 x)
def bF (K : Nat) (x : UInt32) : Prop := bd K (v32 x)
theorem bd_up {K L : Nat} {d : FP.Core.Datum} (h : bd K d) (hK : K ≤ L := by omega) : bd L d := by
  obtain ⟨s, c, q, h1, h2, h3⟩ := h
  exact ⟨s, c, q, h1, h2, Nat.lt_of_lt_of_le h3 (Nat.pow_le_pow_right (by decide) hK)⟩
theorem bD_up {K L : Nat} {x : UInt64} (h : bD K x) (hK : K ≤ L := by omega) : bD L x := bd_up h hK
theorem bF_up {K L : Nat} {x : UInt32} (h : bF K x) (hK : K ≤ L := by omega) : bF L x := bd_up h hK
theorem bD_n {K : Nat} {x : UInt64} (h : bD K x) : vf_n64 x := by
  rw [nD_val]; obtain ⟨s, c, q, h1, -⟩ := h; rw [h1]; intro e; cases e
theorem bF_n {K : Nat} {x : UInt32} (h : bF K x) : vf_n32 x := by
  rw [nF_val]; obtain ⟨s, c, q, h1, -⟩ := h; rw [h1]; intro e; cases e
theorem bd_neg {K : Nat} {d : FP.Core.Datum} (h : bd K d) : bd K (FP.Core.negate d) := by
  obtain ⟨s, c, q, h1, h2, h3⟩ := h
  rw [h1]
  exact ⟨!s, c, q, rfl, h2, h3⟩
theorem bD_neg {K : Nat} {x : UInt64} (h : bD K x) : bD K (FP.dneg x) := by
  unfold bD; rw [(v64_neg (bD_n h)).1]; exact bd_neg h
theorem bF_neg {K : Nat} {x : UInt32} (h : bF K x) : bF K (FP.fneg x) := by
  unfold bF; rw [(v32_neg (bF_n h)).1]; exact bd_neg h
theorem fl_pw {a b : Nat} (h : a ≤ b) : 2 ^ a ≤ 2 ^ b := Nat.pow_le_pow_right (by decide) h
/-- rounding a magnitude below 2^K units leaves it at most 2^K units -/
theorem fl_rr_bd {f : FP.Core.Fmt} (h : Gf f) (hq : -1074 ≤ f.qmin) (s : Bool) {A k K : Nat} {e : Int} (hA : A < 2 ^ k) (hk : (k : Int) + e + 1074 ≤ K) (hK1 : f.qmin + 1074 ≤ K) (hK2 : (K : Int) ≤ f.emax + 1074) : ∃ c q, FP.Core.roundRatio f s A 1 e = .fin s c q ∧ -1074 ≤ q ∧ c * 2 ^ (q + 1074).toNat ≤ 2 ^ K := by
  unfold FP.Core.roundRatio
  by_cases hA0 : A = 0
  · rw [if_pos hA0]
    exact ⟨0, f.qmin, rfl, hq, by rw [Nat.zero_mul]; exact Nat.zero_le _⟩
  · rw [if_neg hA0]
    have hA1 : 0 < A := Nat.pos_of_ne_zero hA0
    have hlead : FP.Core.leading A 1 = (A.log2 : Int) := by
      unfold FP.Core.leading
      have e1 : Nat.log2 1 = 0 := by decide
      dsimp only
      rw [e1]
      have e2 : ((A.log2 : Int) - ((0 : Nat) : Int)).toNat = A.log2 := by omega
      have e3 : (-((A.log2 : Int) - ((0 : Nat) : Int))).toNat = 0 := by omega
      rw [e2, e3, Nat.pow_zero, Nat.mul_one, Nat.one_mul, if_pos (fl_log hA1).1]
      omega
    have hlk : A.log2 < k := by
      have h1 := (fl_log hA1).1
      have h2 : 2 ^ A.log2 < 2 ^ k := Nat.lt_of_le_of_lt h1 hA
      exact (Nat.pow_lt_pow_iff_right (by decide)).mp h2
    obtain ⟨q, hqd⟩ : ∃ q, FP.Core.quantum f A 1 e = q := ⟨_, rfl⟩
    have hqv : q = max f.qmin ((A.log2 : Int) + e - ((f.p : Int) - 1)) := by
      rw [← hqd]; unfold FP.Core.quantum; rw [hlead]
    have hp2 := h.2
    have hqK : q + 1074 ≤ K := by omega
    have hqm : f.qmin ≤ q := by omega
    rw [hqd]
    unfold FP.Core.roundAt
    obtain ⟨c, hc⟩ : ∃ c, FP.Core.nearest (FP.Core.unitsNum A e q) (FP.Core.unitsDen 1 e q) = c := ⟨_, rfl⟩
    rw [hc]
    obtain ⟨M, hM⟩ : ∃ M : Nat, (M : Int) = K - 1074 - q := ⟨(K - 1074 - q).toNat, by omega⟩
    have hcM : c ≤ 2 ^ M := by
      rw [← hc]
      apply fl_near_le (fl_den_pos (by decide) _ _)
      unfold FP.Core.unitsNum FP.Core.unitsDen
      by_cases heq : q ≤ e
      · have e1 : (q - e).toNat = 0 := by omega
        rw [e1, Nat.pow_zero, Nat.mul_one]
        calc A * 2 ^ (e - q).toNat ≤ 2 ^ k * 2 ^ (e - q).toNat := Nat.mul_le_mul_right _ (by omega)
          _ = 2 ^ (k + (e - q).toNat) := by rw [Nat.pow_add]
          _ ≤ 2 ^ M := fl_pw (by omega)
      · have e1 : (e - q).toNat = 0 := by omega
        rw [e1, Nat.pow_zero, Nat.mul_one, Nat.one_mul, ← Nat.pow_add]
        calc A ≤ 2 ^ k := by omega
          _ ≤ 2 ^ (M + (q - e).toNat) := fl_pw (by omega)
    have hval : c * 2 ^ (q + 1074).toNat ≤ 2 ^ K := by
      calc c * 2 ^ (q + 1074).toNat ≤ 2 ^ M * 2 ^ (q + 1074).toNat := Nat.mul_le_mul_right _ hcM
        _ = 2 ^ (M + (q + 1074).toNat) := by rw [Nat.pow_add]
        _ ≤ 2 ^ K := fl_pw (by omega)
    have hqx : f.qmax = (f.emax : Int) - f.p + 1 := rfl
    unfold FP.Core.settle FP.Core.bound
    by_cases hcp : c < 2 ^ f.p
    · rw [if_pos hcp]
      have hqq : q ≤ f.qmax := by
        rcases (show q = f.qmin ∨ q = (A.log2 : Int) + e - ((f.p : Int) - 1) by omega) with h1 | h1
        · have := fl_q f; have := fl_em h; omega
        · omega
      rw [if_pos hqq]
      exact ⟨c, q, rfl, by omega, hval⟩
    · rw [if_neg hcp]
      have hpM : f.p ≤ M := by
        have : 2 ^ f.p ≤ 2 ^ M := by omega
        exact (Nat.pow_le_pow_iff_right (by decide)).mp this
      have hqq : q + 1 ≤ f.qmax := by omega
      rw [if_pos hqq]
      refine ⟨f.tails, q + 1, rfl, by omega, ?_⟩
      have e1 : (q + 1 + 1074).toNat = (q + 1074).toNat + 1 := by omega
      rw [e1, Nat.pow_succ]
      have e2 := fl_p h
      calc f.tails * (2 ^ (q + 1074).toNat * 2) = 2 ^ f.p * 2 ^ (q + 1074).toNat := by rw [e2, Nat.mul_comm (2 ^ (q + 1074).toNat) 2, ← Nat.mul_assoc, Nat.mul_comm f.tails 2]
        _ ≤ c * 2 ^ (q + 1074).toNat := Nat.mul_le_mul_right _ (by omega)
        _ ≤ 2 ^ K := hval
