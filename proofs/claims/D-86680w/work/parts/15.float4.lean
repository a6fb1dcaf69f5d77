theorem fl_sgn_abs (s : Bool) (c : Nat) : (FP.Core.signed s c).natAbs = c := by cases s <;> simp [FP.Core.signed]
theorem fl_sgn_mul (s : Bool) (c k : Nat) : FP.Core.signed s (c * k) = FP.Core.signed s c * (k : Int) := by
  cases s <;> simp [FP.Core.signed, Int.neg_mul]
/-- a sum of two bounded numbers, rounded -/
theorem bd_sum {f : FP.Core.Fmt} (h : Gf f) (hq : -1074 ≤ f.qmin) {K : Nat} {x y : FP.Core.Datum} (hx : bd K x) (hy : bd K y) (hK1 : f.qmin + 1074 ≤ K) (hK2 : (K : Int) + 1 ≤ f.emax + 1074) : bd (K + 2) (FP.Core.round f (FP.Core.exactSum x y)) := by
  obtain ⟨s, c, q, rfl, hq1, hc⟩ := hx
  obtain ⟨t, d, r, rfl, hr1, hd⟩ := hy
  show bd (K + 2) (FP.Core.roundRatio f (FP.Core.sumSign s t _) (FP.Core.sumUnits s c q t d r (min q r)).natAbs 1 (min q r))
  generalize FP.Core.sumSign s t _ = sg
  obtain ⟨e, he⟩ : ∃ e, min q r = e := ⟨_, rfl⟩
  rw [he]
  have heq : e ≤ q := by omega
  have her : e ≤ r := by omega
  have he0 : -1074 ≤ e := by omega
  have hA : (FP.Core.sumUnits s c q t d r e).natAbs ≤ c * 2 ^ (q - e).toNat + d * 2 ^ (r - e).toNat := by
    unfold FP.Core.sumUnits FP.Core.inUnits
    have h1 := fl_sgn_abs s (c * 2 ^ (q - e).toNat)
    have h2 := fl_sgn_abs t (d * 2 ^ (r - e).toNat)
    omega
  have hx2 : c * 2 ^ (q - e).toNat * 2 ^ (e + 1074).toNat < 2 ^ K := by
    rw [Nat.mul_assoc, ← Nat.pow_add]
    have e1 : (q - e).toNat + (e + 1074).toNat = (q + 1074).toNat := by omega
    rw [e1]; exact hc
  have hy2 : d * 2 ^ (r - e).toNat * 2 ^ (e + 1074).toNat < 2 ^ K := by
    rw [Nat.mul_assoc, ← Nat.pow_add]
    have e1 : (r - e).toNat + (e + 1074).toNat = (r + 1074).toNat := by omega
    rw [e1]; exact hd
  generalize (FP.Core.sumUnits s c q t d r e).natAbs = A at hA ⊢
  have hAu : A * 2 ^ (e + 1074).toNat < 2 ^ (K + 1) := by
    calc A * 2 ^ (e + 1074).toNat ≤ (c * 2 ^ (q - e).toNat + d * 2 ^ (r - e).toNat) * 2 ^ (e + 1074).toNat := Nat.mul_le_mul_right _ hA
      _ = c * 2 ^ (q - e).toNat * 2 ^ (e + 1074).toNat + d * 2 ^ (r - e).toNat * 2 ^ (e + 1074).toNat := Nat.add_mul _ _ _
      _ < 2 ^ (K + 1) := by rw [Nat.pow_succ]; omega
  have fin : ∀ k : Nat, A < 2 ^ k → (k : Int) + e + 1074 ≤ (K + 1 : Nat) → bd (K + 2) (FP.Core.roundRatio f sg A 1 e) := by
    intro k h1 h2
    obtain ⟨c', q', e1, e2, e3⟩ := fl_rr_bd h hq sg h1 h2 (by omega) (by omega)
    exact ⟨sg, c', q', e1, e2, Nat.lt_of_le_of_lt e3 (Nat.pow_lt_pow_right (by decide) (by omega))⟩
  by_cases hb : (e + 1074).toNat ≤ K + 1
  · refine fin (K + 1 - (e + 1074).toNat) ?_ (by omega)
    have e1 : 2 ^ (K + 1) = 2 ^ (K + 1 - (e + 1074).toNat) * 2 ^ (e + 1074).toNat := by rw [← Nat.pow_add]; congr 1; omega
    rw [e1] at hAu
    exact Nat.lt_of_mul_lt_mul_right hAu
  · have hA0 : A = 0 := by
      rcases Nat.eq_zero_or_pos A with h0 | h0
      · exact h0
      · exfalso
        have h1 : 2 ^ (K + 1) ≤ 2 ^ (e + 1074).toNat := fl_pw (by omega)
        have h2 : 1 * 2 ^ (e + 1074).toNat ≤ A * 2 ^ (e + 1074).toNat := Nat.mul_le_mul_right _ h0
        omega
    subst hA0
    refine ⟨sg, 0, f.qmin, ?_, hq, by rw [Nat.zero_mul]; exact Nat.two_pow_pos _⟩
    unfold FP.Core.roundRatio; rw [if_pos rfl]
theorem fl_lt_split {c K j : Nat} (hj : j ≤ K) (h : c * 2 ^ j < 2 ^ K) : c < 2 ^ (K - j) := by
  have e1 : 2 ^ K = 2 ^ (K - j) * 2 ^ j := by rw [← Nat.pow_add]; congr 1; omega
  rw [e1] at h
  exact Nat.lt_of_mul_lt_mul_right h
theorem fl_zero_of {c K j : Nat} (hj : K < j) (h : c * 2 ^ j < 2 ^ K) : c = 0 := by
  rcases Nat.eq_zero_or_pos c with h0 | h0
  · exact h0
  · exfalso
    have h1 : 2 ^ K ≤ 2 ^ j := fl_pw (by omega)
    have h2 : 1 * 2 ^ j ≤ c * 2 ^ j := Nat.mul_le_mul_right _ h0
    omega
theorem bd_prod {f : FP.Core.Fmt} (h : Gf f) (hq : -1074 ≤ f.qmin) {K L : Nat} {x y : FP.Core.Datum} (hx : bd K x) (hy : bd L y) (hK1 : f.qmin + 2148 ≤ (K + L : Nat)) (hK2 : ((K + L : Nat) : Int) ≤ f.emax + 2148) : bd (K + L - 1073) (FP.Core.round f (FP.Core.exactProduct x y)) := by
  obtain ⟨s, c, q, rfl, hq1, hc⟩ := hx
  obtain ⟨t, d, r, rfl, hr1, hd⟩ := hy
  show bd (K + L - 1073) (FP.Core.roundRatio f (s != t) (c * d) 1 (q + r))
  by_cases hz : c = 0 ∨ d = 0
  · have hz0 : c * d = 0 := by rcases hz with h0 | h0 <;> simp [h0]
    rw [hz0]
    refine ⟨(s != t), 0, f.qmin, ?_, hq, by rw [Nat.zero_mul]; exact Nat.two_pow_pos _⟩
    unfold FP.Core.roundRatio; rw [if_pos rfl]
  · have j1 : (q + 1074).toNat ≤ K := by
      rcases Nat.lt_or_ge K (q + 1074).toNat with h1 | h1
      · exact absurd (Or.inl (fl_zero_of h1 hc)) hz
      · exact h1
    have j2 : (r + 1074).toNat ≤ L := by
      rcases Nat.lt_or_ge L (r + 1074).toNat with h1 | h1
      · exact absurd (Or.inr (fl_zero_of h1 hd)) hz
      · exact h1
    have c1 := fl_lt_split j1 hc
    have d1 := fl_lt_split j2 hd
    have hA : c * d < 2 ^ (K - (q + 1074).toNat + (L - (r + 1074).toNat)) := by
      rw [Nat.pow_add]
      exact Nat.mul_lt_mul'' c1 d1
    obtain ⟨c', q', e1, e2, e3⟩ := fl_rr_bd (K := K + L - 1074) (e := q + r) h hq (s != t) hA (by omega) (by omega) (by omega)
    exact ⟨(s != t), c', q', e1, e2, Nat.lt_of_le_of_lt e3 (Nat.pow_lt_pow_right (by decide) (by omega))⟩
theorem bD_add {K : Nat} {x y : UInt64} (hx : bD K x) (hy : bD K y) (hK : K ≤ 2096 := by omega) : bD (K + 2) (FP.dadd x y) := by
  obtain ⟨h1, h2, h3, h4, h5, h6⟩ := fl_c64
  unfold bD; rw [v64_add]; exact bd_sum Gf64 (by omega) hx hy (by omega) (by omega)
theorem bD_sub {K : Nat} {x y : UInt64} (hx : bD K x) (hy : bD K y) (hK : K ≤ 2096 := by omega) : bD (K + 2) (FP.dsub x y) := by
  obtain ⟨h1, h2, h3, h4, h5, h6⟩ := fl_c64
  unfold bD; rw [v64_sub]; exact bd_sum Gf64 (by omega) hx (bd_neg hy) (by omega) (by omega)
theorem bF_add {K : Nat} {x y : UInt32} (hx : bF K x) (hy : bF K y) (hK : K ≤ 1200 := by omega) (hK2 : 925 ≤ K := by omega) : bF (K + 2) (FP.fadd x y) := by
  obtain ⟨h1, h2, h3, h4, h5, h6⟩ := fl_c32
  unfold bF; rw [v32_add]; exact bd_sum Gf32 (by omega) hx hy (by omega) (by omega)
theorem bF_sub {K : Nat} {x y : UInt32} (hx : bF K x) (hy : bF K y) (hK : K ≤ 1200 := by omega) (hK2 : 925 ≤ K := by omega) : bF (K + 2) (FP.fsub x y) := by
  obtain ⟨h1, h2, h3, h4, h5, h6⟩ := fl_c32
  unfold bF; rw [v32_sub]; exact bd_sum Gf32 (by omega) hx (bd_neg hy) (by omega) (by omega)
theorem bD_mul {K L : Nat} {x y : UInt64} (hx : bD K x) (hy : bD L y) (h1 : 1074 ≤ K + L := by omega) (h2 : K + L ≤ 3171 := by omega) : bD (K + L - 1073) (FP.dmul x y) := by
  obtain ⟨k1, k2, k3, k4, k5, k6⟩ := fl_c64
  unfold bD; rw [v64_mul]; exact bd_prod Gf64 (by omega) hx hy (by omega) (by omega)
theorem bF_mul {K L : Nat} {x y : UInt32} (hx : bF K x) (hy : bF L y) (h1 : 1999 ≤ K + L := by omega) (h2 : K + L ≤ 2275 := by omega) : bF (K + L - 1073) (FP.fmul x y) := by
  obtain ⟨k1, k2, k3, k4, k5, k6⟩ := fl_c32
  unfold bF; rw [v32_mul]; exact bd_prod Gf32 (by omega) hx hy (by omega) (by omega)
/-! no NaN -/
theorem fl_fin_sum {x y : FP.Core.Datum} (hx : x ≠ .nan) (hy : ∃ s c q, y = .fin s c q) : FP.Core.exactSum x y ≠ .nan := by
  obtain ⟨s, c, q, rfl⟩ := hy
  cases x with
  | nan => exact absurd rfl hx
  | inf t => intro h; cases h
  | fin t d r => intro h; cases h
theorem fl_fin_sum' {x y : FP.Core.Datum} (hx : ∃ s c q, x = .fin s c q) (hy : y ≠ .nan) : FP.Core.exactSum x y ≠ .nan := by
  obtain ⟨s, c, q, rfl⟩ := hx
  cases y with
  | nan => exact absurd rfl hy
  | inf t => intro h; cases h
  | fin t d r => intro h; cases h
theorem bd_fin {K : Nat} {d : FP.Core.Datum} (h : bd K d) : ∃ s c q, d = .fin s c q := by
  obtain ⟨s, c, q, h1, -⟩ := h; exact ⟨s, c, q, h1⟩
theorem nD_add {K : Nat} {x y : UInt64} (hx : vf_n64 x) (hy : bD K y) : vf_n64 (FP.dadd x y) := by
  rw [nD_val, v64_add]; exact fl_round_nan (fl_fin_sum ((nD_val x).mp hx) (bd_fin hy))
theorem nD_add' {K : Nat} {x y : UInt64} (hx : bD K x) (hy : vf_n64 y) : vf_n64 (FP.dadd x y) := by
  rw [nD_val, v64_add]; exact fl_round_nan (fl_fin_sum' (bd_fin hx) ((nD_val y).mp hy))
theorem nF_add {K : Nat} {x y : UInt32} (hx : vf_n32 x) (hy : bF K y) : vf_n32 (FP.fadd x y) := by
  rw [nF_val, v32_add]; exact fl_round_nan (fl_fin_sum ((nF_val x).mp hx) (bd_fin hy))
theorem nF_add' {K : Nat} {x y : UInt32} (hx : bF K x) (hy : vf_n32 y) : vf_n32 (FP.fadd x y) := by
  rw [nF_val, v32_add]; exact fl_round_nan (fl_fin_sum' (bd_fin hx) ((nF_val y).mp hy))
theorem nD_sub {K L : Nat} {x y : UInt64} (hx : bD K x) (hy : bD L y) : vf_n64 (FP.dsub x y) := by
  rw [nD_val, v64_sub]; exact fl_round_nan (fl_fin_sum (by obtain ⟨s, c, q, h1⟩ := bd_fin hx; rw [h1]; intro e; cases e) (bd_fin (bd_neg hy)))
theorem nF_sub {K L : Nat} {x y : UInt32} (hx : bF K x) (hy : bF L y) : vf_n32 (FP.fsub x y) := by
  rw [nF_val, v32_sub]; exact fl_round_nan (fl_fin_sum (by obtain ⟨s, c, q, h1⟩ := bd_fin hx; rw [h1]; intro e; cases e) (bd_fin (bd_neg hy)))
theorem nD_mul {K L : Nat} {x y : UInt64} (hx : bD K x) (hy : bD L y) : vf_n64 (FP.dmul x y) := by
  rw [nD_val, v64_mul]
  obtain ⟨s, c, q, h1⟩ := bd_fin hx
  obtain ⟨t, d, r, h2⟩ := bd_fin hy
  have e1 : v64 x = _ := h1
  have e2 : v64 y = _ := h2
  rw [e1, e2]
  exact fl_round_nan (by intro e; cases e)
theorem nF_mul {K L : Nat} {x y : UInt32} (hx : bF K x) (hy : bF L y) : vf_n32 (FP.fmul x y) := by
  rw [nF_val, v32_mul]
  obtain ⟨s, c, q, h1⟩ := bd_fin hx
  obtain ⟨t, d, r, h2⟩ := bd_fin hy
  have e1 : v32 x = _ := h1
  have e2 : v32 y = _ := h2
  rw [e1, e2]
  exact fl_round_nan (by intro e; cases e)
/-- not zero: a finite number other than the two zeros -/
def nzD (x : UInt64) : Prop := ∃ s c q, v64 x = .fin s c q ∧ 0 < c
def nzF (x : UInt32) : Prop := ∃ s c q, v32 x = .fin s c q ∧ 0 < c
theorem fl_quot_nan {f : FP.Core.Fmt} {x y : FP.Core.Datum} (hx : x ≠ .nan) (hy : ∃ s c q, y = .fin s c q ∧ 0 < c) : FP.Core.quotient f x y ≠ .nan := by
  obtain ⟨s, c, q, rfl, hc⟩ := hy
  cases x with
  | nan => exact absurd rfl hx
  | inf t => intro h; cases h
  | fin t d r =>
    show (if c = 0 then _ else _) ≠ _
    rw [if_neg (by omega)]
    exact fl_rr_ne _ _ _ _ _
theorem nD_div {x y : UInt64} (hx : vf_n64 x) (hy : nzD y) : vf_n64 (FP.ddiv x y) := by
  rw [nD_val, v64_div]; exact fl_quot_nan ((nD_val x).mp hx) hy
theorem nF_div {x y : UInt32} (hx : vf_n32 x) (hy : nzF y) : vf_n32 (FP.fdiv x y) := by
  rw [nF_val, v32_div]; exact fl_quot_nan ((nF_val x).mp hx) hy
theorem nD_mulz {x y : UInt64} (hx : nzD x) (hy : vf_n64 y) : vf_n64 (FP.dmul x y) := by
  rw [nD_val, v64_mul]
  obtain ⟨s, c, q, h1, hc⟩ := hx
  rw [h1]
  have := (nD_val y).mp hy
  generalize v64 y = Y at *
  cases Y with
  | nan => exact absurd rfl this
  | inf t =>
    show FP.Core.round _ (if c = 0 then _ else _) ≠ _
    rw [if_neg (by omega)]; intro e; cases e
  | fin t d r => exact fl_round_nan (by intro e; cases e)
theorem nF_mulz {x y : UInt32} (hx : nzF x) (hy : vf_n32 y) : vf_n32 (FP.fmul x y) := by
  rw [nF_val, v32_mul]
  obtain ⟨s, c, q, h1, hc⟩ := hx
  rw [h1]
  have := (nF_val y).mp hy
  generalize v32 y = Y at *
  cases Y with
  | nan => exact absurd rfl this
  | inf t =>
    show FP.Core.round _ (if c = 0 then _ else _) ≠ _
    rw [if_neg (by omega)]; intro e; cases e
  | fin t d r => exact fl_round_nan (by intro e; cases e)
