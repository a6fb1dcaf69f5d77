/-! from one format to the other -/
theorem v32_d2f {x : UInt64} (h : vf_n64 x) : v32 (FP.d2f x) = FP.Core.round FP.Core.b32 (v64 x) := by
  have h1 : FP.Core.dIsNaN x = false := by
    have := (nD_val x).mp h
    show decide (FP.Core.decode FP.Core.b64 x.toNat = .nan) = false
    exact decide_eq_false this
  unfold FP.d2f
  rw [h1]
  exact v32_of (fl_round_fits Gf32 _)
theorem v64_f2d {x : UInt32} (h : vf_n32 x) : v64 (FP.f2d x) = FP.Core.round FP.Core.b64 (v32 x) := by
  have h1 : FP.Core.fIsNaN x = false := by
    have := (nF_val x).mp h
    show decide (FP.Core.decode FP.Core.b32 x.toNat = .nan) = false
    exact decide_eq_false this
  unfold FP.f2d
  rw [h1]
  exact v64_of (fl_round_fits Gf64 _)
theorem nF_d2f {x : UInt64} (h : vf_n64 x) : vf_n32 (FP.d2f x) := by
  rw [nF_val, v32_d2f h]; exact fl_round_nan ((nD_val x).mp h)
theorem nD_f2d {x : UInt32} (h : vf_n32 x) : vf_n64 (FP.f2d x) := by
  rw [nD_val, v64_f2d h]; exact fl_round_nan ((nF_val x).mp h)
theorem bd_round {f : FP.Core.Fmt} (h : Gf f) (hq : -1074 ≤ f.qmin) {K : Nat} {x : FP.Core.Datum} (hx : bd K x) (hK1 : f.qmin + 1074 ≤ K) (hK2 : (K : Int) ≤ f.emax + 1074) : bd (K + 1) (FP.Core.round f x) := by
  obtain ⟨s, c, q, rfl, hq1, hc⟩ := hx
  show bd (K + 1) (FP.Core.roundRatio f s c 1 q)
  by_cases hz : K < (q + 1074).toNat
  · have h0 := fl_zero_of hz hc
    subst h0
    refine ⟨s, 0, f.qmin, ?_, hq, by rw [Nat.zero_mul]; exact Nat.two_pow_pos _⟩
    unfold FP.Core.roundRatio; rw [if_pos rfl]
  · have c1 := fl_lt_split (by omega) hc
    obtain ⟨c', q', e1, e2, e3⟩ := fl_rr_bd (K := K) (e := q) h hq s c1 (by omega) (by omega) (by omega)
    exact ⟨s, c', q', e1, e2, Nat.lt_of_le_of_lt e3 (Nat.pow_lt_pow_right (by decide) (by omega))⟩
theorem bF_d2f {K : Nat} {x : UInt64} (h : bD K x) (h1 : 925 ≤ K := by omega) (h2 : K ≤ 1201 := by omega) : bF (K + 1) (FP.d2f x) := by
  obtain ⟨k1, k2, k3, k4, k5, k6⟩ := fl_c32
  unfold bF; rw [v32_d2f (bD_n h)]; exact bd_round Gf32 (by omega) h (by omega) (by omega)
theorem bD_f2d {K : Nat} {x : UInt32} (h : bF K x) (h2 : K ≤ 2097 := by omega) : bD (K + 1) (FP.f2d x) := by
  obtain ⟨k1, k2, k3, k4, k5, k6⟩ := fl_c64
  unfold bD; rw [v64_f2d (bF_n h)]; exact bd_round Gf64 (by omega) h (by omega) (by omega)
