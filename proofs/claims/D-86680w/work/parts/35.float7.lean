/-! exact roundings; what isn't zero -/
theorem fl_lead1 {A : Nat} (hA : 0 < A) : FP.Core.leading A 1 = (A.log2 : Int) := by
  unfold FP.Core.leading
  have e1 : Nat.log2 1 = 0 := by decide
  dsimp only
  rw [e1]
  have e2 : ((A.log2 : Int) - ((0 : Nat) : Int)).toNat = A.log2 := by omega
  have e3 : (-((A.log2 : Int) - ((0 : Nat) : Int))).toNat = 0 := by omega
  rw [e2, e3, Nat.pow_zero, Nat.mul_one, Nat.one_mul, if_pos (fl_log hA).1]
  omega
/-- a magnitude of few digits is kept -/
theorem fl_rr_exact {f : FP.Core.Fmt} (h : Gf f) (s : Bool) {A : Nat} {e : Int} (hA : A < 2 ^ f.p) (he : f.qmin ≤ e) (he2 : e ≤ f.qmax) : ∃ c q, FP.Core.roundRatio f s A 1 e = .fin s c q ∧ f.qmin ≤ q ∧ q ≤ e ∧ c = A * 2 ^ (e - q).toNat := by
  unfold FP.Core.roundRatio
  by_cases h0 : A = 0
  · rw [if_pos h0]; exact ⟨0, f.qmin, rfl, Int.le_refl _, he, by rw [h0, Nat.zero_mul]⟩
  · rw [if_neg h0]
    have hA1 : 0 < A := Nat.pos_of_ne_zero h0
    have hl := fl_log hA1
    have hlk : A.log2 < f.p := (Nat.pow_lt_pow_iff_right (by decide)).mp (Nat.lt_of_le_of_lt hl.1 hA)
    obtain ⟨q, hqd⟩ : ∃ q, FP.Core.quantum f A 1 e = q := ⟨_, rfl⟩
    have hqv : q = max f.qmin ((A.log2 : Int) + e - ((f.p : Int) - 1)) := by
      rw [← hqd]; unfold FP.Core.quantum; rw [fl_lead1 hA1]
    have hqe : q ≤ e := by omega
    have hqm : f.qmin ≤ q := by omega
    rw [hqd]
    unfold FP.Core.roundAt
    have e1 : FP.Core.unitsNum A e q = A * 2 ^ (e - q).toNat * 1 := by unfold FP.Core.unitsNum; rw [Nat.mul_one]
    have e2 : FP.Core.unitsDen 1 e q = 1 := by
      unfold FP.Core.unitsDen
      rw [show (q - e).toNat = 0 by omega]
    rw [e1, e2, fl_near_exact _ (by decide)]
    have hlt : A * 2 ^ (e - q).toNat < 2 ^ f.p := by
      have h1 : A * 2 ^ (e - q).toNat < 2 ^ (A.log2 + 1) * 2 ^ (e - q).toNat := Nat.mul_lt_mul_of_pos_right hl.2 (Nat.two_pow_pos _)
      rw [← Nat.pow_add] at h1
      refine Nat.lt_of_lt_of_le h1 (Nat.pow_le_pow_right (by decide) ?_)
      omega
    unfold FP.Core.settle
    rw [if_pos hlt]
    unfold FP.Core.bound
    rw [if_pos (by omega)]
    exact ⟨_, q, rfl, hqm, hqe, rfl⟩
theorem fl_rr_nz {f : FP.Core.Fmt} (h : Gf f) {s : Bool} {A : Nat} {e : Int} (hA : 0 < A) (he : f.qmin ≤ e) {s' : Bool} {c : Nat} {q : Int} (hr : FP.Core.roundRatio f s A 1 e = .fin s' c q) : 0 < c := by
  unfold FP.Core.roundRatio at hr
  rw [if_neg (by omega)] at hr
  unfold FP.Core.roundAt at hr
  have hn : 0 < FP.Core.nearest (FP.Core.unitsNum A e (FP.Core.quantum f A 1 e)) (FP.Core.unitsDen 1 e (FP.Core.quantum f A 1 e)) := by
    rcases (fl_q_tails h hA (B := 1) (by decide) e).2 with h1 | h1
    · rw [h1]
      have e2 : FP.Core.unitsDen 1 e f.qmin = 1 := by
        unfold FP.Core.unitsDen
        rw [show (f.qmin - e).toNat = 0 by omega]
      rw [e2]
      refine fl_near_ge (M := 1) (by decide) ?_
      unfold FP.Core.unitsNum
      have := Nat.mul_pos hA (Nat.two_pow_pos (e - f.qmin).toNat)
      omega
    · exact Nat.lt_of_lt_of_le (fl_tp f) h1
  generalize FP.Core.nearest (FP.Core.unitsNum A e (FP.Core.quantum f A 1 e)) (FP.Core.unitsDen 1 e (FP.Core.quantum f A 1 e)) = N at hr hn
  unfold FP.Core.settle FP.Core.bound at hr
  split at hr
  · split at hr
    · cases hr; exact hn
    · cases hr
  · split at hr
    · cases hr; exact fl_tp f
    · cases hr
theorem fl_sub_nz {f : FP.Core.Fmt} (h : Gf f) (hf : -1074 ≤ f.qmin) {s t : Bool} {c d : Nat} {q r : Int} (hq : f.qmin ≤ q) (hr : f.qmin ≤ r) (hne : zv (.fin s c q) ≠ zv (.fin t d r)) {s' : Bool} {c' : Nat} {q' : Int} (hR : FP.Core.round f (FP.Core.exactSum (.fin s c q) (FP.Core.negate (.fin t d r))) = .fin s' c' q') : 0 < c' := by
  have hR : FP.Core.roundRatio f (FP.Core.sumSign s (!t) (FP.Core.sumUnits s c q (!t) d r (min q r))) (FP.Core.sumUnits s c q (!t) d r (min q r)).natAbs 1 (min q r) = .fin s' c' q' := hR
  obtain ⟨e, he⟩ : ∃ e, min q r = e := ⟨_, rfl⟩
  rw [he] at hR
  refine fl_rr_nz h ?_ (by omega) hR
  apply Int.natAbs_pos.mpr
  intro h0
  apply hne
  unfold FP.Core.sumUnits FP.Core.inUnits at h0
  rw [zv_f, zv_f]
  have e1 : c * 2 ^ (q + 1074).toNat = c * 2 ^ (q - e).toNat * 2 ^ (e + 1074).toNat := by
    rw [Nat.mul_assoc, ← Nat.pow_add]; congr 2; omega
  have e2 : d * 2 ^ (r + 1074).toNat = d * 2 ^ (r - e).toNat * 2 ^ (e + 1074).toNat := by
    rw [Nat.mul_assoc, ← Nat.pow_add]; congr 2; omega
  have e3 : ∀ n : Nat, FP.Core.signed (!t) n = -FP.Core.signed t n := by
    intro n; cases t <;> simp [FP.Core.signed]
  rw [e3] at h0
  have h1 : FP.Core.signed s (c * 2 ^ (q - e).toNat) = FP.Core.signed t (d * 2 ^ (r - e).toNat) := by omega
  rw [e1, e2, fl_sgn_mul s (c * 2 ^ (q - e).toNat), fl_sgn_mul t (d * 2 ^ (r - e).toNat), h1]
theorem nzD_sub {K : Nat} {x y : UInt64} (hx : bD K x) (hy : bD K y) (hne : zD x ≠ zD y) (hK : K ≤ 2096 := by omega) : nzD (FP.dsub x y) := by
  obtain ⟨s', c', q', hR⟩ := bD_f (bD_sub hx hy hK)
  obtain ⟨s, c, q, h1⟩ := bD_f hx
  obtain ⟨t, d, r, h2⟩ := bD_f hy
  refine ⟨s', c', q', hR, ?_⟩
  rw [v64_sub, h1, h2] at hR
  unfold zD at hne
  rw [h1, h2] at hne
  exact fl_sub_nz Gf64 (by decide) (by have := (fl_q64 h1).1; exact this) (by have := (fl_q64 h2).1; exact this) hne hR
theorem nzF_sub {K : Nat} {x y : UInt32} (hx : bF K x) (hy : bF K y) (hne : zF x ≠ zF y) (hK : K ≤ 1200 := by omega) (hK2 : 925 ≤ K := by omega) : nzF (FP.fsub x y) := by
  obtain ⟨s', c', q', hR⟩ := bF_f (bF_sub hx hy hK hK2)
  obtain ⟨s, c, q, h1⟩ := bF_f hx
  obtain ⟨t, d, r, h2⟩ := bF_f hy
  refine ⟨s', c', q', hR, ?_⟩
  rw [v32_sub, h1, h2] at hR
  unfold zF at hne
  rw [h1, h2] at hne
  exact fl_sub_nz Gf32 (by decide) (by have := (fl_q32 h1).1; exact this) (by have := (fl_q32 h2).1; exact this) hne hR
theorem nzD_lt {K : Nat} {x y : UInt64} (hx : bD K x) (hy : bD K y) (h : fx_lt x y = true) (hK : K ≤ 2096 := by omega) : nzD (FP.dsub y x) := by
  refine nzD_sub hy hx ?_ hK
  rw [fx_lt_z (bD_f hx) (bD_f hy)] at h
  have := of_decide_eq_true h
  omega
theorem nzF_lt {K : Nat} {x y : UInt32} (hx : bF K x) (hy : bF K y) (h : fy_lt x y = true) (hK : K ≤ 1200 := by omega) (hK2 : 925 ≤ K := by omega) : nzF (FP.fsub y x) := by
  refine nzF_sub hy hx ?_ hK hK2
  rw [fy_lt_z (bF_f hx) (bF_f hy)] at h
  have := of_decide_eq_true h
  omega
theorem nzD_ne {K : Nat} {x : UInt64} (hx : bD K x) (h : fx_eq x FP.dconst0 = false) : nzD x := by
  refine nzD_z (bD_f hx) ?_
  rw [fx_eq_z (bD_f hx) fD_0, zD_0] at h
  exact of_decide_eq_false h
theorem nzF_ne {K : Nat} {x : UInt32} (hx : bF K x) (h : fy_eq x FP.fconst0 = false) : nzF x := by
  refine nzF_z (bF_f hx) ?_
  rw [fy_eq_z (bF_f hx) fF_0, zF_0] at h
  exact of_decide_eq_false h
/-- a float as a double: the same number -/
theorem zD_f2d {x : UInt32} (h : fF x) : fD (FP.f2d x) ∧ zD (FP.f2d x) = zF x := by
  obtain ⟨s, c, q, h1⟩ := h
  obtain ⟨h2, h3, h4⟩ := fl_q32 h1
  have hn : vf_n32 x := (nF_val x).mpr (by rw [h1]; exact fun e => by cases e)
  have hv := v64_f2d hn
  rw [h1] at hv
  obtain ⟨c', q', e1, e2, e3, e4⟩ := fl_rr_exact Gf64 s (A := c) (e := q) (Nat.lt_of_lt_of_le h4 (by decide)) (by show (-1074 : Int) ≤ q; omega) (by show q ≤ (971 : Int); omega)
  have hv : v64 (FP.f2d x) = .fin s c' q' := hv.trans e1
  have e2 : (-1074 : Int) ≤ q' := e2
  refine ⟨⟨s, c', q', hv⟩, ?_⟩
  unfold zD zF
  rw [hv, h1, zv_f, zv_f, e4, Nat.mul_assoc, ← Nat.pow_add]
  congr 3
  omega
