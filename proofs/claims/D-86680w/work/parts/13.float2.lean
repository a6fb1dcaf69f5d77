theorem fl_near_ge {A B M : Nat} (hB : 0 < B) (h : M * B ≤ A) : M ≤ FP.Core.nearest A B := by
  have h1 : M ≤ A / B := (Nat.le_div_iff_mul_le hB).mpr h
  unfold FP.Core.nearest
  split
  · exact h1
  · split <;> omega
/-- no more than the next whole number -/
theorem fl_near_le {A B M : Nat} (hB : 0 < B) (h : A ≤ M * B) : FP.Core.nearest A B ≤ M := by
  have h1 : A / B ≤ M := by
    have := Nat.div_le_div_right (c := B) h
    rwa [Nat.mul_div_cancel _ hB] at this
  have h2 := Nat.div_add_mod A B
  have h3 : A / B = M → A % B = 0 := by
    intro e
    rw [e, Nat.mul_comm] at h2
    omega
  unfold FP.Core.nearest
  split
  · exact h1
  · split
    · rename_i h4 h5
      rcases Nat.lt_or_ge (A / B) M with h6 | h6
      · omega
      · have := h3 (by omega); omega
    · rename_i h4 h5
      rcases Nat.lt_or_ge (A / B) M with h6 | h6
      · have : A / B % 2 ≤ 1 := by omega
        omega
      · have := h3 (by omega); omega
theorem fl_near_mono {A A' B : Nat} (hB : 0 < B) (h : A ≤ A') : FP.Core.nearest A B ≤ FP.Core.nearest A' B := by
  have h1 : A / B ≤ A' / B := Nat.div_le_div_right h
  have a1 := Nat.div_add_mod A B
  have a2 := Nat.div_add_mod A' B
  have m1 := Nat.mod_lt A hB
  have m2 := Nat.mod_lt A' hB
  rcases Nat.lt_or_ge (A / B) (A' / B) with h2 | h2
  · have k1 : FP.Core.nearest A B ≤ A / B + 1 := fl_near_le hB (by rw [Nat.add_mul, Nat.mul_comm]; omega)
    have k2 : A' / B ≤ FP.Core.nearest A' B := fl_near_ge hB (Nat.div_mul_le_self A' B)
    omega
  · have e : A / B = A' / B := by omega
    rw [e] at a1
    have h3 : A % B ≤ A' % B := by omega
    unfold FP.Core.nearest
    rw [e]
    split <;> split <;> (try split) <;> (try split) <;> omega
theorem fl_near_exact (M : Nat) {B : Nat} (hB : 0 < B) : FP.Core.nearest (M * B) B = M := Nat.le_antisymm (fl_near_le hB (Nat.le_refl _)) (fl_near_ge hB (Nat.le_refl _))
theorem fl_near_scale {A B k : Nat} (hk : 0 < k) : FP.Core.nearest (A * k) (B * k) = FP.Core.nearest A B := by
  unfold FP.Core.nearest
  rw [Nat.mul_mod_mul_right, Nat.mul_div_mul_right _ _ hk]
  have e1 : 2 * (A % B * k) < B * k ↔ 2 * (A % B) < B := by rw [← Nat.mul_assoc]; exact Nat.mul_lt_mul_right hk
  have e2 : B * k < 2 * (A % B * k) ↔ B < 2 * (A % B) := by rw [← Nat.mul_assoc]; exact Nat.mul_lt_mul_right hk
  simp only [e1, e2]
theorem fl_den_pos {B : Nat} (hB : 0 < B) (e q : Int) : 0 < FP.Core.unitsDen B e q := Nat.mul_pos hB (Nat.two_pow_pos _)
/-- what is rounded keeps its digits: at the least exponent, or with a leading digit -/
theorem fl_q_tails {f : FP.Core.Fmt} (hf : Gf f) {A B : Nat} (hA : 0 < A) (hB : 0 < B) (e : Int) : f.qmin ≤ FP.Core.quantum f A B e ∧ (FP.Core.quantum f A B e = f.qmin ∨ f.tails ≤ FP.Core.nearest (FP.Core.unitsNum A e (FP.Core.quantum f A B e)) (FP.Core.unitsDen B e (FP.Core.quantum f A B e))) := by
  have hl := fl_lead hA hB
  have hq : FP.Core.quantum f A B e = max f.qmin (FP.Core.leading A B + e - ((f.p : Int) - 1)) := rfl
  refine ⟨by rw [hq]; omega, ?_⟩
  by_cases h : FP.Core.leading A B + e - ((f.p : Int) - 1) ≤ f.qmin
  · left; rw [hq]; omega
  · right
    have h2 : FP.Core.quantum f A B e = FP.Core.leading A B + e - ((f.p : Int) - 1) := by rw [hq]; omega
    rw [h2]
    apply fl_near_ge (fl_den_pos hB _ _)
    unfold FP.Core.unitsNum FP.Core.unitsDen FP.Core.Fmt.tails
    generalize FP.Core.leading A B = L at *
    have hp : ((f.p - 1 : Nat) : Int) = (f.p : Int) - 1 ∨ f.p = 0 := by omega
    have e1 : e - (L + e - ((f.p : Int) - 1)) = (f.p : Int) - 1 - L := by omega
    have e2 : L + e - ((f.p : Int) - 1) - e = L - ((f.p : Int) - 1) := by omega
    rw [e1, e2]
    generalize hP : f.p - 1 = P
    have hp0 : ¬ f.p = 0 := by have := hf.2; omega
    · have hPp : (f.p : Int) - 1 = (P : Int) := by omega
      rw [hPp]
      by_cases hL : (P : Int) ≤ L
      · obtain ⟨j, hj⟩ : ∃ j : Nat, L = P + j := ⟨(L - P).toNat, by omega⟩
        have k1 : (L - (P : Int)).toNat = j := by omega
        have k2 : ((P : Int) - L).toNat = 0 := by omega
        have k3 : L.toNat = P + j := by omega
        have k4 : (-L).toNat = 0 := by omega
        rw [k1, k2, Nat.pow_zero, Nat.mul_one]
        rw [k3, k4, Nat.pow_zero, Nat.mul_one, Nat.pow_add] at hl
        calc 2 ^ P * (B * 2 ^ j) = B * (2 ^ P * 2 ^ j) := by rw [← Nat.mul_assoc, Nat.mul_comm (2 ^ P) B, Nat.mul_assoc]
          _ ≤ A := hl
      · have k1 : (L - (P : Int)).toNat = 0 := by omega
        rw [k1, Nat.pow_zero, Nat.mul_one]
        by_cases hL0 : 0 ≤ L
        · obtain ⟨j, hj⟩ : ∃ j : Nat, (P : Int) = L + j := ⟨((P : Int) - L).toNat, by omega⟩
          have k2 : ((P : Int) - L).toNat = j := by omega
          have k3 : (-L).toNat = 0 := by omega
          have k4 : P = L.toNat + j := by omega
          rw [k2]
          rw [k3, Nat.pow_zero, Nat.mul_one] at hl
          calc 2 ^ P * B = B * 2 ^ L.toNat * 2 ^ j := by rw [k4, Nat.pow_add, Nat.mul_comm, Nat.mul_assoc]
            _ ≤ A * 2 ^ j := Nat.mul_le_mul_right _ hl
        · have k2 : ((P : Int) - L).toNat = (-L).toNat + P := by omega
          have k3 : L.toNat = 0 := by omega
          rw [k2]
          rw [k3, Nat.pow_zero, Nat.mul_one] at hl
          calc 2 ^ P * B = B * 2 ^ P := Nat.mul_comm _ _
            _ ≤ A * 2 ^ (-L).toNat * 2 ^ P := Nat.mul_le_mul_right _ hl
            _ = A * 2 ^ ((-L).toNat + P) := by rw [Nat.pow_add, Nat.mul_assoc]
theorem fl_settle_fits {f : FP.Core.Fmt} (h : Gf f) {s : Bool} {c : Nat} {q : Int} (h1 : f.qmin ≤ q) (h2 : q = f.qmin ∨ f.tails ≤ c) : FP.Core.fits f (FP.Core.settle f s c q) := by
  have hp := fl_p h
  have ht := fl_tp f
  unfold FP.Core.settle FP.Core.bound
  split
  · rename_i hc
    split
    · rename_i hq
      exact ⟨hc, h1, hq, h2⟩
    · trivial
  · split
    · rename_i hq
      exact ⟨by omega, by omega, hq, Or.inr (Nat.le_refl _)⟩
    · trivial
theorem fl_rr_fits {f : FP.Core.Fmt} (h : Gf f) (s : Bool) (A : Nat) {B : Nat} (hB : 0 < B) (e : Int) : FP.Core.fits f (FP.Core.roundRatio f s A B e) := by
  unfold FP.Core.roundRatio
  split
  · have hp := fl_p h
    have ht := fl_tp f
    have hq := fl_q f
    have hm := fl_em h
    exact ⟨by omega, Int.le_refl _, by omega, Or.inl rfl⟩
  · rename_i hA
    obtain ⟨a, b⟩ := fl_q_tails h (Nat.pos_of_ne_zero hA) hB e
    exact fl_settle_fits h a b
theorem fl_rr_ne (f : FP.Core.Fmt) (s : Bool) (A B : Nat) (e : Int) : FP.Core.roundRatio f s A B e ≠ .nan := by
  unfold FP.Core.roundRatio FP.Core.roundAt FP.Core.settle FP.Core.bound
  split
  · intro h; cases h
  · split <;> split <;> intro h <;> cases h
theorem fl_round_fits {f : FP.Core.Fmt} (h : Gf f) (d : FP.Core.Datum) : FP.Core.fits f (FP.Core.round f d) := by
  cases d with
  | nan => trivial
  | inf s => trivial
  | fin s c q => exact fl_rr_fits h s c (by decide) q
theorem fl_round_nan {f : FP.Core.Fmt} {d : FP.Core.Datum} (h : d ≠ .nan) : FP.Core.round f d ≠ .nan := by
  cases d with
  | nan => exact absurd rfl h
  | inf s => intro h; cases h
  | fin s c q => exact fl_rr_ne f s c 1 q
/-! doubles and floats as data -/
def v64 (x : UInt64) : FP.Core.Datum := FP.Core.decode FP.Core.b64 x.toNat
def v32 (x : UInt32) : FP.Core.Datum := FP.Core.decode FP.Core.b32 x.toNat
theorem v64_of {d : FP.Core.Datum} (h : FP.Core.fits FP.Core.b64 d) : v64 (.ofNat (FP.Core.encode FP.Core.b64 d)) = d := by
  unfold v64
  have h1 := fl_enc_lt Gf64 h
  have h2 : (2 * FP.Core.b64.exps * FP.Core.b64.tails) = 2 ^ 64 := by decide
  rw [UInt64.toNat_ofNat_of_lt' (by rw [h2] at h1; exact h1)]
  exact fl_dec_enc Gf64 h
theorem v32_of {d : FP.Core.Datum} (h : FP.Core.fits FP.Core.b32 d) : v32 (.ofNat (FP.Core.encode FP.Core.b32 d)) = d := by
  unfold v32
  have h1 := fl_enc_lt Gf32 h
  have h2 : (2 * FP.Core.b32.exps * FP.Core.b32.tails) = 2 ^ 32 := by decide
  rw [UInt32.toNat_ofNat_of_lt' (by rw [h2] at h1; exact h1)]
  exact fl_dec_enc Gf32 h
theorem v64_fits (x : UInt64) : FP.Core.fits FP.Core.b64 (v64 x) := fl_dec_fits Gf64 _
theorem v32_fits (x : UInt32) : FP.Core.fits FP.Core.b32 (v32 x) := fl_dec_fits Gf32 _
theorem fl_quot_fits {f : FP.Core.Fmt} (h : Gf f) (x y : FP.Core.Datum) : FP.Core.fits f (FP.Core.quotient f x y) := by
  have hp := fl_p h
  have ht := fl_tp f
  have hq := fl_q f
  have hm := fl_em h
  cases x with
  | nan => trivial
  | inf s => cases y <;> trivial
  | fin s c q =>
    cases y with
    | nan => trivial
    | inf t => exact ⟨by omega, Int.le_refl _, by omega, Or.inl rfl⟩
    | fin t d r =>
      show FP.Core.fits f (if d = 0 then _ else _)
      split
      · split <;> trivial
      · exact fl_rr_fits h _ c (by omega) _
theorem v64_add (x y : UInt64) : v64 (FP.dadd x y) = FP.Core.round FP.Core.b64 (FP.Core.exactSum (v64 x) (v64 y)) := v64_of (fl_round_fits Gf64 _)
theorem v64_sub (x y : UInt64) : v64 (FP.dsub x y) = FP.Core.round FP.Core.b64 (FP.Core.exactSum (v64 x) (FP.Core.negate (v64 y))) := v64_of (fl_round_fits Gf64 _)
theorem v64_mul (x y : UInt64) : v64 (FP.dmul x y) = FP.Core.round FP.Core.b64 (FP.Core.exactProduct (v64 x) (v64 y)) := v64_of (fl_round_fits Gf64 _)
theorem v64_div (x y : UInt64) : v64 (FP.ddiv x y) = FP.Core.quotient FP.Core.b64 (v64 x) (v64 y) := v64_of (fl_quot_fits Gf64 _ _)
theorem v32_add (x y : UInt32) : v32 (FP.fadd x y) = FP.Core.round FP.Core.b32 (FP.Core.exactSum (v32 x) (v32 y)) := v32_of (fl_round_fits Gf32 _)
theorem v32_sub (x y : UInt32) : v32 (FP.fsub x y) = FP.Core.round FP.Core.b32 (FP.Core.exactSum (v32 x) (FP.Core.negate (v32 y))) := v32_of (fl_round_fits Gf32 _)
theorem v32_mul (x y : UInt32) : v32 (FP.fmul x y) = FP.Core.round FP.Core.b32 (FP.Core.exactProduct (v32 x) (v32 y)) := v32_of (fl_round_fits Gf32 _)
theorem v32_div (x y : UInt32) : v32 (FP.fdiv x y) = FP.Core.quotient FP.Core.b32 (v32 x) (v32 y) := v32_of (fl_quot_fits Gf32 _ _)
theorem v64_i2d (i : Int32) : v64 (FP.i2d i) = FP.Core.round FP.Core.b64 (FP.Core.ofInt i.toInt) := v64_of (fl_round_fits Gf64 _)
theorem v64_l2d (i : Int64) : v64 (FP.l2d i) = FP.Core.round FP.Core.b64 (FP.Core.ofInt i.toInt) := v64_of (fl_round_fits Gf64 _)
