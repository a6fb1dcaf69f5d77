/-! floats, from the core's own words: formats, encodings, rounding -/
def Gf (f : FP.Core.Fmt) : Prop := 2 ≤ f.w ∧ 2 ≤ f.p
theorem Gf64 : Gf FP.Core.b64 := by unfold Gf; decide
theorem Gf32 : Gf FP.Core.b32 := by unfold Gf; decide
theorem fl_tp (f : FP.Core.Fmt) : 0 < f.tails := Nat.two_pow_pos _
theorem fl_ep (f : FP.Core.Fmt) : 0 < f.exps := Nat.two_pow_pos _
theorem fl_2p {k : Nat} (h : 1 ≤ k) : 2 ^ k = 2 * 2 ^ (k - 1) := by
  obtain ⟨j, rfl⟩ : ∃ j, k = j + 1 := ⟨k - 1, by omega⟩
  rw [Nat.pow_succ, Nat.add_sub_cancel]; omega
theorem fl_p {f : FP.Core.Fmt} (h : Gf f) : 2 ^ f.p = 2 * f.tails := fl_2p (by have := h.2; omega)
theorem fl_e {f : FP.Core.Fmt} (h : Gf f) : f.exps = 2 * f.emax + 2 := by
  have h1 : 2 ^ f.w = 2 * 2 ^ (f.w - 1) := fl_2p (by have := h.1; omega)
  have h2 : 0 < 2 ^ (f.w - 1) := Nat.two_pow_pos _
  unfold FP.Core.Fmt.exps FP.Core.Fmt.emax
  omega
theorem fl_em {f : FP.Core.Fmt} (h : Gf f) : 1 ≤ f.emax := by
  have h2 : 2 ^ (f.w - 1) = 2 * 2 ^ (f.w - 1 - 1) := fl_2p (by have := h.1; omega)
  have h3 : 0 < 2 ^ (f.w - 1 - 1) := Nat.two_pow_pos _
  unfold FP.Core.Fmt.emax
  omega
theorem fl_q (f : FP.Core.Fmt) : f.qmax - f.qmin = 2 * (f.emax : Int) - 1 := by
  unfold FP.Core.Fmt.qmax FP.Core.Fmt.qmin; omega
theorem fl_asm {f : FP.Core.Fmt} {s : Bool} {e t : Nat} (he : e < f.exps) (ht : t < f.tails) : FP.Core.fieldT f (FP.Core.assemble f s e t) = t ∧ FP.Core.fieldE f (FP.Core.assemble f s e t) = e ∧ FP.Core.fieldS f (FP.Core.assemble f s e t) = s := by
  have hd : FP.Core.assemble f s e t / f.tails = s.toNat * f.exps + e := by
    unfold FP.Core.assemble
    rw [Nat.mul_comm, Nat.mul_add_div (fl_tp f), Nat.div_eq_of_lt ht, Nat.add_zero]
  refine ⟨?_, ?_, ?_⟩
  · unfold FP.Core.fieldT FP.Core.assemble
    rw [Nat.mul_comm, Nat.mul_add_mod, Nat.mod_eq_of_lt ht]
  · unfold FP.Core.fieldE
    rw [hd, Nat.mul_comm, Nat.mul_add_mod, Nat.mod_eq_of_lt he]
  · unfold FP.Core.fieldS
    rw [hd, Nat.mul_comm, Nat.mul_add_div (fl_ep f), Nat.div_eq_of_lt he, Nat.add_zero]
    cases s <;> rfl
theorem fl_dec_asm {f : FP.Core.Fmt} {s : Bool} {e t : Nat} (he : e < f.exps) (ht : t < f.tails) : FP.Core.decode f (FP.Core.assemble f s e t) = if e = f.exps - 1 then (if t = 0 then .inf s else .nan) else if e = 0 then .fin s t f.qmin else .fin s (f.tails + t) (f.qmin + ((e : Int) - 1)) := by
  obtain ⟨h1, h2, h3⟩ := fl_asm (s := s) he ht
  unfold FP.Core.decode
  rw [h1, h2, h3]
/-- what is written is read again -/
theorem fl_dec_enc {f : FP.Core.Fmt} (h : Gf f) {d : FP.Core.Datum} (hd : FP.Core.fits f d) : FP.Core.decode f (FP.Core.encode f d) = d := by
  have hp := fl_p h
  have he := fl_e h
  have hm := fl_em h
  have hq := fl_q f
  have ht := fl_tp f
  cases d with
  | nan =>
    have h2 : 0 < 2 ^ (f.p - 2) := Nat.two_pow_pos _
    have h3 : 2 ^ (f.p - 2) < f.tails := by
      unfold FP.Core.Fmt.tails
      have := h.2
      exact Nat.pow_lt_pow_right (by decide) (by omega)
    show FP.Core.decode f (FP.Core.assemble f false (f.exps - 1) (2 ^ (f.p - 2))) = _
    rw [fl_dec_asm (by omega) h3, if_pos rfl, if_neg (by omega)]
  | inf s =>
    show FP.Core.decode f (FP.Core.assemble f s (f.exps - 1) 0) = _
    rw [fl_dec_asm (by omega) ht, if_pos rfl, if_pos rfl]
  | fin s c q =>
    obtain ⟨h1, h2, h3, h4⟩ := hd
    show FP.Core.decode f (if c < f.tails then _ else _) = _
    by_cases hc : c < f.tails
    · rw [if_pos hc, fl_dec_asm (by omega) hc, if_neg (by omega), if_pos rfl]
      rcases h4 with h4 | h4
      · rw [h4]
      · omega
    · rw [if_neg hc]
      have e1 : (q - f.qmin).toNat + 1 < f.exps := by omega
      rw [fl_dec_asm e1 (by omega), if_neg (by omega), if_neg (by omega)]
      congr 1
      · omega
      · omega
theorem fl_enc_lt {f : FP.Core.Fmt} (h : Gf f) {d : FP.Core.Datum} (hd : FP.Core.fits f d) : FP.Core.encode f d < 2 * f.exps * f.tails := by
  have key : ∀ (s : Bool) (e t : Nat), e < f.exps → t < f.tails → FP.Core.assemble f s e t < 2 * f.exps * f.tails := by
    intro s e t he ht
    unfold FP.Core.assemble
    have h1 : s.toNat * f.exps + e < 2 * f.exps := by cases s <;> simp [Bool.toNat] <;> omega
    have h2 : (s.toNat * f.exps + e + 1) * f.tails ≤ 2 * f.exps * f.tails := Nat.mul_le_mul_right _ h1
    rw [Nat.add_mul] at h2
    omega
  have hp := fl_p h
  have he := fl_e h
  have hm := fl_em h
  have hq := fl_q f
  have ht := fl_tp f
  cases d with
  | nan =>
    refine key _ _ _ (by omega) ?_
    unfold FP.Core.Fmt.tails
    have := h.2
    exact Nat.pow_lt_pow_right (by decide) (by omega)
  | inf s => exact key _ _ _ (by omega) ht
  | fin s c q =>
    obtain ⟨h1, h2, h3, h4⟩ := hd
    show (if c < f.tails then _ else _) < _
    by_cases hc : c < f.tails
    · rw [if_pos hc]; exact key _ _ _ (by omega) hc
    · rw [if_neg hc]; exact key _ _ _ (by omega) (by omega)
/-- a datum that is read fits -/
theorem fl_dec_fits {f : FP.Core.Fmt} (h : Gf f) (n : Nat) : FP.Core.fits f (FP.Core.decode f n) := by
  have hp := fl_p h
  have he := fl_e h
  have hm := fl_em h
  have hq := fl_q f
  have ht := fl_tp f
  have hT : FP.Core.fieldT f n < f.tails := Nat.mod_lt _ ht
  have hE : FP.Core.fieldE f n < f.exps := Nat.mod_lt _ (fl_ep f)
  unfold FP.Core.decode
  split
  · split <;> trivial
  · split
    · exact ⟨by omega, Int.le_refl _, by omega, Or.inl rfl⟩
    · exact ⟨by omega, by omega, by omega, Or.inr (by omega)⟩
/-- the leading digit's place, from below and from above -/
theorem fl_log {n : Nat} (h : 0 < n) : 2 ^ n.log2 ≤ n ∧ n < 2 ^ (n.log2 + 1) := ⟨Nat.log2_self_le (by omega), Nat.lt_log2_self⟩
theorem fl_lead {A B : Nat} (hA : 0 < A) (hB : 0 < B) : B * 2 ^ (FP.Core.leading A B).toNat ≤ A * 2 ^ (-(FP.Core.leading A B)).toNat := by
  obtain ⟨a1, a2⟩ := fl_log hA
  obtain ⟨b1, b2⟩ := fl_log hB
  unfold FP.Core.leading
  dsimp only
  split
  · assumption
  · rename_i hn
    by_cases hk : B.log2 + 1 ≤ A.log2
    · obtain ⟨j, hj⟩ : ∃ j, A.log2 = B.log2 + 1 + j := ⟨A.log2 - B.log2 - 1, by omega⟩
      have e1 : ((A.log2 : Int) - B.log2 - 1).toNat = j := by omega
      have e2 : (-((A.log2 : Int) - B.log2 - 1)).toNat = 0 := by omega
      rw [e1, e2, Nat.pow_zero, Nat.mul_one]
      have h2 : 2 ^ A.log2 = 2 ^ (B.log2 + 1) * 2 ^ j := by rw [hj, Nat.pow_add]
      have h3 : B * 2 ^ j ≤ 2 ^ (B.log2 + 1) * 2 ^ j := Nat.mul_le_mul_right _ (by omega)
      omega
    · obtain ⟨j, hj⟩ : ∃ j, B.log2 + 1 = A.log2 + j := ⟨B.log2 + 1 - A.log2, by omega⟩
      have e1 : ((A.log2 : Int) - B.log2 - 1).toNat = 0 := by omega
      have e2 : (-((A.log2 : Int) - B.log2 - 1)).toNat = j := by omega
      rw [e1, e2, Nat.pow_zero, Nat.mul_one]
      have h2 : 2 ^ (B.log2 + 1) = 2 ^ A.log2 * 2 ^ j := by rw [hj, Nat.pow_add]
      have h3 : 2 ^ A.log2 * 2 ^ j ≤ A * 2 ^ j := Nat.mul_le_mul_right _ a1
      omega
