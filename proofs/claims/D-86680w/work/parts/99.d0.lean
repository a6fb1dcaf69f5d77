/-! rounding told by values (units of 2^-1074) -/
def rQ (a p n : Nat) : Nat := max a (n.log2 - p)
def rV (a p n : Nat) : Nat := FP.Core.nearest n (2 ^ rQ a p n) * 2 ^ rQ a p n
theorem log2_mp {A : Nat} (hA : 0 < A) (k : Nat) : (A * 2 ^ k).log2 = A.log2 + k := by
  have h1 := fl_log hA
  have h2 : 0 < A * 2 ^ k := Nat.mul_pos hA (Nat.two_pow_pos _)
  apply Nat.le_antisymm
  · have h3 : A * 2 ^ k < 2 ^ (A.log2 + k + 1) := by
      rw [show A.log2 + k + 1 = (A.log2 + 1) + k by omega, Nat.pow_add]
      exact Nat.mul_lt_mul_of_pos_right h1.2 (Nat.two_pow_pos _)
    have h4 := (Nat.log2_lt (by omega)).mpr h3
    omega
  · have h3 : 2 ^ (A.log2 + k) ≤ A * 2 ^ k := by rw [Nat.pow_add]; exact Nat.mul_le_mul_right _ h1.1
    exact (Nat.le_log2 (by omega)).mpr h3
theorem log2_mono {n m : Nat} (h0 : 0 < n) (h : n ≤ m) : n.log2 ≤ m.log2 := (Nat.le_log2 (by omega)).mpr (Nat.le_trans (fl_log h0).1 h)
theorem near_0 (B : Nat) : FP.Core.nearest 0 (2 ^ B) = 0 := by
  have := fl_near_exact 0 (Nat.two_pow_pos B)
  rw [Nat.zero_mul] at this; exact this
theorem rV_0 (a p : Nat) : rV a p 0 = 0 := by unfold rV; rw [near_0, Nat.zero_mul]
theorem rQ_le {a p n : Nat} : n < 2 ^ (rQ a p n + p + 1) := by
  rcases Nat.eq_zero_or_pos n with rfl | h
  · exact Nat.two_pow_pos _
  · exact Nat.lt_of_lt_of_le (fl_log h).2 (Nat.pow_le_pow_right (by decide) (by unfold rQ; omega))
theorem rV_le (a p n : Nat) : FP.Core.nearest n (2 ^ rQ a p n) ≤ 2 ^ (p + 1) := by
  refine fl_near_le (Nat.two_pow_pos _) ?_
  rw [← Nat.pow_add]
  exact Nat.le_of_lt (by rw [Nat.add_comm]; exact rQ_le)
theorem rV_mono {a p n m : Nat} (h : n ≤ m) : rV a p n ≤ rV a p m := by
  rcases Nat.eq_zero_or_pos n with rfl | h0
  · rw [rV_0]; exact Nat.zero_le _
  · have hl := log2_mono h0 h
    have hq : rQ a p n ≤ rQ a p m := by unfold rQ; omega
    rcases Nat.lt_or_ge (rQ a p n) (rQ a p m) with h1 | h1
    · have hm : rQ a p m = m.log2 - p ∧ p ≤ m.log2 := by unfold rQ at h1 ⊢; omega
      have h2 : 2 ^ p * 2 ^ rQ a p m ≤ m := by
        rw [← Nat.pow_add, show p + rQ a p m = m.log2 by omega]; exact (fl_log (by omega)).1
      have h3 : 2 ^ p * 2 ^ rQ a p m ≤ rV a p m := Nat.mul_le_mul_right _ (fl_near_ge (Nat.two_pow_pos _) h2)
      refine Nat.le_trans ?_ h3
      refine Nat.le_trans (Nat.mul_le_mul_right _ (rV_le a p n)) ?_
      rw [← Nat.pow_add, ← Nat.pow_add]
      exact Nat.pow_le_pow_right (by decide) (by omega)
    · have e : rQ a p n = rQ a p m := by omega
      unfold rV; rw [e]
      exact Nat.mul_le_mul_right _ (fl_near_mono (Nat.two_pow_pos _) h)
theorem rV_exact {a p n M : Nat} (h : n = M * 2 ^ rQ a p n) : rV a p n = n := by
  unfold rV
  generalize rQ a p n = q at h ⊢
  rw [h, fl_near_exact _ (Nat.two_pow_pos _)]
/-- what has few digits is kept -/
theorem rV_keep {a p M k : Nat} (hM : M < 2 ^ (p + 1)) (hk : a ≤ k) : rV a p (M * 2 ^ k) = M * 2 ^ k := by
  rcases Nat.eq_zero_or_pos M with rfl | h0
  · rw [Nat.zero_mul, rV_0]
  · have hl : M.log2 ≤ p := by have := (Nat.log2_lt (by omega)).mpr hM; omega
    have hq : rQ a p (M * 2 ^ k) ≤ k := by unfold rQ; rw [log2_mp h0]; omega
    refine rV_exact (M := M * 2 ^ (k - rQ a p (M * 2 ^ k))) ?_
    rw [Nat.mul_assoc, ← Nat.pow_add]
    congr 2; omega
theorem rr_val {f : FP.Core.Fmt} (hf : Gf f) (hq : -1074 ≤ f.qmin) {s s' : Bool} {A c : Nat} {e q : Int} (he : -1074 ≤ e) (h : FP.Core.roundRatio f s A 1 e = .fin s' c q) : s' = s ∧ -1074 ≤ q ∧ c * 2 ^ (q + 1074).toNat = rV (f.qmin + 1074).toNat (f.p - 1) (A * 2 ^ (e + 1074).toNat) := by
  unfold FP.Core.roundRatio at h
  by_cases hA : A = 0
  · subst hA
    rw [if_pos rfl] at h
    cases h
    exact ⟨rfl, hq, by rw [Nat.zero_mul, Nat.zero_mul, rV_0]⟩
  · have hA' : 0 < A := by omega
    rw [if_neg hA] at h
    have hp := hf.2
    have hQ : rQ (f.qmin + 1074).toNat (f.p - 1) (A * 2 ^ (e + 1074).toNat) = (FP.Core.quantum f A 1 e + 1074).toNat := by
      unfold rQ FP.Core.quantum; rw [log2_mp hA', fl_lead1 hA']; omega
    have hqq : -1074 ≤ FP.Core.quantum f A 1 e := by unfold FP.Core.quantum; omega
    have hle := rV_le (f.qmin + 1074).toNat (f.p - 1) (A * 2 ^ (e + 1074).toNat)
    rw [hQ, show f.p - 1 + 1 = f.p by omega] at hle
    generalize FP.Core.quantum f A 1 e = Q at h hQ hqq hle
    have hn : FP.Core.nearest (FP.Core.unitsNum A e Q) (FP.Core.unitsDen 1 e Q) = FP.Core.nearest (A * 2 ^ (e + 1074).toNat) (2 ^ (Q + 1074).toNat) := by
      unfold FP.Core.unitsNum FP.Core.unitsDen
      rcases Int.le_total Q e with h1 | h1
      · have e1 : (e + 1074).toNat = (e - Q).toNat + (Q + 1074).toNat := by omega
        rw [e1, Nat.pow_add, ← Nat.mul_assoc, show (Q - e).toNat = 0 by omega]
        have h2 := fl_near_scale (A := A * 2 ^ (e - Q).toNat) (B := 1) (k := 2 ^ (Q + 1074).toNat) (Nat.two_pow_pos _)
        rw [Nat.one_mul] at h2
        rw [h2, Nat.pow_zero, Nat.mul_one]
      · have e1 : (Q + 1074).toNat = (Q - e).toNat + (e + 1074).toNat := by omega
        rw [e1, Nat.pow_add, show (e - Q).toNat = 0 by omega, Nat.pow_zero, Nat.mul_one, Nat.one_mul]
        exact (fl_near_scale (Nat.two_pow_pos _)).symm
    unfold FP.Core.roundAt FP.Core.settle FP.Core.bound at h
    rw [hn] at h
    unfold rV; rw [hQ]
    generalize FP.Core.nearest (A * 2 ^ (e + 1074).toNat) (2 ^ (Q + 1074).toNat) = cc at h hle ⊢
    split at h
    · split at h
      · cases h; exact ⟨rfl, hqq, rfl⟩
      · cases h
    · split at h
      · rename_i h1 h2
        cases h
        refine ⟨rfl, by omega, ?_⟩
        have h3 : cc = 2 * f.tails := by have := fl_p hf; omega
        rw [h3, show (Q + 1 + 1074).toNat = (Q + 1074).toNat + 1 by omega, Nat.pow_succ]
        rw [Nat.mul_comm (2 ^ (Q + 1074).toNat) 2, ← Nat.mul_assoc, Nat.mul_comm f.tails 2]
      · cases h
/-- a value rounded, with its sign -/
def rZ (a p : Nat) (z : Int) : Int := FP.Core.signed (decide (z < 0)) (rV a p z.natAbs)
theorem rZ_mono {a p : Nat} {y z : Int} (h : y ≤ z) : rZ a p y ≤ rZ a p z := by
  unfold rZ
  by_cases h1 : y < 0 <;> by_cases h2 : z < 0
  · rw [decide_eq_true h1, decide_eq_true h2, fl_st, fl_st]
    have := rV_mono (a := a) (p := p) (show z.natAbs ≤ y.natAbs by omega); omega
  · rw [decide_eq_true h1, decide_eq_false h2, fl_st, fl_sf]; omega
  · omega
  · rw [decide_eq_false h1, decide_eq_false h2, fl_sf, fl_sf]
    have := rV_mono (a := a) (p := p) (show y.natAbs ≤ z.natAbs by omega); omega
theorem rZ_sgn {a p : Nat} {s : Bool} {c : Nat} : FP.Core.signed s (rV a p c) = rZ a p (FP.Core.signed s c) := by
  unfold rZ
  rw [fl_sgn_abs]
  rcases Nat.eq_zero_or_pos c with rfl | h
  · rw [rV_0]; cases s <;> rfl
  · cases s
    · rw [fl_sf, fl_sf, decide_eq_false (by omega), fl_sf]
    · rw [fl_st, fl_st, decide_eq_true (by omega), fl_st]
/-- a datum rounded -/
theorem zv_round {f : FP.Core.Fmt} (hf : Gf f) (hq : -1074 ≤ f.qmin) {s s' : Bool} {A c : Nat} {e q : Int} (he : -1074 ≤ e) (h : FP.Core.round f (.fin s A e) = .fin s' c q) : zv (.fin s' c q) = rZ (f.qmin + 1074).toNat (f.p - 1) (zv (.fin s A e)) := by
  obtain ⟨rfl, h1, h2⟩ := rr_val hf hq he h
  rw [zv_f, zv_f, h2]
  exact rZ_sgn
theorem zv_sum {s t : Bool} {c d : Nat} {q r : Int} (hq : -1074 ≤ q) (hr : -1074 ≤ r) : ∃ s' c' e, FP.Core.exactSum (.fin s c q) (.fin t d r) = .fin s' c' e ∧ -1074 ≤ e ∧ zv (.fin s' c' e) = zv (.fin s c q) + zv (.fin t d r) := by
  refine ⟨_, _, _, rfl, (show -1074 ≤ min q r by omega), ?_⟩
  obtain ⟨e, he⟩ : ∃ e, min q r = e := ⟨_, rfl⟩
  rw [he]
  have e1 : c * 2 ^ (q + 1074).toNat = c * 2 ^ (q - e).toNat * 2 ^ (e + 1074).toNat := by
    rw [Nat.mul_assoc, ← Nat.pow_add]; congr 2; omega
  have e2 : d * 2 ^ (r + 1074).toNat = d * 2 ^ (r - e).toNat * 2 ^ (e + 1074).toNat := by
    rw [Nat.mul_assoc, ← Nat.pow_add]; congr 2; omega
  rw [zv_f, zv_f, zv_f, e1, e2, fl_sgn_mul s (c * 2 ^ (q - e).toNat), fl_sgn_mul t (d * 2 ^ (r - e).toNat), ← Int.add_mul]
  have e3 : FP.Core.sumUnits s c q t d r e = FP.Core.signed s (c * 2 ^ (q - e).toNat) + FP.Core.signed t (d * 2 ^ (r - e).toNat) := rfl
  rw [← e3]
  generalize FP.Core.sumUnits s c q t d r e = u
  unfold FP.Core.sumSign
  rw [fl_sgn_mul]
  congr 1
  by_cases hu : u = 0
  · subst hu; rw [if_pos rfl]; cases s <;> cases t <;> rfl
  · rw [if_neg hu]
    by_cases h : u < 0
    · rw [decide_eq_true h, fl_st]; omega
    · rw [decide_eq_false h, fl_sf]; omega
abbrev rd64 (z : Int) : Int := rZ 0 52 z
abbrev rd32 (z : Int) : Int := rZ 925 23 z
theorem zD_addR {x y : UInt64} (hx : fD x) (hy : fD y) (hr : fD (FP.dadd x y)) : zD (FP.dadd x y) = rd64 (zD x + zD y) := by
  obtain ⟨s, c, q, h1⟩ := hx
  obtain ⟨t, d, r, h2⟩ := hy
  obtain ⟨s1, c1, q1, h3⟩ := hr
  have h4 := v64_add x y
  unfold zD
  rw [h1, h2] at h4 ⊢
  rw [h3] at h4 ⊢
  obtain ⟨s2, c2, e2, e3, e4, e5⟩ := zv_sum (s := s) (t := t) (c := c) (d := d) (fl_q64 h1).1 (fl_q64 h2).1
  rw [e3] at h4
  rw [← e5]
  exact zv_round Gf64 (by decide) e4 h4.symm
theorem zv_neg (s : Bool) (c : Nat) (q : Int) : zv (FP.Core.negate (.fin s c q)) = -zv (.fin s c q) := by
  show zv (.fin (!s) c q) = _
  rw [zv_f, zv_f]; cases s <;> simp [FP.Core.signed]
theorem zD_subR {x y : UInt64} (hx : fD x) (hy : fD y) (hr : fD (FP.dsub x y)) : zD (FP.dsub x y) = rd64 (zD x - zD y) := by
  obtain ⟨s, c, q, h1⟩ := hx
  obtain ⟨t, d, r, h2⟩ := hy
  obtain ⟨s1, c1, q1, h3⟩ := hr
  have h4 := v64_sub x y
  unfold zD
  rw [h1, h2] at h4 ⊢
  rw [h3] at h4 ⊢
  have hn : FP.Core.negate (.fin t d r) = .fin (!t) d r := rfl
  rw [hn] at h4
  obtain ⟨s2, c2, e2, e3, e4, e5⟩ := zv_sum (s := s) (t := !t) (c := c) (d := d) (fl_q64 h1).1 (fl_q64 h2).1
  rw [e3] at h4
  rw [← hn, zv_neg] at e5
  rw [Int.sub_eq_add_neg, ← e5]
  exact zv_round Gf64 (by decide) e4 h4.symm
theorem zF_d2fR {x : UInt64} (hx : fD x) (hr : fF (FP.d2f x)) : zF (FP.d2f x) = rd32 (zD x) := by
  have hn : vf_n64 x := by obtain ⟨s, c, q, h⟩ := hx; rw [nD_val, h]; simp
  have h4 := v32_d2f hn
  obtain ⟨s, c, q, h1⟩ := hx
  obtain ⟨s1, c1, q1, h3⟩ := hr
  unfold zF zD
  rw [h1] at h4 ⊢
  rw [h3] at h4 ⊢
  exact zv_round Gf32 (by decide) (fl_q64 h1).1 h4.symm
/-- single numbers in order come of double ones in order -/
theorem d2f_gt {a b : UInt64} (ha : bD 1075 a) (hb : bD 1075 b) (h : fy_gt (FP.d2f a) (FP.d2f b) = true) : fx_gt a b = true := by
  have fa := bF_f (bF_d2f ha)
  have fb := bF_f (bF_d2f hb)
  rw [fy_gt_z fa fb] at h
  have h := of_decide_eq_true h
  rw [fx_gt_z (bD_f ha) (bD_f hb)]
  apply decide_eq_true
  rw [zF_d2fR (bD_f ha) fa, zF_d2fR (bD_f hb) fb] at h
  rcases Int.lt_or_le (zD b) (zD a) with h1 | h1
  · exact h1
  · exact absurd h (Int.not_lt.mpr (rZ_mono (a := 925) (p := 23) h1))
/-! the nearest whole number -/
def k52 : UInt64 := 4841369599423283200
theorem k52_v : v64 k52 = .fin false 4503599627370496 0 := by decide +kernel
theorem k52_f : fD k52 := ⟨_, _, _, k52_v⟩
theorem k52_z : zD k52 = ((2 ^ 52 * 2 ^ 1074 : Nat) : Int) := by
  unfold zD; rw [k52_v, zv_f, fl_sf, show ((0 : Int) + 1074).toNat = 1074 from rfl, show (4503599627370496 : Nat) = 2 ^ 52 from rfl]
theorem rd64_nat (n : Nat) : rd64 (n : Int) = (rV 0 52 n : Int) := by
  unfold rd64 rZ; rw [decide_eq_false (by omega), fl_sf]; rfl
/-- a great number is whole, and a whole one is kept -/
theorem rV_whole {n m : Nat} (U : Nat) (h0 : 2 ^ 52 * 2 ^ U ≤ n) : ∃ M, rV 0 52 n = M * 2 ^ U := by
  have hp : 0 < n := Nat.lt_of_lt_of_le (Nat.mul_pos (Nat.two_pow_pos _) (Nat.two_pow_pos _)) h0
  rw [← Nat.pow_add] at h0
  have hl := (Nat.le_log2 (by omega)).mpr h0
  refine ⟨FP.Core.nearest n (2 ^ rQ 0 52 n) * 2 ^ (rQ 0 52 n - U), ?_⟩
  unfold rV
  rw [Nat.mul_assoc, ← Nat.pow_add]
  congr 2
  unfold rQ; omega
def rnA (x : UInt64) : UInt64 := if fx_lt x k52 then FP.dsub (FP.dadd k52 x) k52 else x
theorem bD_k52 : bD 1127 k52 := by
  rw [bD_z k52_f, k52_z, Int.natAbs_natCast, ← Nat.pow_add]
  exact Nat.pow_lt_pow_right (by decide) (by decide)
theorem rn_law {x : UInt64} (hx : fD x) {n : Nat} (hz : zD x = (n : Int)) (hn : n ≤ 1000000 * 2 ^ 1074) : bD 1131 (rnA x) ∧ (∃ k : Nat, k ≤ 1000001 ∧ zD (rnA x) = ((k * 2 ^ 1074 : Nat) : Int)) ∧ (∀ k : Nat, n = k * 2 ^ 1074 → zD (rnA x) = zD x) := by
  obtain ⟨U, hU⟩ : ∃ U : Nat, U = 1074 := ⟨_, rfl⟩
  have hbx : bD 1127 x := by
    rw [bD_z hx, hz, Int.natAbs_natCast]
    refine Nat.lt_of_le_of_lt hn (Nat.lt_of_lt_of_le (Nat.mul_lt_mul_of_pos_right (show 1000000 < 2 ^ 20 by decide) (Nat.two_pow_pos _)) ?_)
    rw [← Nat.pow_add]; exact Nat.pow_le_pow_right (by decide) (by decide)
  have b1 : bD 1129 (FP.dadd k52 x) := bD_add bD_k52 hbx
  have b2 : bD 1131 (FP.dsub (FP.dadd k52 x) k52) := bD_sub b1 (bD_up bD_k52)
  have zk := k52_z
  rw [← hU] at hn zk ⊢
  have hP : 0 < 2 ^ U := Nat.two_pow_pos _
  have hge : fx_lt x k52 = true := by
    rw [fx_lt_z hx k52_f]
    apply decide_eq_true
    rw [hz, zk]
    generalize 2 ^ U = V at hn hP
    omega
  have e : rnA x = FP.dsub (FP.dadd k52 x) k52 := by unfold rnA; rw [hge]; rfl
  have z1 := zD_addR k52_f hx (bD_f b1)
  rw [zk, hz, ← Int.natCast_add, rd64_nat] at z1
  have z2 := zD_subR (bD_f b1) k52_f (bD_f b2)
  rw [zk, z1] at z2
  obtain ⟨M, hM⟩ := rV_whole (m := 0) U (n := 2 ^ 52 * 2 ^ U + n) (by omega)
  have hlo : 2 ^ 52 * 2 ^ U ≤ rV 0 52 (2 ^ 52 * 2 ^ U + n) := by
    have h1 := rV_mono (a := 0) (p := 52) (show 2 ^ 52 * 2 ^ U ≤ 2 ^ 52 * 2 ^ U + n by omega)
    rw [rV_keep (by decide) (Nat.zero_le _)] at h1; exact h1
  have hhi : rV 0 52 (2 ^ 52 * 2 ^ U + n) ≤ (2 ^ 52 + 1000000) * 2 ^ U := by
    have h1 := rV_mono (a := 0) (p := 52) (show 2 ^ 52 * 2 ^ U + n ≤ (2 ^ 52 + 1000000) * 2 ^ U by rw [Nat.add_mul]; omega)
    rw [rV_keep (by decide) (Nat.zero_le _)] at h1; exact h1
  rw [hM] at z2 hlo hhi
  have m1 := Nat.le_of_mul_le_mul_right hlo hP
  have m2 := Nat.le_of_mul_le_mul_right hhi hP
  have z3 : zD (FP.dsub (FP.dadd k52 x) k52) = (((M - 2 ^ 52) * 2 ^ U : Nat) : Int) := by
    rw [z2, ← Int.ofNat_sub (Nat.mul_le_mul_right _ m1), ← Nat.sub_mul, rd64_nat, rV_keep (by omega) (Nat.zero_le _)]
  rw [e]
  refine ⟨b2, ⟨M - 2 ^ 52, by omega, z3⟩, fun k hk => ?_⟩
  rw [z3, hz]
  have hkm : rV 0 52 (2 ^ 52 * 2 ^ U + n) = (2 ^ 52 + k) * 2 ^ U := by
    rw [hk, ← Nat.add_mul]
    refine rV_keep ?_ (Nat.zero_le _)
    rw [hk] at hn
    have := Nat.le_of_mul_le_mul_right hn hP
    omega
  rw [hM] at hkm
  have hMk := Nat.eq_of_mul_eq_mul_right hP hkm
  rw [hk, hMk, show 2 ^ 52 + k - 2 ^ 52 = k by omega]
