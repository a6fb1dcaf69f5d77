/-! settings that are let in are small; sweeps, halves -/
theorem wi_fin {s lo hi : UInt64} (hl : fD lo) (hh : fD hi) (h : wiB s lo hi = true) : fD s ∧ zD lo ≤ zD s ∧ zD s ≤ zD hi := by
  unfold wiB at h
  rw [Bool.and_eq_true] at h
  obtain ⟨h1, h2⟩ := h
  have hs : fD s := by
    cases hv : v64 s with
    | nan =>
      exfalso
      unfold fx_ge at h1
      have e : FP.dcmp s lo = none := by
        show FP.Core.order (v64 s) (v64 lo) = none
        rw [hv]; rfl
      rw [e] at h1; cases h1
    | inf b =>
      exfalso
      obtain ⟨a1, c1, q1, e1⟩ := hl
      obtain ⟨a2, c2, q2, e2⟩ := hh
      unfold fx_ge at h1; unfold fx_le at h2
      have f1 : FP.dcmp s lo = some (compare (FP.Core.signed b 1) 0) := by
        show FP.Core.order (v64 s) (v64 lo) = _; rw [hv, e1]; rfl
      have f2 : FP.dcmp s hi = some (compare (FP.Core.signed b 1) 0) := by
        show FP.Core.order (v64 s) (v64 hi) = _; rw [hv, e2]; rfl
      rw [f1] at h1; rw [f2] at h2
      cases b
      · exact absurd h2 (by decide)
      · exact absurd h1 (by decide)
    | fin a c q => exact ⟨a, c, q, hv⟩
  rw [fx_ge_z hs hl] at h1
  rw [fx_le_z hs hh] at h2
  exact ⟨hs, of_decide_eq_true h1, of_decide_eq_true h2⟩
theorem km1 : v64 13830554455654793216 = .fin true 4503599627370496 (-52) := by decide +kernel
theorem k16 : v64 4625196817309499392 = .fin false 4503599627370496 (-48) := by decide +kernel
theorem k1e6 : v64 4696837146684686336 = .fin false 8589934592000000 (-33) := by decide +kernel
theorem zk {x : UInt64} {s : Bool} {c : Nat} {q : Int} (h : v64 x = .fin s c q) {a k : Nat} (hk : (q + 1074).toNat = k) (e : c * 2 ^ k = a * 2 ^ 1074) : zD x = FP.Core.signed s (a * 2 ^ 1074) := by
  unfold zD; rw [h, zv_f, hk, e]
theorem zD_1 : zD FP.dconst1 = ((1 * 2 ^ 1074 : Nat) : Int) := by
  rw [zk k1 (a := 1) (k := 1022) (by decide) (by rw [show (4503599627370496 : Nat) = 2 ^ 52 by decide, ← Nat.pow_add, Nat.one_mul]), fl_sf]
theorem zD_m1 : zD 13830554455654793216 = -((1 * 2 ^ 1074 : Nat) : Int) := by
  rw [zk km1 (a := 1) (k := 1022) (by decide) (by rw [show (4503599627370496 : Nat) = 2 ^ 52 by decide, ← Nat.pow_add, Nat.one_mul]), fl_st]
theorem zD_16 : zD 4625196817309499392 = ((16 * 2 ^ 1074 : Nat) : Int) := by
  rw [zk k16 (a := 16) (k := 1026) (by decide) (by rw [show (4503599627370496 : Nat) = 16 * 2 ^ 48 by decide, Nat.mul_assoc, ← Nat.pow_add]), fl_sf]
theorem zD_1e6 : zD 4696837146684686336 = ((1000000 * 2 ^ 1074 : Nat) : Int) := by
  rw [zk k1e6 (a := 1000000) (k := 1041) (by decide) (by rw [show (8589934592000000 : Nat) = 1000000 * 2 ^ 33 by decide, Nat.mul_assoc, ← Nat.pow_add]), fl_sf]
theorem fD_1 : fD FP.dconst1 := ⟨_, _, _, k1⟩
theorem fD_m1 : fD 13830554455654793216 := ⟨_, _, _, km1⟩
theorem fD_16 : fD 4625196817309499392 := ⟨_, _, _, k16⟩
theorem fD_1e6 : fD 4696837146684686336 := ⟨_, _, _, k1e6⟩
theorem p1095 : 1000000 * 2 ^ 1074 < 2 ^ 1095 := by
  calc 1000000 * 2 ^ 1074 < 2 ^ 21 * 2 ^ 1074 := Nat.mul_lt_mul_of_pos_right (by decide) (Nat.two_pow_pos _)
    _ = 2 ^ 1095 := by rw [← Nat.pow_add]
/-- a setting is small; a delay's is a whole number from 1 to 16 -/
theorem st_key {P : Nat} {s lo hi : UInt64} (hp : 1000000 * P < 2 ^ 1095) (hl : fD lo) (hh : fD hi) (h1 : -((1000000 * P : Nat) : Int) ≤ zD lo) (h2 : zD hi ≤ ((1000000 * P : Nat) : Int)) (hw : wiB s lo hi = true) : bD 1095 s := by
  obtain ⟨hs, a1, a2⟩ := wi_fin hl hh hw
  rw [bD_z hs]
  refine Nat.lt_of_le_of_lt ?_ hp
  generalize 1000000 * P = M at h1 h2
  omega
theorem st_b {k : Nat} {s : UInt64} (h : stB k s = true) : bD 1095 s := by
  have hp := p1095
  have h3 : 3 * 2 ^ 1073 ≤ 1000000 * 2 ^ 1074 := by
    rw [Nat.pow_succ]
    generalize 2 ^ 1073 = Q
    omega
  have z1 := zD_1
  have zm := zD_m1
  have z16 := zD_16
  have z6 := zD_1e6
  have z15 := zD_15
  have z0 := zD_0
  generalize 3 * 2 ^ 1073 = T at h3 z15
  generalize 2 ^ 1074 = P at hp h3 z1 zm z16 z6
  unfold stB at h
  split at h
  · exact st_key hp fD_m1 fD_1 (by rw [zm]; omega) (by rw [z1]; omega) h
  · split at h
    · rw [Bool.and_eq_true] at h; exact st_key hp fD_1 fD_16 (by rw [z1]; omega) (by rw [z16]; omega) h.1
    · split at h
      · exact st_key hp fD_0 fD_15 (by rw [z0]; omega) (by rw [z15]; omega) h
      · split at h
        · rw [Bool.and_eq_true] at h; exact st_key hp fD_0 fD_1e6 (by rw [z0]; omega) (by rw [z6]; omega) h.1
        · refine st_key hp fD_0 fD_0 (by rw [z0]; omega) (by rw [z0]; omega) ?_
          unfold wiB fx_ge fx_le
          unfold fx_eq at h
          rw [h]; simp
theorem st_dl {s : UInt64} (h : stB 11 s = true) : ∃ n, 1 ≤ n ∧ n ≤ 16 ∧ FP.d2i s = nI n := by
  have h : (wiB s FP.dconst1 4625196817309499392 && fx_eq s (FP.i2d (FP.d2i s))) = true := h
  rw [Bool.and_eq_true] at h
  obtain ⟨hs, a1, a2⟩ := wi_fin fD_1 fD_16 h.1
  obtain ⟨f1, e1⟩ := zD_i2d (FP.d2i s)
  have h2 := h.2
  rw [fx_eq_z hs f1, e1] at h2
  have h2 := of_decide_eq_true h2
  rw [zD_1, h2, Int.natCast_mul] at a1
  rw [zD_16, h2, Int.natCast_mul] at a2
  have hp : (0 : Int) < ((2 ^ 1074 : Nat) : Int) := Int.natCast_pos.mpr (Nat.two_pow_pos 1074)
  have b1 := Int.le_of_mul_le_mul_right a1 hp
  have b2 := Int.le_of_mul_le_mul_right a2 hp
  clear a1 a2 h2 e1 hp
  obtain ⟨j, hj, e⟩ := nI_of (x := FP.d2i s) (by rw [Int32.lt_iff_toInt_lt]; show ¬ (FP.d2i s).toInt < 0; omega)
  rw [e, nI_toInt hj] at b1 b2
  exact ⟨j, by omega, by omega, e⟩
/-- a number that isn't endless -/
theorem fin_b {x : UInt64} (h : fD x) : bD 2098 x := by
  rw [bD_z h]
  obtain ⟨s, c, q, e⟩ := h
  obtain ⟨h1, h2, h3⟩ := fl_q64 e
  unfold zD
  rw [e, zv_f, fl_sgn_abs]
  calc c * 2 ^ (q + 1074).toNat < 2 ^ 53 * 2 ^ (q + 1074).toNat := Nat.mul_lt_mul_of_pos_right h3 (Nat.two_pow_pos _)
    _ = 2 ^ (53 + (q + 1074).toNat) := by rw [← Nat.pow_add]
    _ ≤ 2 ^ 2098 := Nat.pow_le_pow_right (by decide) (by omega)
theorem and_max (b : Int64) : (b &&& (9223372036854775807 : Int64)).toInt = ((b.toUInt64.toNat % 2 ^ 63 : Nat) : Int) := by
  have e2 : (b &&& (9223372036854775807 : Int64)).toBitVec.toNat = b.toUInt64.toNat % 2 ^ 63 := by
    show (b.toBitVec &&& (9223372036854775807 : Int64).toBitVec).toNat = b.toBitVec.toNat % 2 ^ 63
    rw [BitVec.toNat_and]
    show b.toBitVec.toNat &&& (2 ^ 63 - 1) = _
    rw [Nat.and_two_pow_sub_one_eq_mod]
  rw [show (b &&& (9223372036854775807 : Int64)).toInt = (b &&& (9223372036854775807 : Int64)).toBitVec.toInt from rfl, BitVec.toInt_eq_toNat_of_lt, e2]
  rw [e2]
  have := Nat.mod_lt b.toUInt64.toNat (show 0 < 2 ^ 63 by decide)
  omega
theorem fin_of {b : Int64} (h : ¬ (9218868437227405312 : Int64) ≤ (b &&& (9223372036854775807 : Int64))) : fD b.toUInt64 := by
  rw [Int64.le_iff_toInt_le, and_max, show (9218868437227405312 : Int64).toInt = 9218868437227405312 by decide] at h
  obtain ⟨t1, t2, t3, t4, t5, t6⟩ := fl_c64
  unfold fD v64 FP.Core.decode
  have hE : FP.Core.fieldE FP.Core.b64 b.toUInt64.toNat ≠ FP.Core.b64.exps - 1 := by
    unfold FP.Core.fieldE
    rw [t1, t2]
    omega
  rw [if_neg hE]
  split
  · exact ⟨_, _, _, rfl⟩
  · exact ⟨_, _, _, rfl⟩
