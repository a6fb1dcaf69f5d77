/-! others, time, apart: what they keep -/
/-- a number below 1.5.. of doubles stays small as a float -/
theorem nsV_bj {j : Nat} {i : Int32} (hi : i.toInt.natAbs < 2 ^ j) : bD (1043 + j) (nsV i) := by
  obtain ⟨⟨s, c, q, hv⟩, hz⟩ := zD_i2d i
  obtain ⟨h1, h2, h3⟩ := fl_q64 hv
  have e1 : v64 (nsV i) = FP.Core.roundRatio FP.Core.b64 (s != false) c (2 ^ 52) (q - -21) := by
    unfold nsV
    rw [v64_div, hv, k31]
    show (if (2 ^ 52 : Nat) = 0 then (if c = 0 then FP.Core.Datum.nan else .inf (s != false)) else FP.Core.roundRatio FP.Core.b64 (s != false) c (2 ^ 52) (q - -21)) = _
    rw [if_neg (by decide)]
  rw [fl_rr_p2] at e1
  have hc : c * 2 ^ (q + 1074).toNat < 2 ^ (j + 1074) := by
    have hb : (zD (FP.i2d i)).natAbs < 2 ^ (j + 1074) := by
      rw [hz, Int.natAbs_mul, Int.natAbs_natCast, Nat.pow_add]
      exact Nat.mul_lt_mul_of_pos_right hi (Nat.two_pow_pos _)
    unfold zD at hb
    rw [hv, zv_f, fl_sgn_abs] at hb
    exact hb
  by_cases hlow : q - -21 - ((52 : Nat) : Int) < -1074
  · have hq0 : c < 2 ^ 53 := h3
    obtain ⟨c', q', f1, f2, f3⟩ := fl_rr_bd Gf64 (by decide) (s != false) (A := c) (k := 53) (K := 1000) (e := q - -21 - ((52 : Nat) : Int)) hq0 (by omega) (by decide) (by decide)
    exact ⟨_, c', q', e1.trans f1, f2, Nat.lt_of_le_of_lt f3 (Nat.pow_lt_pow_right (by decide) (by omega))⟩
  · obtain ⟨c', q', f1, f2, f3, f4⟩ := fl_rr_exact Gf64 (s != false) (A := c) (e := q - -21 - ((52 : Nat) : Int)) h3 (by show (-1074 : Int) ≤ _; omega) (by show _ ≤ (971 : Int); omega)
    have f2 : (-1074 : Int) ≤ q' := f2
    refine ⟨_, c', q', e1.trans f1, f2, ?_⟩
    rw [f4, Nat.mul_assoc, ← Nat.pow_add, show (q - -21 - ((52 : Nat) : Int) - q').toNat + (q' + 1074).toNat = (q + 1074).toNat - 31 by omega]
    have e5 : (q + 1074).toNat = (q + 1074).toNat - 31 + 31 := by omega
    rw [e5, Nat.pow_add, ← Nat.mul_assoc] at hc
    have e6 : (2 : Nat) ^ (j + 1074) = 2 ^ (1043 + j) * 2 ^ 31 := by rw [← Nat.pow_add]; congr 1; omega
    rw [e6] at hc
    exact Nat.lt_of_mul_lt_mul_right hc
theorem nsm : v32 (FP.d2f (nsV (-2147483648))) = .fin true 8388608 (-23) := by decide +kernel
theorem nsF_b (i : Int32) : bF 1075 (FP.d2f (nsV i)) := by
  by_cases h : i = -2147483648
  · rw [h]
    refine ⟨_, _, _, nsm, by decide, ?_⟩
    rw [show (8388608 : Nat) = 2 ^ 23 by decide, ← Nat.pow_add]
    exact Nat.pow_lt_pow_right (by decide) (by decide)
  · have h1 := Int32.toInt_lt i
    have h2 := Int32.le_toInt i
    have h3 : ¬ i.toInt = -2147483648 := fun e => h (Int32.toInt_inj.mp (e.trans (by decide)))
    exact bF_d2f (K := 1074) (nsV_bj (j := 31) (by omega))
theorem otS_D (C : tp_C) (m : Nat) (d : md_T) {k : Nat} (h1 : k ≠ 17) (h2 : k ≠ 21) : dAD (otS C m d) k = dAD d k := by
  unfold otS; split
  · exact uu_D _ _ _ _ _ _ _ h1
  · split
    · rw [uu_D _ _ _ _ _ _ _ h2]; exact ss_D _ _ _ _ _ h2
    · split
      · rw [uu_D _ _ _ _ _ _ _ h1]; rfl
      · rfl
theorem otS_F (C : tp_C) (m : Nat) (d : md_T) {k : Nat} (h1 : k ≠ 18) (h2 : k ≠ 22) : dAF (otS C m d) k = dAF d k := by
  unfold otS; split
  · exact uu_F _ _ _ _ _ _ _ h1
  · split
    · rw [uu_F _ _ _ _ _ _ _ h2]; exact ss_F _ _ _ _ _ h2
    · split
      · rw [uu_F _ _ _ _ _ _ _ h1]; rfl
      · rfl
theorem otS_A (C : tp_C) (m : Nat) (d : md_T) {k : Nat} (h : k ≠ 23) : dAI (otS C m d) k = dAI d k := by
  unfold otS; split
  · rfl
  · split
    · rfl
    · split
      · exact uAI_ne d 23 m _ h
      · rfl
theorem otS_r {C : tp_C} {m : Nat} {d : md_T} (h : rOK d) (hn : nOK d) : rOK (otS C m d) := by
  refine ⟨?_, ?_, ?_, ?_, ?_, ?_⟩
  · rw [otS_D _ _ _ (by decide) (by decide)]; exact h.rd
  · rw [otS_F _ _ _ (by decide) (by decide)]; exact h.rf
  · unfold otS; split
    · rw [uu_Ds]; exact upd_all h.st (hn.1 m)
    · split
      · rw [uu_D _ _ _ _ _ _ _ (by decide)]
        show ∀ k, bD 1075 (dAD (sAF (sAD d 21 _) 22 _) 17 k)
        rw [ss_D _ _ _ _ _ (by decide)]; exact h.st
      · split
        · rw [uu_Ds]; exact upd_all (P := bD 1075) h.st (nsV_b _)
        · exact h.st
  · unfold otS; split
    · rw [uu_Fs]; exact upd_all h.sf (hn.2 m)
    · split
      · rw [uu_F _ _ _ _ _ _ _ (by decide)]
        show ∀ k, bF 1075 (dAF (sAF (sAD d 21 _) 22 _) 18 k)
        rw [ss_F _ _ _ _ _ (by decide)]; exact h.sf
      · split
        · rw [uu_Fs]; exact upd_all (P := bF 1075) h.sf (nsF_b _)
        · exact h.sf
  · unfold otS; split
    · rw [uu_D _ _ _ _ _ _ _ (by decide)]; exact h.rw
    · split
      · rw [uu_Ds]
        refine upd_all ?_ (hn.1 m)
        show ∀ k, bD 1075 (dAD (sAF (sAD d 21 _) 22 _) 21 k)
        rw [ss_Ds]; exact shf_all h.rw
      · split
        · rw [uu_D _ _ _ _ _ _ _ (by decide)]; exact h.rw
        · exact h.rw
  · unfold otS; split
    · rw [uu_F _ _ _ _ _ _ _ (by decide)]; exact h.rwf
    · split
      · rw [uu_Fs]
        refine upd_all ?_ (hn.2 m)
        show ∀ k, bF 1075 (dAF (sAF (sAD d 21 _) 22 _) 22 k)
        rw [ss_Fs]; exact shf_all h.rwf
      · split
        · rw [uu_F _ _ _ _ _ _ _ (by decide)]; exact h.rwf
        · exact h.rwf
theorem iOK_ot {C : tp_C} {f : Nat → Int32} {m : Nat} {d : md_T} (h : iOK C f d) : iOK C f (otS C m d) := by
  refine ⟨otS_r h.r h.n, ?_, ?_, ?_, ?_, (otS_A _ _ _ (by decide)).trans h.l⟩
  · unfold gOK
    rw [otS_D C m d (by decide) (by decide), otS_D C m d (by decide) (by decide), otS_D C m d (by decide) (by decide), otS_F C m d (by decide) (by decide), otS_F C m d (by decide) (by decide), otS_F C m d (by decide) (by decide)]
    exact h.g
  · unfold nOK; rw [otS_D C m d (by decide) (by decide), otS_F C m d (by decide) (by decide)]; exact h.n
  · unfold fOK; rw [otS_D C m d (by decide) (by decide), otS_F C m d (by decide) (by decide)]; exact h.f
  · unfold zOK; rw [otS_D C m d (by decide) (by decide), otS_F C m d (by decide) (by decide)]; exact h.z
theorem iOK_otN {C : tp_C} {f : Nat → Int32} {d : md_T} (h : iOK C f d) (n : Nat) : iOK C f (otN C n d) := it_ok (n := n) h (fun _ _ _ hh => iOK_ot hh) n (Nat.le_refl n)
theorem iOK_tm {C : tp_C} {f : Nat → Int32} {d : md_T} (h : iOK C f d) : iOK C f (tmU d) := h
theorem dfS_D (m : Nat) (d : md_T) {k : Nat} (h : k ≠ 25) : dAD (dfS m d) k = dAD d k := uAD_ne d 25 m _ h
theorem iOK_df {C : tp_C} {f : Nat → Int32} {m : Nat} {d : md_T} (h : iOK C f d) : iOK C f (dfS m d) := by
  refine ⟨?_, ?_, ?_, ?_, ?_, h.l⟩
  · unfold rOK
    rw [dfS_D m d (by decide), dfS_D m d (by decide), dfS_D m d (by decide)]
    exact h.r
  · unfold gOK
    rw [dfS_D m d (by decide), dfS_D m d (by decide), dfS_D m d (by decide)]
    exact h.g
  · unfold nOK; rw [dfS_D m d (by decide)]; exact h.n
  · unfold fOK; rw [dfS_D m d (by decide)]; exact h.f
  · unfold zOK; rw [dfS_D m d (by decide)]; exact h.z
theorem iOK_dfN {C : tp_C} {f : Nat → Int32} {d : md_T} (h : iOK C f d) (n : Nat) : iOK C f (dfN n d) := it_ok (n := n) h (fun _ _ _ hh => iOK_df hh) n (Nat.le_refl n)
theorem dfV_b {d : md_T} {m : Nat} (h : rOK d) : bD 1078 (dfV d m) := bD_sub (K := 1076) (bD_up (h.rd m)) (bD_f2d (h.rf m))
/-- the stages by the rule keep it all -/
theorem iOK_s1 {C : tp_C} {f : Nat → Int32} {d : md_T} (h : iOK C f d) : iOK C f (s1D C d) ∧ hOK (s1D C d) ∧ zgOK C 46 50 (s1D C d) := by
  obtain ⟨i2, h2⟩ := iOK_rate (iOK_tkN h (cN C))
  obtain ⟨i3, h3⟩ := iOK_kp1 i2 h2
  exact ⟨i3, h3, zg_kp1 i2.z⟩
theorem zg_sr {C : tp_C} {a b : Nat} {t : UInt64} {d : md_T} (ha : a ≠ 17) (ha2 : a ≠ 19) (ha3 : a ≠ 56) (hb : b ≠ 18) (hb2 : b ≠ 20) (hb3 : b ≠ 57) (h : zgOK C a b d) : zgOK C a b (rateD C (raD C (sgA C t d))) :=
  zg_mv h ((rate_D C _ ha3).trans ((raN_D ha2).trans (sgN_D ha))) ((rate_F C _ hb3).trans ((raN_F hb2).trans (sgN_F hb)))
theorem iOK_sr {C : tp_C} {f : Nat → Int32} {t : UInt64} {d : md_T} (hC : mOK C) (hV : vOK C) (hA : aOK C) (ht : tOK t) (h : iOK C f d) (hh : hOK d) : iOK C f (rateD C (raD C (sgA C t d))) ∧ hOK (rateD C (raD C (sgA C t d))) := iOK_rate (iOK_ra hC hV hA (iOK_sg ht (q_of h.f hh) h))
theorem iOK_ru {C : tp_C} {f : Nat → Int32} {t : UInt64} {d : md_T} (hC : mOK C) (hV : vOK C) (hA : aOK C) (ht : tOK t) (ht2 : tOK (FP.ddiv t 4611686018427387904)) (h : iOK C f d) (hh : hOK d) (hz : zgOK C 46 50 d) : iOK C f (ruD C t d) := by
  unfold ruD
  split
  · exact iOK_sg ht (q_of h.f hh) h
  · split
    · obtain ⟨i1, h1⟩ := iOK_sr hC hV hA ht h hh
      obtain ⟨i2, q2⟩ := iOK_c1 i1 h1 (zg_sr (by decide) (by decide) (by decide) (by decide) (by decide) (by decide) hz)
      exact iOK_sg ht2 q2 i2
    · obtain ⟨i1, h1⟩ := iOK_sr hC hV hA ht2 h hh
      obtain ⟨i2, h2⟩ := iOK_kp2 i1 h1
      have y1 : zgOK C 46 50 (r2a C t d) := zg_mv (zg_sr (t := FP.ddiv t 4611686018427387904) (by decide) (by decide) (by decide) (by decide) (by decide) (by decide) hz) (ss_D _ _ _ _ _ (by decide)) (ss_F _ _ _ _ _ (by decide))
      have y2 : zgOK C 47 51 (r2a C t d) := zg_kp2 i1.z
      have i2 : iOK C f (r2a C t d) := i2
      have h2 : hOK (r2a C t d) := h2
      obtain ⟨i3, h3⟩ := iOK_sr hC hV hA ht2 i2 h2
      obtain ⟨i4, h4⟩ := iOK_kp3 i3 h3
      have w1 : zgOK C 46 50 (r2b C t (r2a C t d)) := zg_mv (zg_sr (t := FP.ddiv t 4611686018427387904) (by decide) (by decide) (by decide) (by decide) (by decide) (by decide) y1) (ss_D _ _ _ _ _ (by decide)) (ss_F _ _ _ _ _ (by decide))
      have w2 : zgOK C 47 51 (r2b C t (r2a C t d)) := zg_mv (zg_sr (t := FP.ddiv t 4611686018427387904) (by decide) (by decide) (by decide) (by decide) (by decide) (by decide) y2) (ss_D _ _ _ _ _ (by decide)) (ss_F _ _ _ _ _ (by decide))
      have w3 : zgOK C 48 52 (r2b C t (r2a C t d)) := zg_kp3 i3.z
      have i4 : iOK C f (r2b C t (r2a C t d)) := i4
      have h4 : hOK (r2b C t (r2a C t d)) := h4
      obtain ⟨i5, h5⟩ := iOK_sr hC hV hA ht i4 h4
      have i5 : iOK C f (r2c C t (r2b C t (r2a C t d))) := i5
      have h5 : hOK (r2c C t (r2b C t (r2a C t d))) := h5
      obtain ⟨i6, q6⟩ := iOK_c2 i5 h5 (zg_sr (by decide) (by decide) (by decide) (by decide) (by decide) (by decide) w1) (zg_sr (by decide) (by decide) (by decide) (by decide) (by decide) (by decide) w2) (zg_sr (by decide) (by decide) (by decide) (by decide) (by decide) (by decide) w3)
      exact iOK_sg ht q6 i6
theorem iOK_st {C : tp_C} {f : Nat → Int32} {t : UInt64} {d : md_T} (hC : mOK C) (hV : vOK C) (hA : aOK C) (ht : tOK t) (ht2 : tOK (FP.ddiv t 4611686018427387904)) (h : iOK C f d) : iOK C f (stD C t d) := by
  obtain ⟨i1, h1, z1⟩ := iOK_s1 h
  exact iOK_dfN (iOK_ra hC hV hA (iOK_tm (iOK_otN (iOK_ru hC hV hA ht ht2 i1 h1 z1) (cN C)))) (cN C)
