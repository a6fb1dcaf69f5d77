/-! a step in the panel: what is noted, by rules -/
theorem raD_dI {C : tp_C} {d : md_T} : dI (raD C d) = dI d := raN_dI
theorem s1_dI (C : tp_C) (d : md_T) : dI (s1D C d) = dI d := by
  show dI (tkN C (cN C) d) = _
  exact tkN_keep (P := fun x => dI x = dI d) (fun m x hx => by rw [tkS_dI]; exact hx) rfl
theorem sr_dI {C : tp_C} {t : UInt64} {d : md_T} : dI (rateD C (raD C (sgA C t d))) = dI d := by
  show dI (raD C (sgA C t d)) = _
  rw [raD_dI]; exact sgN_dI
theorem sr_D {C : tp_C} {t : UInt64} {d : md_T} {k : Nat} (h1 : k ≠ 17) (h2 : k ≠ 19) (h3 : k ≠ 56) : dAD (rateD C (raD C (sgA C t d))) k = dAD d k := by
  rw [show dAD (rateD C (raD C (sgA C t d))) k = dAD (raD C (sgA C t d)) k from ss_D _ _ _ _ _ h3]
  exact (raN_D h2).trans (sgN_D h1)
theorem sr_F {C : tp_C} {t : UInt64} {d : md_T} {k : Nat} (h1 : k ≠ 18) (h2 : k ≠ 20) (h3 : k ≠ 57) : dAF (rateD C (raD C (sgA C t d))) k = dAF d k := by
  rw [show dAF (rateD C (raD C (sgA C t d))) k = dAF (raD C (sgA C t d)) k from ss_F _ _ _ _ _ h3]
  exact (raN_F h2).trans (sgN_F h1)
def sj0 (C : tp_C) (d : md_T) (j : xj_T) : xj_T := rtJ C d 0 (t1J C d j (cN C)) (cN C)
/-- what holds between stages -/
def spOK (C : tp_C) (f : Nat → Int32) (d0 : md_T) (j0 : xj_T) (e : md_T) (jj : xj_T) : Prop := tiF C e jj ∧ tiN C e jj ∧ wrOK jj ∧ iOK C f e ∧ hOK e ∧ dI e = dI d0 ∧ (∀ m, cK C m = 11 → jWf jj m = jWf j0 m ∧ jNf jj m = jNf j0 m) ∧ dAD e 21 = dAD d0 21 ∧ dAF e 22 = dAF d0 22 ∧ dAD e 25 = dAD d0 25
theorem kp1_D {C : tp_C} {d : md_T} {k : Nat} (h : k ≠ 46) : dAD (kpD C 1 d) k = dAD d k := by rw [kp_1]; exact ss_D _ _ _ _ _ h
theorem kp1_F {C : tp_C} {d : md_T} {k : Nat} (h : k ≠ 50) : dAF (kpD C 1 d) k = dAF d k := by rw [kp_1]; exact ss_F _ _ _ _ _ h
theorem kp2_D {C : tp_C} {d : md_T} {k : Nat} (h : k ≠ 47) : dAD (kpD C 2 d) k = dAD d k := by rw [kp_2]; exact ss_D _ _ _ _ _ h
theorem kp2_F {C : tp_C} {d : md_T} {k : Nat} (h : k ≠ 51) : dAF (kpD C 2 d) k = dAF d k := by rw [kp_2]; exact ss_F _ _ _ _ _ h
theorem kp3_D {C : tp_C} {d : md_T} {k : Nat} (h : k ≠ 48) : dAD (kpD C 3 d) k = dAD d k := by rw [kp_3]; exact ss_D _ _ _ _ _ h
theorem kp3_F {C : tp_C} {d : md_T} {k : Nat} (h : k ≠ 52) : dAF (kpD C 3 d) k = dAF d k := by rw [kp_3]; exact ss_F _ _ _ _ _ h
theorem kp_c1 {C : tp_C} {d : md_T} {j : xj_T} {i : Nat} (h : tiR C d j i 56 57) : tiR C (kpD C 1 d) j i 46 50 := fun m hm hk => by
  rw [kp_1, ss_Ds, ss_Fs, pm_in hm, pm_in hm]; exact h m hm hk
theorem kp_c2 {C : tp_C} {d : md_T} {j : xj_T} {i : Nat} (h : tiR C d j i 56 57) : tiR C (kpD C 2 d) j i 47 51 := fun m hm hk => by
  rw [kp_2, ss_Ds, ss_Fs, pm_in hm, pm_in hm]; exact h m hm hk
theorem kp_c3 {C : tp_C} {d : md_T} {j : xj_T} {i : Nat} (h : tiR C d j i 56 57) : tiR C (kpD C 3 d) j i 48 52 := fun m hm hk => by
  rw [kp_3, ss_Ds, ss_Fs, pm_in hm, pm_in hm]; exact h m hm hk
theorem sp_0 {C : tp_C} {f : Nat → Int32} {d : md_T} {j : xj_T} (hI : iOK C f d) (hw : wrOK j) : spOK C f d j (s1D C d) (sj0 C d j) ∧ tiR C (s1D C d) (sj0 C d j) 0 56 57 ∧ tiR C (s1D C d) (sj0 C d j) 0 46 50 := by
  obtain ⟨i3, h3, z3⟩ := iOK_s1 hI
  obtain ⟨a1, a2⟩ := tie_1 C d j
  have ev := vw_s1 C d
  obtain ⟨v1, v2, v3, v4⟩ := vw_c (vw_tk C (cN C) d)
  have er : tiR C (rateD C (tkD C d)) (sj0 C d j) 0 56 57 := by
    have e := tiR_rt C (tkD C d) 0 (t1J C d j (cN C))
    have e2 : rtJ C (tkD C d) 0 (t1J C d j (cN C)) (cN C) = sj0 C d j := by
      unfold sj0 rtJ rtW rtV
      rw [show dAD (tkD C d) 19 = dAD d 19 from v1, show dAF (tkD C d) 20 = dAF d 20 from v2]
    rw [e2] at e; exact e
  simp only [vw, Prod.mk.injEq] at ev
  refine ⟨⟨tiF_mv ((kp1_D (by decide)).trans (rate_D C _ (by decide))) ((kp1_F (by decide)).trans (rate_F C _ (by decide))) rfl rfl a1, tiN_mv ((kp1_D (by decide)).trans (rate_D C _ (by decide))) ((kp1_F (by decide)).trans (rate_F C _ (by decide))) rfl rfl a2, wrOK_rt hI.r hw, i3, h3, s1_dI C d, fun m hk => t1_11 C d j (cN C) m hk, ev.2.2.2.2.2.2.2.2.2.2.2.2.2.2.1, ev.2.2.2.2.2.2.2.2.2.2.2.2.2.2.2, ev.2.2.2.2.2.2.2.2.2.2.1⟩, tiR_mv (kp1_D (by decide)) (kp1_F (by decide)) (fun _ => rfl) (fun _ => rfl) er, kp_c1 er⟩
theorem sp_s {C : tp_C} {f : Nat → Int32} {d0 : md_T} {j0 : xj_T} {e : md_T} {jj : xj_T} {t : UInt64} (hC : mOK C) (hV : vOK C) (hA : aOK C) (ht : tOK t) (i : Nat) (h : spOK C f d0 j0 e jj) : spOK C f d0 j0 (rateD C (raD C (sgA C t e))) (rtJ C (raD C (sgA C t e)) i jj (cN C)) ∧ tiR C (rateD C (raD C (sgA C t e))) (rtJ C (raD C (sgA C t e)) i jj (cN C)) i 56 57 ∧ iOK C f (raD C (sgA C t e)) := by
  obtain ⟨h1, h2, h3, h4, h5, h6, h7, h8, h9, h10⟩ := h
  have i6 := iOK_ra hC hV hA (iOK_sg ht (q_of h4.f h5) h4)
  obtain ⟨i7, h7'⟩ := iOK_rate i6
  exact ⟨⟨tiF_mv (sr_D (by decide) (by decide) (by decide)) (sr_F (by decide) (by decide) (by decide)) rfl rfl h1, tiN_mv (sr_D (by decide) (by decide) (by decide)) (sr_F (by decide) (by decide) (by decide)) rfl rfl h2, wrOK_rt i6.r h3, i7, h7', sr_dI.trans h6, h7, (sr_D (by decide) (by decide) (by decide)).trans h8, (sr_F (by decide) (by decide) (by decide)).trans h9, (sr_D (by decide) (by decide) (by decide)).trans h10⟩, tiR_rt C _ i jj, i6⟩
theorem sp_R {C : tp_C} {e : md_T} {jj : xj_T} {t : UInt64} {i k a b : Nat} (hk : k ≠ i) (a1 : a ≠ 17) (a2 : a ≠ 19) (a3 : a ≠ 56) (b1 : b ≠ 18) (b2 : b ≠ 20) (b3 : b ≠ 57) (h : tiR C e jj k a b) : tiR C (rateD C (raD C (sgA C t e))) (rtJ C (raD C (sgA C t e)) i jj (cN C)) k a b :=
  tiR_mv (sr_D a1 a2 a3) (sr_F b1 b2 b3) (rtJ_ne hk).1 (rtJ_ne hk).2 h
theorem sp_2 {C : tp_C} {f : Nat → Int32} {d0 : md_T} {j0 : xj_T} {e : md_T} {jj : xj_T} (h : spOK C f d0 j0 e jj) : spOK C f d0 j0 (kpD C 2 e) jj := by
  obtain ⟨h1, h2, h3, h4, h5, h6, h7, h8, h9, h10⟩ := h
  obtain ⟨i7, h7'⟩ := iOK_kp2 h4 h5
  exact ⟨tiF_mv (kp2_D (by decide)) (kp2_F (by decide)) rfl rfl h1, tiN_mv (kp2_D (by decide)) (kp2_F (by decide)) rfl rfl h2, h3, i7, h7', h6, h7, (kp2_D (by decide)).trans h8, (kp2_F (by decide)).trans h9, (kp2_D (by decide)).trans h10⟩
theorem sp_3 {C : tp_C} {f : Nat → Int32} {d0 : md_T} {j0 : xj_T} {e : md_T} {jj : xj_T} (h : spOK C f d0 j0 e jj) : spOK C f d0 j0 (kpD C 3 e) jj := by
  obtain ⟨h1, h2, h3, h4, h5, h6, h7, h8, h9, h10⟩ := h
  obtain ⟨i7, h7'⟩ := iOK_kp3 h4 h5
  exact ⟨tiF_mv (kp3_D (by decide)) (kp3_F (by decide)) rfl rfl h1, tiN_mv (kp3_D (by decide)) (kp3_F (by decide)) rfl rfl h2, h3, i7, h7', h6, h7, (kp3_D (by decide)).trans h8, (kp3_F (by decide)).trans h9, (kp3_D (by decide)).trans h10⟩
def hf_ (t : UInt64) : UInt64 := FP.ddiv t 4611686018427387904
/-- the rule with two rates -/
def sd1 (C : tp_C) (t : UInt64) (d : md_T) : md_T := c1I (rateD C (raD C (sgA C t (s1D C d)))) (cN C)
def sj1 (C : tp_C) (t : UInt64) (d : md_T) (j : xj_T) : xj_T := rtJ C (raD C (sgA C t (s1D C d))) 1 (sj0 C d j) (cN C)
/-- the rule with four -/
def se1 (C : tp_C) (t : UInt64) (d : md_T) : md_T := raD C (sgA C (hf_ t) (s1D C d))
def ra_ (C : tp_C) (t : UInt64) (d : md_T) : md_T := kpD C 2 (rateD C (se1 C t d))
def se2 (C : tp_C) (t : UInt64) (d : md_T) : md_T := raD C (sgA C (hf_ t) (ra_ C t d))
def rb_ (C : tp_C) (t : UInt64) (d : md_T) : md_T := kpD C 3 (rateD C (se2 C t d))
def se3 (C : tp_C) (t : UInt64) (d : md_T) : md_T := raD C (sgA C t (rb_ C t d))
def sk1 (C : tp_C) (t : UInt64) (d : md_T) (j : xj_T) : xj_T := rtJ C (se1 C t d) 1 (sj0 C d j) (cN C)
def sk2 (C : tp_C) (t : UInt64) (d : md_T) (j : xj_T) : xj_T := rtJ C (se2 C t d) 2 (sk1 C t d j) (cN C)
def sk3 (C : tp_C) (t : UInt64) (d : md_T) (j : xj_T) : xj_T := rtJ C (se3 C t d) 3 (sk2 C t d j) (cN C)
def sd2 (C : tp_C) (t : UInt64) (d : md_T) : md_T := c2I (rateD C (se3 C t d)) (cN C)
def stJ (C : tp_C) (t : UInt64) (d : md_T) (j : xj_T) : xj_T := if cR C = 0 then fbJ C t (s1D C d) (sj0 C d j) (cN C) else if cR C = 1 then fbJ C (hf_ t) (sd1 C t d) (sj1 C t d j) (cN C) else fbJ C t (sd2 C t d) (sk3 C t d j) (cN C)
/-- what the last loop of a step wants -/
def lpOK (C : tp_C) (f : Nat → Int32) (d0 : md_T) (j0 : xj_T) (t : UInt64) (e : md_T) (jj : xj_T) : Prop := tiN C e jj ∧ grOK C jj ∧ wrOK jj ∧ iOK C f e ∧ qOK e ∧ dI e = dI d0 ∧ dAD e 25 = dAD d0 25
theorem lp_sp {C : tp_C} {f : Nat → Int32} {d0 : md_T} {j0 : xj_T} {t : UInt64} {e : md_T} {jj : xj_T} (h : spOK C f d0 j0 e jj) : lpOK C f d0 j0 t e jj := by
  obtain ⟨h1, h2, h3, h4, h5, h6, h7, h8, h9, h10⟩ := h
  exact ⟨h2, gr_of h4.f h1 h3, h3, h4, q_of h4.f h5, h6, h10⟩
theorem go_0 {C : tp_C} {e : md_T} {jj : xj_T} {t : UInt64} {i : Nat} (hF : tiF C e jj) (hR : tiR C e jj i 56 57) : ∀ m, m < cN C → cK C m = 2 → FP.dadd (jWf jj m) (FP.dmul t (jWr jj m i)) = sgV e t m ∧ FP.fadd (jNf jj m) (FP.fmul (FP.d2f t) (jNr jj m i)) = sgW e t m := fun m hm hk => by
  rw [(hF m hm hk).1, (hF m hm hk).2, (hR m hm hk).1, (hR m hm hk).2]; exact ⟨rfl, rfl⟩
theorem c1_at {e : md_T} {n m : Nat} (h : m < n) : dAD (c1I e n) 56 m = c1G e m ∧ dAF (c1I e n) 57 m = c1F e m := by
  unfold c1I; rw [ss_Ds, ss_Fs, pm_in h, pm_in h]; exact ⟨rfl, rfl⟩
theorem c2_at {e : md_T} {n m : Nat} (h : m < n) : dAD (c2I e n) 56 m = c2G e m ∧ dAF (c2I e n) 57 m = c2F e m := by
  unfold c2I; rw [ss_Ds, ss_Fs, pm_in h, pm_in h]; exact ⟨rfl, rfl⟩
theorem c1_D {e : md_T} {n k : Nat} (h : k ≠ 56) : dAD (c1I e n) k = dAD e k := ss_D _ _ _ _ _ h
theorem c1_F {e : md_T} {n k : Nat} (h : k ≠ 57) : dAF (c1I e n) k = dAF e k := ss_F _ _ _ _ _ h
theorem c2_D {e : md_T} {n k : Nat} (h : k ≠ 56) : dAD (c2I e n) k = dAD e k := ss_D _ _ _ _ _ h
theorem c2_F {e : md_T} {n k : Nat} (h : k ≠ 57) : dAF (c2I e n) k = dAF e k := ss_F _ _ _ _ _ h
theorem lp_1 {C : tp_C} {f : Nat → Int32} {d0 : md_T} {j0 : xj_T} {t : UInt64} {e : md_T} {jj : xj_T} (h : spOK C f d0 j0 e jj) (hz : zgOK C 46 50 e) : lpOK C f d0 j0 t (c1I e (cN C)) jj := by
  obtain ⟨h1, h2, h3, h4, h5, h6, h7, h8, h9, h10⟩ := h
  obtain ⟨i8, q8⟩ := iOK_c1 h4 h5 hz
  exact ⟨tiN_mv (c1_D (by decide)) (c1_F (by decide)) rfl rfl h2, gr_of h4.f h1 h3, h3, i8, q8, h6, (c1_D (by decide)).trans h10⟩
theorem lp_2 {C : tp_C} {f : Nat → Int32} {d0 : md_T} {j0 : xj_T} {t : UInt64} {e : md_T} {jj : xj_T} (h : spOK C f d0 j0 e jj) (hz1 : zgOK C 46 50 e) (hz2 : zgOK C 47 51 e) (hz3 : zgOK C 48 52 e) : lpOK C f d0 j0 t (c2I e (cN C)) jj := by
  obtain ⟨h1, h2, h3, h4, h5, h6, h7, h8, h9, h10⟩ := h
  obtain ⟨i8, q8⟩ := iOK_c2 h4 h5 hz1 hz2 hz3
  exact ⟨tiN_mv (c2_D (by decide)) (c2_F (by decide)) rfl rfl h2, gr_of h4.f h1 h3, h3, i8, q8, h6, (c2_D (by decide)).trans h10⟩
theorem go_1 {C : tp_C} {e : md_T} {jj : xj_T} {t : UInt64} (hh : FP.fdiv (FP.d2f t) FP.fconst2 = FP.d2f (hf_ t)) (hF : tiF C e jj) (hR : tiR C e jj 1 56 57) (hR0 : tiR C e jj 0 46 50) : ∀ m, m < cN C → cK C m = 2 → FP.dadd (jWf jj m) (FP.dmul (FP.ddiv t 4611686018427387904) (FP.dadd (jWr jj m 0) (jWr jj m 1))) = sgV (c1I e (cN C)) (hf_ t) m ∧ FP.fadd (jNf jj m) (FP.fmul (FP.fdiv (FP.d2f t) FP.fconst2) (FP.fadd (jNr jj m 0) (jNr jj m 1))) = sgW (c1I e (cN C)) (hf_ t) m := fun m hm hk => by
  unfold sgV sgW
  rw [(hF m hm hk).1, (hF m hm hk).2, (hR m hm hk).1, (hR m hm hk).2, (hR0 m hm hk).1, (hR0 m hm hk).2, (c1_at hm).1, (c1_at hm).2, c1_D (by decide), c1_F (by decide), hh]; exact ⟨rfl, rfl⟩
theorem go_2 {C : tp_C} {e : md_T} {jj : xj_T} {t : UInt64} (hF : tiF C e jj) (hR : tiR C e jj 3 56 57) (hR0 : tiR C e jj 0 46 50) (hR1 : tiR C e jj 1 47 51) (hR2 : tiR C e jj 2 48 52) : ∀ m, m < cN C → cK C m = 2 → FP.dadd (jWf jj m) (FP.dmul t (FP.ddiv (w4D (jWr jj m)) 4618441417868443648)) = sgV (c2I e (cN C)) t m ∧ FP.fadd (jNf jj m) (FP.fmul (FP.d2f t) (FP.fdiv (w4F (jNr jj m)) 1086324736)) = sgW (c2I e (cN C)) t m := fun m hm hk => by
  unfold sgV sgW w4D w4F
  rw [(hF m hm hk).1, (hF m hm hk).2, (hR m hm hk).1, (hR m hm hk).2, (hR0 m hm hk).1, (hR0 m hm hk).2, (hR1 m hm hk).1, (hR1 m hm hk).2, (hR2 m hm hk).1, (hR2 m hm hk).2, (c2_at hm).1, (c2_at hm).2, c2_D (by decide), c2_F (by decide)]; exact ⟨rfl, rfl⟩
theorem gb_V {C : tp_C} {e : md_T} {t : UInt64} {n m : Nat} : sgV (gbN C t n e) t m = sgV e t m ∧ sgW (gbN C t n e) t m = sgW e t m := by
  unfold sgV sgW
  rw [gbN_D (by decide) (by decide), gbN_D (by decide) (by decide), gbN_F (by decide) (by decide), gbN_F (by decide) (by decide)]; exact ⟨rfl, rfl⟩
theorem fb_ne {C : tp_C} {t : UInt64} {e : md_T} {jj : xj_T} {n m : Nat} (h : ¬ cK C m = 11) : jWf (fbJ C t e jj n) m = jWf jj m ∧ jNf (fbJ C t e jj n) m = jNf jj m := by
  rw [(fb_W C t e jj n).1, (fb_W C t e jj n).2]
  unfold pm
  refine ⟨?_, ?_⟩
  · split
    · exact if_neg h
    · rfl
  · split
    · exact if_neg h
    · rfl
theorem fb_gr {C : tp_C} {t : UInt64} {e : md_T} {jj : xj_T} {n m : Nat} (hG : grOK C jj) (hm : m < cN C) (hk : cK C m = 2) : jrOK (fbJ C t e jj n) m := by
  obtain ⟨a1, a2⟩ := fb_ne (C := C) (t := t) (e := e) (jj := jj) (n := n) (m := m) (by omega)
  have := hG m hm hk
  unfold jrOK at this ⊢
  rw [a1, a2]; exact this
/-- the go of a gatherer in the last loop -/
theorem gb_go {C : tp_C} {t : UInt64} {e : md_T} {m : Nat} {V V' : UInt64} {W W' : UInt32} (h : cK C m = 2) (hv : V' = V) (hw : W' = W) (hV : V = sgV e t m) (hW : W = sgW e t m) : xgS (gbN C t m e) m V' W' = sgS C t m (gbN C t m e) := by
  subst hv; subst hw
  exact gb_sg h (hV.trans gb_V.1.symm) (hW.trans gb_V.2.symm)
theorem gb_no {C : tp_C} {t : UInt64} {e : md_T} {m : Nat} (h : ¬ cK C m = 2) : gbN C t m e = sgS C t m (gbN C t m e) := (if_neg h).symm
theorem gb_n {C : tp_C} {t : UInt64} {e : md_T} {jj : xj_T} {m : Nat} (hT : tiN C e jj) (hm : m < cN C) (h : cK C m = 3 ∨ cK C m = 11) : jWn jj m = dAD (sgS C t m (gbN C t m e)) 54 m ∧ jNn jj m = dAF (sgS C t m (gbN C t m e)) 55 m := by
  rw [sgS_D C t m _ (by decide), sgS_F C t m _ (by decide), gbN_D (by decide) (by decide), gbN_F (by decide) (by decide)]; exact hT m hm h
theorem apOK_dfN {C : tp_C} {f : Nat → Int32} {d : md_T} (hI : iOK C f d) (h : apOK d) : ∀ n, apOK (dfN n d)
  | 0 => h
  | n + 1 => apOK_df (iOK_dfN hI n).r (apOK_dfN hI h n)
theorem apOK_mv {d d' : md_T} (e : dAD d' 25 = dAD d 25) (h : apOK d) : apOK d' := fun k => by rw [e]; exact h k
theorem stJ_0 {C : tp_C} {t : UInt64} {d : md_T} {j : xj_T} (h : cR C = 0) : fbJ C t (s1D C d) (sj0 C d j) (cN C) = stJ C t d j := by unfold stJ; rw [if_pos h]
theorem stJ_1 {C : tp_C} {t : UInt64} {d : md_T} {j : xj_T} (h : cR C = 1) : fbJ C (hf_ t) (sd1 C t d) (sj1 C t d j) (cN C) = stJ C t d j := by unfold stJ; rw [if_neg (by omega), if_pos h]
theorem stJ_2 {C : tp_C} {t : UInt64} {d : md_T} {j : xj_T} (h : cR C = 2) : fbJ C t (sd2 C t d) (sk3 C t d j) (cN C) = stJ C t d j := by unfold stJ; rw [if_neg (by omega), if_neg (by omega)]
theorem gbX_0 {C : tp_C} {t : UInt64} {d : md_T} (h : cR C = 0) : gbN C t (cN C) (s1D C d) = otD C (ruD C t (s1D C d)) := by rw [gbN_e]; unfold ruD; rw [if_pos h]; rfl
theorem gbX_1 {C : tp_C} {t : UInt64} {d : md_T} (h : cR C = 1) : gbN C (hf_ t) (cN C) (sd1 C t d) = otD C (ruD C t (s1D C d)) := by rw [gbN_e]; unfold ruD; rw [if_neg (by omega), if_pos h]; rfl
theorem gbX_2 {C : tp_C} {t : UInt64} {d : md_T} (h : cR C = 2) : gbN C t (cN C) (sd2 C t d) = otD C (ruD C t (s1D C d)) := by rw [gbN_e]; unfold ruD; rw [if_neg (by omega), if_neg (by omega)]; rfl
