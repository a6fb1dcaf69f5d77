/-! what a step keeps -/
theorem uAD_ne (d : md_T) (k' j : Nat) (v : UInt64) {k : Nat} (h : k ≠ k') : dAD (uAD d k' j v) k = dAD d k := by simp [uAD, dAD, va_up, h]
theorem uAF_ne (d : md_T) (k' j : Nat) (v : UInt32) {k : Nat} (h : k ≠ k') : dAF (uAF d k' j v) k = dAF d k := by simp [uAF, dAF, va_up, h]
theorem uAI_ne (d : md_T) (k' j : Nat) (v : Int32) {k : Nat} (h : k ≠ k') : dAI (uAI d k' j v) k = dAI d k := by simp [uAI, dAI, va_up, h]
theorem sAD_ne (d : md_T) (k' : Nat) (f : Nat → UInt64) {k : Nat} (h : k ≠ k') : dAD (sAD d k' f) k = dAD d k := by simp [sAD, dAD, va_up, h]
theorem sAF_ne (d : md_T) (k' : Nat) (f : Nat → UInt32) {k : Nat} (h : k ≠ k') : dAF (sAF d k' f) k = dAF d k := by simp [sAF, dAF, va_up, h]
theorem dAD_sAD (d : md_T) (k : Nat) (f : Nat → UInt64) : dAD (sAD d k f) k = f := up_at _ _ _
theorem dAF_sAF (d : md_T) (k : Nat) (f : Nat → UInt32) : dAF (sAF d k f) k = f := up_at _ _ _
-- take
theorem tkS_D (C : tp_C) (m : Nat) (d : md_T) {k : Nat} (h1 : k ≠ 49) (h2 : k ≠ 54) : dAD (tkS C m d) k = dAD d k := by
  have e0 : dAD (tk0 m d) k = dAD d k := uAD_ne d 49 _ _ h1
  unfold tkS; split
  · exact (uAD_ne _ 54 _ _ h2).trans e0
  · split
    · exact (uAD_ne _ 54 _ _ h2).trans e0
    · exact e0
theorem tkS_F (C : tp_C) (m : Nat) (d : md_T) {k : Nat} (h1 : k ≠ 53) (h2 : k ≠ 55) : dAF (tkS C m d) k = dAF d k := by
  have e0 : dAF (tk0 m d) k = dAF d k := uAF_ne _ 53 _ _ h1
  unfold tkS; split
  · exact (uAF_ne _ 55 _ _ h2).trans e0
  · split
    · exact (uAF_ne _ 55 _ _ h2).trans e0
    · exact e0
theorem tkS_A (C : tp_C) (m : Nat) (d : md_T) : dAI (tkS C m d) = dAI d := by
  unfold tkS; split
  · rfl
  · split <;> rfl
theorem tk0_49 (m : Nat) (d : md_T) : dAD (tk0 m d) 49 = vf_upd (dAD d 49) m (dAD d 17 m) := dAD_self d 49 m _
theorem tk0_53 (m : Nat) (d : md_T) : dAF (tk0 m d) 53 = vf_upd (dAF d 53) m (dAF d 18 m) := dAF_self _ 53 m _
theorem tk0_54 (m : Nat) (d : md_T) : dAD (tk0 m d) 54 = dAD d 54 := uAD_ne d 49 m (dAD d 17 m) (show 54 ≠ 49 by decide)
theorem tk0_55 (m : Nat) (d : md_T) : dAF (tk0 m d) 55 = dAF d 55 := uAF_ne (uAD d 49 m (dAD d 17 m)) 53 m (dAF d 18 m) (show 55 ≠ 53 by decide)
theorem uu_D (d : md_T) (k' j : Nat) (v : UInt64) (k2 j2 : Nat) (w : UInt32) {k : Nat} (h : k ≠ k') : dAD (uAF (uAD d k' j v) k2 j2 w) k = dAD d k := uAD_ne d k' j v h
theorem uu_F (d : md_T) (k' j : Nat) (v : UInt64) (k2 j2 : Nat) (w : UInt32) {k : Nat} (h : k ≠ k2) : dAF (uAF (uAD d k' j v) k2 j2 w) k = dAF d k := uAF_ne (uAD d k' j v) k2 j2 w h
theorem uu_Ds (d : md_T) (k' j : Nat) (v : UInt64) (k2 j2 : Nat) (w : UInt32) : dAD (uAF (uAD d k' j v) k2 j2 w) k' = vf_upd (dAD d k') j v := dAD_self d k' j v
theorem uu_Fs (d : md_T) (k' j : Nat) (v : UInt64) (k2 j2 : Nat) (w : UInt32) : dAF (uAF (uAD d k' j v) k2 j2 w) k2 = vf_upd (dAF d k2) j2 w := dAF_self (uAD d k' j v) k2 j2 w
theorem tkS_f {C : tp_C} {m : Nat} {d : md_T} (hR : rOK d) (h : fOK d) : fOK (tkS C m d) := by
  have e1 : dAD (tkS C m d) 49 = vf_upd (dAD d 49) m (dAD d 17 m) := by
    unfold tkS; split
    · rw [uu_D _ _ _ _ _ _ _ (by decide), tk0_49]
    · split
      · rw [uu_D _ _ _ _ _ _ _ (by decide), tk0_49]
      · exact tk0_49 m d
  have e2 : dAF (tkS C m d) 53 = vf_upd (dAF d 53) m (dAF d 18 m) := by
    unfold tkS; split
    · rw [uu_F _ _ _ _ _ _ _ (by decide), tk0_53]
    · split
      · rw [uu_F _ _ _ _ _ _ _ (by decide), tk0_53]
      · exact tk0_53 m d
  unfold fOK
  rw [e1, e2]
  exact ⟨upd_all h.1 (hR.st m), upd_all h.2 (hR.sf m)⟩
theorem nx_b {C : tp_C} {m : Nat} {d : md_T} (hR : rOK d) : bD 1075 (nxD C d m) := by
  unfold nxD; split
  · exact in_b hR.rd
  · exact hR.st m
theorem nx_bF {C : tp_C} {m : Nat} {d : md_T} (hR : rOK d) : bF 1075 (nxF C d m) := by
  unfold nxF; split
  · exact in_bF hR.rf
  · exact hR.sf m
theorem tkS_n {C : tp_C} {m : Nat} {d : md_T} (hR : rOK d) (h : nOK d) : nOK (tkS C m d) := by
  unfold nOK tkS
  split
  · rw [uu_Ds, uu_Fs, tk0_54, tk0_55]; exact ⟨upd_all h.1 (nx_b hR), upd_all h.2 (nx_bF hR)⟩
  · split
    · rw [uu_Ds, uu_Fs, tk0_54, tk0_55]; exact ⟨upd_all h.1 (in_b hR.rd), upd_all h.2 (in_bF hR.rf)⟩
    · rw [tk0_54, tk0_55]; exact h
/-- what holds between steps; f: the levels -/
def iOK (C : tp_C) (f : Nat → Int32) (d : md_T) : Prop := rOK d ∧ gOK d ∧ nOK d ∧ fOK d ∧ zOK C d ∧ dAI d 10 = f
theorem iOK.r {C : tp_C} {f : Nat → Int32} {d : md_T} (h : iOK C f d) : rOK d := h.1
theorem iOK.g {C : tp_C} {f : Nat → Int32} {d : md_T} (h : iOK C f d) : gOK d := h.2.1
theorem iOK.n {C : tp_C} {f : Nat → Int32} {d : md_T} (h : iOK C f d) : nOK d := h.2.2.1
theorem iOK.f {C : tp_C} {f : Nat → Int32} {d : md_T} (h : iOK C f d) : fOK d := h.2.2.2.1
theorem iOK.z {C : tp_C} {f : Nat → Int32} {d : md_T} (h : iOK C f d) : zOK C d := h.2.2.2.2.1
theorem iOK.l {C : tp_C} {f : Nat → Int32} {d : md_T} (h : iOK C f d) : dAI d 10 = f := h.2.2.2.2.2
theorem iOK_tk {C : tp_C} {f : Nat → Int32} {m : Nat} {d : md_T} (h : iOK C f d) : iOK C f (tkS C m d) := by
  refine ⟨?_, ?_, tkS_n h.r h.n, tkS_f h.r h.f, ?_, by rw [tkS_A]; exact h.l⟩
  · unfold rOK
    rw [tkS_D C m d (by decide) (by decide), tkS_D C m d (by decide) (by decide), tkS_D C m d (by decide) (by decide), tkS_F C m d (by decide) (by decide), tkS_F C m d (by decide) (by decide), tkS_F C m d (by decide) (by decide)]
    exact h.r
  · unfold gOK
    rw [tkS_D C m d (by decide) (by decide), tkS_D C m d (by decide) (by decide), tkS_D C m d (by decide) (by decide), tkS_F C m d (by decide) (by decide), tkS_F C m d (by decide) (by decide), tkS_F C m d (by decide) (by decide)]
    exact h.g
  · unfold zOK
    rw [tkS_D C m d (by decide) (by decide), tkS_F C m d (by decide) (by decide)]
    exact h.z
theorem iOK_tkN {C : tp_C} {f : Nat → Int32} {d : md_T} (h : iOK C f d) (n : Nat) : iOK C f (tkN C n d) := it_ok (n := n) h (fun _ _ _ hh => iOK_tk hh) n (Nat.le_refl n)
theorem ss_D (d : md_T) (k' : Nat) (f : Nat → UInt64) (k2 : Nat) (g : Nat → UInt32) {k : Nat} (h : k ≠ k') : dAD (sAF (sAD d k' f) k2 g) k = dAD d k := sAD_ne d k' f h
theorem ss_F (d : md_T) (k' : Nat) (f : Nat → UInt64) (k2 : Nat) (g : Nat → UInt32) {k : Nat} (h : k ≠ k2) : dAF (sAF (sAD d k' f) k2 g) k = dAF d k := sAF_ne (sAD d k' f) k2 g h
theorem ss_Ds (d : md_T) (k' : Nat) (f : Nat → UInt64) (k2 : Nat) (g : Nat → UInt32) : dAD (sAF (sAD d k' f) k2 g) k' = f := dAD_sAD d k' f
theorem ss_Fs (d : md_T) (k' : Nat) (f : Nat → UInt64) (k2 : Nat) (g : Nat → UInt32) : dAF (sAF (sAD d k' f) k2 g) k2 = g := dAF_sAF (sAD d k' f) k2 g
theorem ss_r {d : md_T} {k' : Nat} {f : Nat → UInt64} {k2 : Nat} {g : Nat → UInt32} (h1 : 22 < k') (h2 : 22 < k2) (h : rOK d) : rOK (sAF (sAD d k' f) k2 g) := by
  unfold rOK
  rw [ss_D _ _ _ _ _ (by omega), ss_D _ _ _ _ _ (by omega), ss_D _ _ _ _ _ (by omega), ss_F _ _ _ _ _ (by omega), ss_F _ _ _ _ _ (by omega), ss_F _ _ _ _ _ (by omega)]
  exact h
theorem ss_n {d : md_T} {k' : Nat} {f : Nat → UInt64} {k2 : Nat} {g : Nat → UInt32} (h1 : 54 ≠ k') (h2 : 55 ≠ k2) (h : nOK d) : nOK (sAF (sAD d k' f) k2 g) := by
  unfold nOK; rw [ss_D _ _ _ _ _ h1, ss_F _ _ _ _ _ h2]; exact h
theorem ss_f {d : md_T} {k' : Nat} {f : Nat → UInt64} {k2 : Nat} {g : Nat → UInt32} (h1 : 49 ≠ k') (h2 : 53 ≠ k2) (h : fOK d) : fOK (sAF (sAD d k' f) k2 g) := by
  unfold fOK; rw [ss_D _ _ _ _ _ h1, ss_F _ _ _ _ _ h2]; exact h
theorem ss_h {d : md_T} {k' : Nat} {f : Nat → UInt64} {k2 : Nat} {g : Nat → UInt32} (h1 : 56 ≠ k') (h2 : 57 ≠ k2) (h : hOK d) : hOK (sAF (sAD d k' f) k2 g) := by
  unfold hOK; rw [ss_D _ _ _ _ _ h1, ss_F _ _ _ _ _ h2]; exact h
theorem ss_z {C : tp_C} {d : md_T} {k' : Nat} {f : Nat → UInt64} {k2 : Nat} {g : Nat → UInt32} (h1 : 56 ≠ k') (h2 : 57 ≠ k2) (h : zOK C d) : zOK C (sAF (sAD d k' f) k2 g) := by
  unfold zOK; rw [ss_D _ _ _ _ _ h1, ss_F _ _ _ _ _ h2]; exact h
theorem ss_A (d : md_T) (k' : Nat) (f : Nat → UInt64) (k2 : Nat) (g : Nat → UInt32) : dAI (sAF (sAD d k' f) k2 g) = dAI d := rfl
theorem ss_g {d : md_T} {k' : Nat} {f : Nat → UInt64} {k2 : Nat} {g : Nat → UInt32} (h1 : 52 < k') (h2 : 52 < k2) (h : gOK d) : gOK (sAF (sAD d k' f) k2 g) := by
  unfold gOK
  rw [ss_D _ _ _ _ _ (by omega), ss_D _ _ _ _ _ (by omega), ss_D _ _ _ _ _ (by omega), ss_F _ _ _ _ _ (by omega), ss_F _ _ _ _ _ (by omega), ss_F _ _ _ _ _ (by omega)]
  exact h
-- rates
theorem rate_D (C : tp_C) (d : md_T) {k : Nat} (h : k ≠ 56) : dAD (rateD C d) k = dAD d k := sAD_ne d 56 _ h
theorem rate_F (C : tp_C) (d : md_T) {k : Nat} (h : k ≠ 57) : dAF (rateD C d) k = dAF d k := sAF_ne _ 57 _ h
theorem iOK_rate {C : tp_C} {f : Nat → Int32} {d : md_T} (h : iOK C f d) : iOK C f (rateD C d) ∧ hOK (rateD C d) := by
  have e1 : dAD (rateD C d) 56 = pm (dAD d 56) (cN C) (rtG C d) := dAD_sAD d 56 _
  have e2 : dAF (rateD C d) 57 = pm (dAF d 57) (cN C) (rtGF C d) := dAF_sAF _ 57 _
  have hz : ∀ k, ¬ (k < cN C ∧ cK C k = 2) → pm (dAD d 56) (cN C) (rtG C d) k = FP.dconst0 ∧ pm (dAF d 57) (cN C) (rtGF C d) k = FP.fconst0 := by
    intro k hk
    have h0 := h.z k hk
    unfold pm rtG rtGF
    by_cases hN : k < cN C
    · have hk2 : ¬ cK C k = 2 := fun e => hk ⟨hN, e⟩
      rw [if_pos hN, if_pos hN, if_neg hk2, if_neg hk2]; exact h0
    · rw [if_neg hN, if_neg hN]; exact h0
  refine ⟨⟨ss_r (by decide) (by decide) h.r, ss_g (by decide) (by decide) h.g, ss_n (by decide) (by decide) h.n, ss_f (by decide) (by decide) h.f, ?_, h.l⟩, ?_⟩
  · unfold zOK; rw [e1, e2]; exact hz
  · unfold hOK
    rw [e1, e2]
    constructor
    · intro k
      by_cases hk : k < cN C ∧ cK C k = 2
      · unfold pm rtG; rw [if_pos hk.1, if_pos hk.2]; exact su_b h.r.rd
      · rw [(hz k hk).1]; exact bD_0
    · intro k
      by_cases hk : k < cN C ∧ cK C k = 2
      · unfold pm rtGF; rw [if_pos hk.1, if_pos hk.2]; exact su_bF h.r.rf
      · rw [(hz k hk).2]; exact bF_0
-- rates kept
theorem kp_1 (C : tp_C) (d : md_T) : kpD C 1 d = sAF (sAD d 46 (pm (dAD d 46) (cN C) (dAD d 56))) 50 (pm (dAF d 50) (cN C) (dAF d 57)) := rfl
theorem kp_2 (C : tp_C) (d : md_T) : kpD C 2 d = sAF (sAD d 47 (pm (dAD d 47) (cN C) (dAD d 56))) 51 (pm (dAF d 51) (cN C) (dAF d 57)) := rfl
theorem kp_3 (C : tp_C) (d : md_T) : kpD C 3 d = sAF (sAD d 48 (pm (dAD d 48) (cN C) (dAD d 56))) 52 (pm (dAF d 52) (cN C) (dAF d 57)) := rfl
theorem gOK_kp1 {C : tp_C} {d : md_T} (h : gOK d) (h2 : hOK d) : gOK (kpD C 1 d) := by
  rw [kp_1]
  refine ⟨?_, ?_, ?_, ?_, ?_, ?_⟩
  · rw [ss_Ds]; exact pm_all h.1 (fun j _ => h2.1 j)
  · rw [ss_D _ _ _ _ _ (by decide)]; exact h.2.1
  · rw [ss_D _ _ _ _ _ (by decide)]; exact h.2.2.1
  · rw [ss_Fs]; exact pm_all h.2.2.2.1 (fun j _ => h2.2 j)
  · rw [ss_F _ _ _ _ _ (by decide)]; exact h.2.2.2.2.1
  · rw [ss_F _ _ _ _ _ (by decide)]; exact h.2.2.2.2.2
theorem iOK_kp1 {C : tp_C} {f : Nat → Int32} {d : md_T} (h : iOK C f d) (h2 : hOK d) : iOK C f (kpD C 1 d) ∧ hOK (kpD C 1 d) :=
  ⟨⟨ss_r (by decide) (by decide) h.r, gOK_kp1 h.g h2, ss_n (by decide) (by decide) h.n, ss_f (by decide) (by decide) h.f, ss_z (by decide) (by decide) h.z, h.l⟩, ss_h (by decide) (by decide) h2⟩
theorem gOK_kp2 {C : tp_C} {d : md_T} (h : gOK d) (h2 : hOK d) : gOK (kpD C 2 d) := by
  rw [kp_2]
  refine ⟨?_, ?_, ?_, ?_, ?_, ?_⟩
  · rw [ss_D _ _ _ _ _ (by decide)]; exact h.1
  · rw [ss_Ds]; exact pm_all h.2.1 (fun j _ => h2.1 j)
  · rw [ss_D _ _ _ _ _ (by decide)]; exact h.2.2.1
  · rw [ss_F _ _ _ _ _ (by decide)]; exact h.2.2.2.1
  · rw [ss_Fs]; exact pm_all h.2.2.2.2.1 (fun j _ => h2.2 j)
  · rw [ss_F _ _ _ _ _ (by decide)]; exact h.2.2.2.2.2
theorem iOK_kp2 {C : tp_C} {f : Nat → Int32} {d : md_T} (h : iOK C f d) (h2 : hOK d) : iOK C f (kpD C 2 d) ∧ hOK (kpD C 2 d) :=
  ⟨⟨ss_r (by decide) (by decide) h.r, gOK_kp2 h.g h2, ss_n (by decide) (by decide) h.n, ss_f (by decide) (by decide) h.f, ss_z (by decide) (by decide) h.z, h.l⟩, ss_h (by decide) (by decide) h2⟩
theorem gOK_kp3 {C : tp_C} {d : md_T} (h : gOK d) (h2 : hOK d) : gOK (kpD C 3 d) := by
  rw [kp_3]
  refine ⟨?_, ?_, ?_, ?_, ?_, ?_⟩
  · rw [ss_D _ _ _ _ _ (by decide)]; exact h.1
  · rw [ss_D _ _ _ _ _ (by decide)]; exact h.2.1
  · rw [ss_Ds]; exact pm_all h.2.2.1 (fun j _ => h2.1 j)
  · rw [ss_F _ _ _ _ _ (by decide)]; exact h.2.2.2.1
  · rw [ss_F _ _ _ _ _ (by decide)]; exact h.2.2.2.2.1
  · rw [ss_Fs]; exact pm_all h.2.2.2.2.2 (fun j _ => h2.2 j)
theorem iOK_kp3 {C : tp_C} {f : Nat → Int32} {d : md_T} (h : iOK C f d) (h2 : hOK d) : iOK C f (kpD C 3 d) ∧ hOK (kpD C 3 d) :=
  ⟨⟨ss_r (by decide) (by decide) h.r, gOK_kp3 h.g h2, ss_n (by decide) (by decide) h.n, ss_f (by decide) (by decide) h.f, ss_z (by decide) (by decide) h.z, h.l⟩, ss_h (by decide) (by decide) h2⟩
def zgOK (C : tp_C) (a b : Nat) (d : md_T) : Prop := ∀ k, k < cN C → ¬ cK C k = 2 → dAD d a k = FP.dconst0 ∧ dAF d b k = FP.fconst0
theorem zg_kp1 {C : tp_C} {d : md_T} (h : zOK C d) : zgOK C 46 50 (kpD C 1 d) := by
  intro k hk hk2
  have h0 := h k (fun e => hk2 e.2)
  rw [kp_1, ss_Ds, ss_Fs]
  unfold pm
  rw [if_pos hk, if_pos hk]
  exact h0
theorem zg_kp2 {C : tp_C} {d : md_T} (h : zOK C d) : zgOK C 47 51 (kpD C 2 d) := by
  intro k hk hk2
  have h0 := h k (fun e => hk2 e.2)
  rw [kp_2, ss_Ds, ss_Fs]
  unfold pm
  rw [if_pos hk, if_pos hk]
  exact h0
theorem zg_kp3 {C : tp_C} {d : md_T} (h : zOK C d) : zgOK C 48 52 (kpD C 3 d) := by
  intro k hk hk2
  have h0 := h k (fun e => hk2 e.2)
  rw [kp_3, ss_Ds, ss_Fs]
  unfold pm
  rw [if_pos hk, if_pos hk]
  exact h0
theorem zg_mv {C : tp_C} {a b : Nat} {d d' : md_T} (h : zgOK C a b d) (e1 : dAD d' a = dAD d a) (e2 : dAF d' b = dAF d b) : zgOK C a b d' := by
  unfold zgOK; rw [e1, e2]; exact h
theorem q_of {d : md_T} (h1 : fOK d) (h2 : hOK d) : qOK d := ⟨h1.1, h1.2, fun k => bD_n (h2.1 k), fun k => bF_n (h2.2 k)⟩
-- stages
theorem sgN_D {C : tp_C} {t : UInt64} {n : Nat} {d : md_T} {k : Nat} (h : k ≠ 17) : dAD (sgN C t n d) k = dAD d k :=
  it_ok (P := fun x => dAD x k = dAD d k) (n := n) rfl (fun i a _ hh => by
    unfold sgS; split
    · rw [sg2_D, sg1_D _ _ _ h]; exact hh
    · exact hh) n (Nat.le_refl n)
theorem sgN_F {C : tp_C} {t : UInt64} {n : Nat} {d : md_T} {k : Nat} (h : k ≠ 18) : dAF (sgN C t n d) k = dAF d k :=
  it_ok (P := fun x => dAF x k = dAF d k) (n := n) rfl (fun i a _ hh => by
    unfold sgS; split
    · rw [sg2_F _ _ _ h, sg1_F]; exact hh
    · exact hh) n (Nat.le_refl n)
theorem sg1_A (t : UInt64) (m : Nat) (d : md_T) {k : Nat} (h : k ≠ 24) : dAI (sg1 t m d) k = dAI d k := mAfter_A d m (sgV d t m) h
theorem sg2_A (t : UInt64) (m : Nat) (d : md_T) {k : Nat} (h : k ≠ 24) : dAI (sg2 t m d) k = dAI d k := mAfterF_A d m (sgW d t m) h
theorem sgN_A {C : tp_C} {t : UInt64} {n : Nat} {d : md_T} {k : Nat} (h : k ≠ 24) : dAI (sgN C t n d) k = dAI d k :=
  it_ok (P := fun x => dAI x k = dAI d k) (n := n) rfl (fun i a _ hh => by
    unfold sgS; split
    · rw [sg2_A _ _ _ h, sg1_A _ _ _ h]; exact hh
    · exact hh) n (Nat.le_refl n)
theorem iOK_sg {C : tp_C} {f : Nat → Int32} {t : UInt64} {d : md_T} (ht : tOK t) (hq : qOK d) (h : iOK C f d) : iOK C f (sgA C t d) := by
  refine ⟨(sgN_ok ht hq h.r _).1, ?_, ?_, ?_, ?_, (sgN_A (by decide)).trans h.l⟩
  · unfold gOK sgA
    rw [sgN_D (by decide), sgN_D (by decide), sgN_D (by decide), sgN_F (by decide), sgN_F (by decide), sgN_F (by decide)]
    exact h.g
  · unfold nOK sgA; rw [sgN_D (by decide), sgN_F (by decide)]; exact h.n
  · unfold fOK sgA; rw [sgN_D (by decide), sgN_F (by decide)]; exact h.f
  · unfold zOK sgA; rw [sgN_D (by decide), sgN_F (by decide)]; exact h.z
theorem hOK_sg {C : tp_C} {t : UInt64} {d : md_T} (h : hOK d) : hOK (sgA C t d) := by
  unfold hOK sgA; rw [sgN_D (by decide), sgN_F (by decide)]; exact h
-- reading
theorem iOK_ra {C : tp_C} {f : Nat → Int32} {d : md_T} (hC : mOK C) (hV : vOK C) (hA : aOK C) (h : iOK C f d) : iOK C f (raD C d) := by
  refine ⟨raD_ok hC hV hA h.r, ?_, ?_, ?_, ?_, (raN_A (by decide)).trans h.l⟩
  · unfold gOK raD
    rw [raN_D (by decide), raN_D (by decide), raN_D (by decide), raN_F (by decide), raN_F (by decide), raN_F (by decide)]
    exact h.g
  · unfold nOK raD; rw [raN_D (by decide), raN_F (by decide)]; exact h.n
  · unfold fOK raD; rw [raN_D (by decide), raN_F (by decide)]; exact h.f
  · unfold zOK raD; rw [raN_D (by decide), raN_F (by decide)]; exact h.z
theorem hOK_ra {C : tp_C} {d : md_T} (h : hOK d) : hOK (raD C d) := by
  unfold hOK raD; rw [raN_D (by decide), raN_F (by decide)]; exact h
-- rates put together
theorem dz_add : FP.dadd FP.dconst0 FP.dconst0 = FP.dconst0 := by decide +kernel
theorem dz_mul : FP.dmul 4611686018427387904 FP.dconst0 = FP.dconst0 := by decide +kernel
theorem dz_div : FP.ddiv FP.dconst0 4618441417868443648 = FP.dconst0 := by decide +kernel
theorem fz_add : FP.fadd FP.fconst0 FP.fconst0 = FP.fconst0 := by decide +kernel
theorem fz_mul : FP.fmul FP.fconst2 FP.fconst0 = FP.fconst0 := by decide +kernel
theorem fz_div : FP.fdiv FP.fconst0 1086324736 = FP.fconst0 := by decide +kernel
theorem k2D : v64 4611686018427387904 = .fin false 4503599627370496 (-51) := by decide +kernel
theorem k6D : v64 4618441417868443648 = .fin false 6755399441055744 (-50) := by decide +kernel
theorem k2F : v32 FP.fconst2 = .fin false 8388608 (-22) := by decide +kernel
theorem k6F : v32 1086324736 = .fin false 12582912 (-21) := by decide +kernel
theorem b2D : bD 1076 4611686018427387904 := by
  refine ⟨_, _, _, k2D, by decide, ?_⟩
  rw [show (4503599627370496 : Nat) = 2 ^ 52 by decide, ← Nat.pow_add]
  exact Nat.pow_lt_pow_right (by decide) (by decide)
theorem b2F : bF 1076 FP.fconst2 := by
  refine ⟨_, _, _, k2F, by decide, ?_⟩
  rw [show (8388608 : Nat) = 2 ^ 23 by decide, ← Nat.pow_add]
  exact Nat.pow_lt_pow_right (by decide) (by decide)
theorem c1_b {d : md_T} (hg : gOK d) (hh : hOK d) (j : Nat) : bD 1089 (c1G d j) := bD_add (hg.1 j) (hh.1 j)
theorem c1_bF {d : md_T} (hg : gOK d) (hh : hOK d) (j : Nat) : bF 1089 (c1F d j) := bF_add (hg.2.2.2.1 j) (hh.2 j)
theorem c2_1 {d : md_T} (hg : gOK d) (j : Nat) : bD 1090 (FP.dmul 4611686018427387904 (dAD d 47 j)) := bD_mul (K := 1076) (L := 1087) b2D (hg.2.1 j)
theorem c2_2 {d : md_T} (hg : gOK d) (j : Nat) : bD 1092 (FP.dadd (dAD d 46 j) (FP.dmul 4611686018427387904 (dAD d 47 j))) := bD_add (K := 1090) (bD_up (hg.1 j)) (c2_1 hg j)
theorem c2_3 {d : md_T} (hg : gOK d) (j : Nat) : bD 1090 (FP.dmul 4611686018427387904 (dAD d 48 j)) := bD_mul (K := 1076) (L := 1087) b2D (hg.2.2.1 j)
theorem c2_4 {d : md_T} (hg : gOK d) (j : Nat) : bD 1094 (FP.dadd (FP.dadd (dAD d 46 j) (FP.dmul 4611686018427387904 (dAD d 47 j))) (FP.dmul 4611686018427387904 (dAD d 48 j))) := bD_add (K := 1092) (c2_2 hg j) (bD_up (c2_3 hg j))
theorem c2_5 {d : md_T} (hg : gOK d) (hh : hOK d) (j : Nat) : bD 1096 (FP.dadd (FP.dadd (FP.dadd (dAD d 46 j) (FP.dmul 4611686018427387904 (dAD d 47 j))) (FP.dmul 4611686018427387904 (dAD d 48 j))) (dAD d 56 j)) := bD_add (K := 1094) (c2_4 hg j) (bD_up (hh.1 j))
theorem c2_n {d : md_T} (hg : gOK d) (hh : hOK d) (j : Nat) : vf_n64 (c2G d j) := nD_div (bD_n (c2_5 hg hh j)) ⟨_, _, _, k6D, by decide⟩
theorem c2_1F {d : md_T} (hg : gOK d) (j : Nat) : bF 1090 (FP.fmul FP.fconst2 (dAF d 51 j)) := bF_mul (K := 1076) (L := 1087) b2F (hg.2.2.2.2.1 j)
theorem c2_2F {d : md_T} (hg : gOK d) (j : Nat) : bF 1092 (FP.fadd (dAF d 50 j) (FP.fmul FP.fconst2 (dAF d 51 j))) := bF_add (K := 1090) (bF_up (hg.2.2.2.1 j)) (c2_1F hg j)
theorem c2_3F {d : md_T} (hg : gOK d) (j : Nat) : bF 1090 (FP.fmul FP.fconst2 (dAF d 52 j)) := bF_mul (K := 1076) (L := 1087) b2F (hg.2.2.2.2.2 j)
theorem c2_4F {d : md_T} (hg : gOK d) (j : Nat) : bF 1094 (FP.fadd (FP.fadd (dAF d 50 j) (FP.fmul FP.fconst2 (dAF d 51 j))) (FP.fmul FP.fconst2 (dAF d 52 j))) := bF_add (K := 1092) (c2_2F hg j) (bF_up (c2_3F hg j))
theorem c2_5F {d : md_T} (hg : gOK d) (hh : hOK d) (j : Nat) : bF 1096 (FP.fadd (FP.fadd (FP.fadd (dAF d 50 j) (FP.fmul FP.fconst2 (dAF d 51 j))) (FP.fmul FP.fconst2 (dAF d 52 j))) (dAF d 57 j)) := bF_add (K := 1094) (c2_4F hg j) (bF_up (hh.2 j))
theorem c2_nF {d : md_T} (hg : gOK d) (hh : hOK d) (j : Nat) : vf_n32 (c2F d j) := nF_div (bF_n (c2_5F hg hh j)) ⟨_, _, _, k6F, by decide⟩
theorem iOK_c1 {C : tp_C} {f : Nat → Int32} {d : md_T} (h : iOK C f d) (hh : hOK d) (hz : zgOK C 46 50 d) : iOK C f (c1I d (cN C)) ∧ qOK (c1I d (cN C)) := by
  have e1 : dAD (c1I d (cN C)) 56 = pm (dAD d 56) (cN C) (c1G d) := dAD_sAD d 56 _
  have e2 : dAF (c1I d (cN C)) 57 = pm (dAF d 57) (cN C) (c1F d) := dAF_sAF _ 57 _
  have hf' : fOK (c1I d (cN C)) := ss_f (by decide) (by decide) h.f
  refine ⟨⟨ss_r (by decide) (by decide) h.r, ss_g (by decide) (by decide) h.g, ss_n (by decide) (by decide) h.n, hf', ?_, h.l⟩, hf'.1, hf'.2, ?_, ?_⟩
  · unfold zOK
    rw [e1, e2]
    intro k hk
    have h0 := h.z k hk
    unfold pm
    by_cases hN : k < cN C
    · have h1 := hz k hN (fun e => hk ⟨hN, e⟩)
      rw [if_pos hN, if_pos hN]
      unfold c1G c1F
      rw [h0.1, h0.2, h1.1, h1.2]
      exact ⟨dz_add, fz_add⟩
    · rw [if_neg hN, if_neg hN]; exact h0
  · rw [e1]; exact pm_all (fun k => bD_n (hh.1 k)) (fun k _ => bD_n (c1_b h.g hh k))
  · rw [e2]; exact pm_all (fun k => bF_n (hh.2 k)) (fun k _ => bF_n (c1_bF h.g hh k))
theorem iOK_c2 {C : tp_C} {f : Nat → Int32} {d : md_T} (h : iOK C f d) (hh : hOK d) (hz1 : zgOK C 46 50 d) (hz2 : zgOK C 47 51 d) (hz3 : zgOK C 48 52 d) : iOK C f (c2I d (cN C)) ∧ qOK (c2I d (cN C)) := by
  have e1 : dAD (c2I d (cN C)) 56 = pm (dAD d 56) (cN C) (c2G d) := dAD_sAD d 56 _
  have e2 : dAF (c2I d (cN C)) 57 = pm (dAF d 57) (cN C) (c2F d) := dAF_sAF _ 57 _
  have hf' : fOK (c2I d (cN C)) := ss_f (by decide) (by decide) h.f
  refine ⟨⟨ss_r (by decide) (by decide) h.r, ss_g (by decide) (by decide) h.g, ss_n (by decide) (by decide) h.n, hf', ?_, h.l⟩, hf'.1, hf'.2, ?_, ?_⟩
  · unfold zOK
    rw [e1, e2]
    intro k hk
    have h0 := h.z k hk
    unfold pm
    by_cases hN : k < cN C
    · have hk2 : ¬ cK C k = 2 := fun e => hk ⟨hN, e⟩
      have h1 := hz1 k hN hk2
      have h2 := hz2 k hN hk2
      have h3 := hz3 k hN hk2
      rw [if_pos hN, if_pos hN]
      unfold c2G c2F
      rw [h0.1, h0.2, h1.1, h1.2, h2.1, h2.2, h3.1, h3.2, dz_mul, fz_mul, dz_add, dz_add, dz_add, fz_add, fz_add, fz_add]
      exact ⟨dz_div, fz_div⟩
    · rw [if_neg hN, if_neg hN]; exact h0
  · rw [e1]; exact pm_all (fun k => bD_n (hh.1 k)) (fun k _ => c2_n h.g hh k)
  · rw [e2]; exact pm_all (fun k => bF_n (hh.2 k)) (fun k _ => c2_nF h.g hh k)
