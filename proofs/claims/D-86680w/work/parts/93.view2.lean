/-! beginnings, as the panel shows them -/
def bg2 (m : Nat) (d : md_T) : md_T := uAD (uAI d 24 m (-1)) 25 m FP.dconst0
def bg3 (C : tp_C) (m : Nat) (d : md_T) : md_T := uAF (uAD (bg2 m d) 17 m (cB C m)) 18 m (FP.d2f (cB C m))
theorem bg2_s (m : Nat) (d : md_T) : dI (bg2 m d) = dI d ∧ dAI (bg2 m d) 24 = upd (dAI d 24) m (-1) ∧ (∀ k, k ≠ 24 → dAI (bg2 m d) k = dAI d k) ∧ dAD (bg2 m d) 25 = vf_upd (dAD d 25) m FP.dconst0 ∧ (∀ k, k ≠ 25 → dAD (bg2 m d) k = dAD d k) ∧ dAF (bg2 m d) = dAF d :=
  ⟨rfl, dAI_self d 24 m _, fun k hk => uAI_ne d 24 m _ hk, dAD_self (uAI d 24 m (-1)) 25 m _, fun k hk => uAD_ne (uAI d 24 m (-1)) 25 m _ hk, rfl⟩
theorem bg3_s (C : tp_C) (m : Nat) (d : md_T) : dI (bg3 C m d) = dI d ∧ dAI (bg3 C m d) = dAI (bg2 m d) ∧ dAD (bg3 C m d) 17 = vf_upd (dAD d 17) m (cB C m) ∧ (∀ k, k ≠ 17 → dAD (bg3 C m d) k = dAD (bg2 m d) k) ∧ dAF (bg3 C m d) 18 = vf_upd (dAF d 18) m (FP.d2f (cB C m)) ∧ (∀ k, k ≠ 18 → dAF (bg3 C m d) k = dAF d k) :=
  ⟨rfl, rfl, (dAD_self (bg2 m d) 17 m _).trans (by rw [(bg2_s m d).2.2.2.2.1 17 (by decide)]), fun k hk => uAD_ne (bg2 m d) 17 m _ hk, dAF_self (uAD (bg2 m d) 17 m (cB C m)) 18 m _, fun k hk => uAF_ne (uAD (bg2 m d) 17 m (cB C m)) 18 m _ hk⟩
theorem bgS_s (C : tp_C) (m : Nat) (d : md_T) : dI (bgS C m d) = dI d ∧ dAI (bgS C m d) 24 = upd (dAI d 24) m (-1) ∧ dAI (bgS C m d) 23 = upd (dAI d 23) m (sd0 C m) ∧ (∀ k, k ≠ 24 → k ≠ 23 → dAI (bgS C m d) k = dAI d k) ∧ dAD (bgS C m d) 25 = vf_upd (dAD d 25) m FP.dconst0 ∧ dAD (bgS C m d) 17 = vf_upd (dAD d 17) m (cB C m) ∧ dAD (bgS C m d) 21 = fil (dAD d 21) m 16 (cB C m) ∧ (∀ k, k ≠ 25 → k ≠ 17 → k ≠ 21 → dAD (bgS C m d) k = dAD d k) ∧ dAF (bgS C m d) 18 = vf_upd (dAF d 18) m (FP.d2f (cB C m)) ∧ dAF (bgS C m d) 22 = fil (dAF d 22) m 16 (FP.d2f (cB C m)) ∧ (∀ k, k ≠ 18 → k ≠ 22 → dAF (bgS C m d) k = dAF d k) := by
  have e5 : bg5 C m d = uAI (bg3 C m d) 23 m (sd0 C m) := rfl
  obtain ⟨a1, a2, a3, a4, a5, a6⟩ := bg2_s m d
  obtain ⟨b1, b2, b3, b4, b5, b6⟩ := bg3_s C m d
  have eS : bgS C m d = rbI (bg5 C m d) m 16 (cB C m) := rfl
  have hA : dAI (bgS C m d) = dAI (bg5 C m d) := rfl
  refine ⟨rfl, ?_, ?_, fun k h1 h2 => ?_, ?_, ?_, ?_, fun k h1 h2 h3 => ?_, ?_, ?_, fun k h1 h2 => ?_⟩
  · rw [hA, e5, uAI_ne _ 23 m _ (by decide), b2, a2]
  · rw [hA, e5, dAI_self, b2, a3 23 (by decide)]
  · rw [hA, e5, uAI_ne _ 23 m _ h2, b2, a3 k h1]
  · rw [eS]; unfold rbI; rw [ss_D _ _ _ _ _ (by decide), e5]; show dAD (bg3 C m d) 25 = _; rw [b4 25 (by decide), a4]
  · rw [eS]; unfold rbI; rw [ss_D _ _ _ _ _ (by decide), e5]; show dAD (bg3 C m d) 17 = _; rw [b3]
  · rw [eS]; unfold rbI; rw [ss_Ds, e5]; show fil (dAD (bg3 C m d) 21) _ _ _ = _; rw [b4 21 (by decide), a5 21 (by decide)]
  · rw [eS]; unfold rbI; rw [ss_D _ _ _ _ _ h3, e5]; show dAD (bg3 C m d) k = _; rw [b4 k h2, a5 k h1]
  · rw [eS]; unfold rbI; rw [ss_F _ _ _ _ _ (by decide), e5]; show dAF (bg3 C m d) 18 = _; rw [b5]
  · rw [eS]; unfold rbI; rw [ss_Fs, e5]; show fil (dAF (bg3 C m d) 22) _ _ _ = _; rw [b6 22 (by decide)]
  · rw [eS]; unfold rbI; rw [ss_F _ _ _ _ _ h2, e5]; show dAF (bg3 C m d) k = _; rw [b6 k h1]
theorem fil_ne {α : Type} (f : Nat → α) {m m' k q n : Nat} (v : α) (hm : m' ≠ m) (hk : k < 16) (hn : n ≤ 16) (hq : q = 16 * m' + k) : fil f m n v q = f q := by
  subst hq; unfold fil; rw [if_neg (by omega)]
/-- a world e that shows what a beginning shows -/
theorem bg_v {dA : Nat → ClassId} {C : tp_C} {d e : md_T} {j : xj_T} {m : Nat} (hC : mOK C) (hD : dnOK j) (hI : dI e = dI d) (h24 : dAI e 24 = upd (dAI d 24) m (-1)) (hA : ∀ k, k ≠ 24 → k ≠ 23 → dAI e k = dAI d k) (h25 : dAD e 25 = vf_upd (dAD d 25) m FP.dconst0) (hDs : ∀ k, k ≠ 25 → k ≠ 17 → k ≠ 21 → dAD e k = dAD d k) (hFs : ∀ k, k ≠ 18 → k ≠ 22 → dAF e k = dAF d k)
    (h17 : ∀ m', (cK C m' = 2 ∨ cK C m' = 3 ∨ cK C m' = 13) → dAD e 17 m' = vf_upd (dAD d 17) m (cB C m) m' ∧ dAF e 18 m' = vf_upd (dAF d 18) m (FP.d2f (cB C m)) m') (h23 : ∀ m', cK C m' = 13 → dAI e 23 m' = upd (dAI d 23) m (sd0 C m) m')
    (hr : ∀ m' n, cK C m' = 11 → jDn j m' = some n → ∀ k, k < n → dAD e 21 (16 * m' + k) = fil (dAD d 21) m 16 (cB C m) (16 * m' + k) ∧ dAF e 22 (16 * m' + k) = fil (dAF d 22) m 16 (FP.d2f (cB C m)) (16 * m' + k)) : xL dA C e j = xL dA C (bgS C m d) j := by
  obtain ⟨s1, s2, s3, s4, s5, s6, s7, s8, s9, s10, s11⟩ := bgS_s C m d
  refine xL_vk hC (by rw [hI, s1]) (by rw [hI, s1]) (by rw [hI, s1]) (by rw [hDs 40 (by decide) (by decide) (by decide), s8 40 (by decide) (by decide) (by decide)]) (by rw [hA 39 (by decide) (by decide), s4 39 (by decide) (by decide)]) (by rw [hDs 42 (by decide) (by decide) (by decide), s8 42 (by decide) (by decide) (by decide)]) (by rw [hA 10 (by decide) (by decide), s4 10 (by decide) (by decide)]) (fun m' _ => ?_) (fun m' _ hk => ?_) (fun m' _ hk => ?_) (fun m' n _ hk hd k hkn => ?_)
  · rw [hDs 19 (by decide) (by decide) (by decide), s8 19 (by decide) (by decide) (by decide), hFs 20 (by decide) (by decide), s11 20 (by decide) (by decide), h24, s2, h25, s5]; exact ⟨rfl, rfl, rfl, rfl⟩
  · rw [s6, s9]; exact h17 m' hk
  · rw [s3]; exact h23 m' hk
  · rw [s7, s10]; exact hr m' n hk hd k hkn
theorem bg_v0 {dA : Nat → ClassId} {C : tp_C} {d : md_T} {j : xj_T} {m : Nat} (hC : mOK C) (hD : dnOK j) (h2 : ¬ cK C m = 2) (h3 : ¬ cK C m = 3) (h11 : ¬ cK C m = 11) (h13 : ¬ cK C m = 13) : xL dA C (bg2 m d) j = xL dA C (bgS C m d) j := by
  obtain ⟨a1, a2, a3, a4, a5, a6⟩ := bg2_s m d
  refine bg_v hC hD a1 a2 (fun k h _ => a3 k h) a4 (fun k h _ _ => a5 k h) (fun k _ _ => by rw [a6]) (fun m' hk => ?_) (fun m' hk => ?_) (fun m' n hk hd k hkn => ?_)
  · have hne : m' ≠ m := fun e => by subst e; omega
    rw [a5 17 (by decide), a6, vf_ne _ _ hne, vf_ne _ _ hne]; exact ⟨rfl, rfl⟩
  · have hne : m' ≠ m := fun e => by subst e; omega
    rw [a3 23 (by decide)]; unfold upd; rw [if_neg hne]
  · have hne : m' ≠ m := fun e => by subst e; omega
    have := hD m' n hd
    rw [a5 21 (by decide), a6, fil_ne _ _ hne (by omega) (by decide) rfl, fil_ne _ _ hne (by omega) (by decide) rfl]; exact ⟨rfl, rfl⟩
theorem bg_v1 {dA : Nat → ClassId} {C : tp_C} {d : md_T} {j : xj_T} {m : Nat} (hC : mOK C) (hD : dnOK j) (h : cK C m = 2 ∨ cK C m = 3) : xL dA C (bg3 C m d) j = xL dA C (bgS C m d) j := by
  obtain ⟨a1, a2, a3, a4, a5, a6⟩ := bg2_s m d
  obtain ⟨b1, b2, b3, b4, b5, b6⟩ := bg3_s C m d
  refine bg_v hC hD b1 (by rw [b2, a2]) (fun k h _ => by rw [b2, a3 k h]) (by rw [b4 25 (by decide), a4]) (fun k h h' _ => by rw [b4 k h', a5 k h]) (fun k h _ => b6 k h) (fun m' hk => ?_) (fun m' hk => ?_) (fun m' n hk hd k hkn => ?_)
  · rw [b3, b5]; exact ⟨rfl, rfl⟩
  · have hne : m' ≠ m := fun e => by subst e; omega
    rw [b2, a3 23 (by decide)]; unfold upd; rw [if_neg hne]
  · have hne : m' ≠ m := fun e => by subst e; omega
    have := hD m' n hd
    rw [b4 21 (by decide), a5 21 (by decide), b6 22 (by decide), fil_ne _ _ hne (by omega) (by decide) rfl, fil_ne _ _ hne (by omega) (by decide) rfl]; exact ⟨rfl, rfl⟩
theorem bg_v13 {dA : Nat → ClassId} {C : tp_C} {d : md_T} {j : xj_T} {m : Nat} (hC : mOK C) (hD : dnOK j) (h : cK C m = 13) : xL dA C (uAI (bg3 C m d) 23 m (FP.d2i (cS C m))) j = xL dA C (bgS C m d) j := by
  obtain ⟨a1, a2, a3, a4, a5, a6⟩ := bg2_s m d
  obtain ⟨b1, b2, b3, b4, b5, b6⟩ := bg3_s C m d
  have es : sd0 C m = FP.d2i (cS C m) := by unfold sd0; rw [if_pos h]
  refine bg_v hC hD b1 (by rw [uAI_ne _ 23 m _ (by decide), b2, a2]) (fun k h h' => by rw [uAI_ne _ 23 m _ h', b2, a3 k h]) (by show dAD (bg3 C m d) 25 = _; rw [b4 25 (by decide), a4]) (fun k h h' _ => by show dAD (bg3 C m d) k = _; rw [b4 k h', a5 k h]) (fun k h _ => b6 k h) (fun m' hk => ?_) (fun m' hk => ?_) (fun m' n hk hd k hkn => ?_)
  · show dAD (bg3 C m d) 17 m' = _ ∧ dAF (bg3 C m d) 18 m' = _
    rw [b3, b5]; exact ⟨rfl, rfl⟩
  · rw [dAI_self, b2, a3 23 (by decide), es]
  · have hne : m' ≠ m := fun e => by subst e; omega
    have := hD m' n hd
    show dAD (bg3 C m d) 21 _ = _ ∧ dAF (bg3 C m d) 22 _ = _
    rw [b4 21 (by decide), a5 21 (by decide), b6 22 (by decide), fil_ne _ _ hne (by omega) (by decide) rfl, fil_ne _ _ hne (by omega) (by decide) rfl]; exact ⟨rfl, rfl⟩
theorem bg_v11 {dA : Nat → ClassId} {C : tp_C} {d : md_T} {j : xj_T} {m n : Nat} (hC : mOK C) (hD : dnOK j) (h : cK C m = 11) (hn : n ≤ 16) (hd : jDn j m = some n) : xL dA C (rbI (zrD (bg2 m d) m) m n (cB C m)) j = xL dA C (bgS C m d) j := by
  obtain ⟨a1, a2, a3, a4, a5, a6⟩ := bg2_s m d
  have rD : ∀ k, k ≠ 21 → dAD (rbI (zrD (bg2 m d) m) m n (cB C m)) k = dAD (bg2 m d) k := fun k hk => by unfold rbI zrD; rw [ss_D _ _ _ _ _ hk, ss_D _ _ _ _ _ hk]
  have rF : ∀ k, k ≠ 22 → dAF (rbI (zrD (bg2 m d) m) m n (cB C m)) k = dAF d k := fun k hk => by unfold rbI zrD; rw [ss_F _ _ _ _ _ hk, ss_F _ _ _ _ _ hk, a6]
  have r21 : dAD (rbI (zrD (bg2 m d) m) m n (cB C m)) 21 = fil (fil (dAD d 21) m 16 FP.dconst0) m n (cB C m) := by
    unfold rbI; rw [ss_Ds]; unfold zrD; rw [ss_Ds, a5 21 (by decide)]
  have r22 : dAF (rbI (zrD (bg2 m d) m) m n (cB C m)) 22 = fil (fil (dAF d 22) m 16 FP.fconst0) m n (FP.d2f (cB C m)) := by
    unfold rbI; rw [ss_Fs]; unfold zrD; rw [ss_Fs, a6]
  refine bg_v hC hD a1 a2 (fun k h _ => a3 k h) ((rD 25 (by decide)).trans a4) (fun k h _ h' => (rD k h').trans (a5 k h)) (fun k _ h' => rF k h') (fun m' hk => ?_) (fun m' hk => ?_) (fun m' n' hk hd' k hkn => ?_)
  · have hne : m' ≠ m := fun e => by subst e; omega
    rw [rD 17 (by decide), a5 17 (by decide), rF 18 (by decide), vf_ne _ _ hne, vf_ne _ _ hne]; exact ⟨rfl, rfl⟩
  · have hne : m' ≠ m := fun e => by subst e; omega
    show dAI (bg2 m d) 23 m' = _
    rw [a3 23 (by decide)]; unfold upd; rw [if_neg hne]
  · rw [r21, r22]
    by_cases hne : m' = m
    · subst hne
      have e : n' = n := Option.some.inj (hd'.symm.trans hd)
      subst e
      unfold fil
      rw [if_pos ⟨by omega, by omega⟩, if_pos ⟨by omega, by omega⟩, if_pos ⟨by omega, by omega⟩, if_pos ⟨by omega, by omega⟩]; exact ⟨rfl, rfl⟩
    · have := hD m' n' hd'
      rw [fil_ne _ _ hne (by omega) hn rfl, fil_ne _ _ hne (by omega) (by decide) rfl, fil_ne _ _ hne (by omega) hn rfl, fil_ne _ _ hne (by omega) (by decide) rfl, fil_ne _ _ hne (by omega) (by decide) rfl, fil_ne _ _ hne (by omega) (by decide) rfl]; exact ⟨rfl, rfl⟩
/-- what is noted behind a module's beginning -/
def bgP (C : tp_C) (m : Nat) (j j' : xj_T) : Prop := (¬ cK C m = 11 ∧ j' = j) ∨ (cK C m = 11 ∧ ∃ q4 q5, j' = bgJ C m (dlN C m) q4 q5 j)
theorem dnOK_bg {C : tp_C} {m n q4 q5 : Nat} {j : xj_T} (h : dnOK j) (hn : n ≤ 16) : dnOK (bgJ C m n q4 q5 j) := fun m' n' hd => by
  have hd : vf_upd (jDn j) m (some n) m' = some n' := hd
  by_cases e : m' = m
  · rw [e, vf_at] at hd; cases hd; exact hn
  · rw [vf_ne _ _ e] at hd; exact h m' n' hd
