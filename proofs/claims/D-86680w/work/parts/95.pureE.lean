/-! all modules' beginnings in the panel -/
theorem dl_n {C : tp_C} {m : Nat} (h : dlOK C) (hk : cK C m = 11) : FP.d2i (cS C m) = nI (dlN C m) ∧ 1 ≤ dlN C m ∧ dlN C m ≤ 16 := by
  obtain ⟨n, h1, h2, h3⟩ := h m hk
  have e : dlN C m = n := by unfold dlN; rw [h3, ixN_nI (by omega)]
  rw [e]; exact ⟨h3, h1, h2⟩
def bsP (C : tp_C) (i : Nat) (j jj : xj_T) : Prop := (∀ r, r < 10 → jA jj r = jA j r) ∧ (∀ m k, k < 4 → jA jj (xr m k) = jA j (xr m k)) ∧ jWr jj = jWr j ∧ jNr jj = jNr j ∧ jWn jj = jWn j ∧ jNn jj = jNn j ∧ jSr jj = jSr j ∧ jOd jj = jOd j ∧ jRc jj = jRc j ∧ (∀ m, jDn jj m = if m < i ∧ cK C m = 11 then some (dlN C m) else jDn j m) ∧ (∀ m, m < i → cK C m = 11 → jWf jj m = cB C m ∧ jNf jj m = FP.d2f (cB C m)) ∧ dnOK jj
theorem bsP_0 {C : tp_C} {j : xj_T} (h : dnOK j) : bsP C 0 j j := ⟨fun _ _ => rfl, fun _ _ _ => rfl, rfl, rfl, rfl, rfl, rfl, rfl, rfl, fun m => by rw [if_neg (by omega)], fun m hm => by omega, h⟩
theorem bsP_s {C : tp_C} {i : Nat} {j jj jn : xj_T} (hDl : dlOK C) (h : bsP C i j jj) (hb : bgP C i jj jn) : bsP C (i + 1) j jn := by
  obtain ⟨h1, h2, h3, h4, h5, h6, h7, h8, h9, h10, h11, h12⟩ := h
  rcases hb with ⟨hk, rfl⟩ | ⟨hk, a, b, rfl⟩
  · refine ⟨h1, h2, h3, h4, h5, h6, h7, h8, h9, fun m => ?_, fun m hm hkm => ?_, h12⟩
    · rw [h10 m]
      by_cases e : m = i
      · subst e; rw [if_neg (fun q => hk q.2), if_neg (fun q => hk q.2)]
      · by_cases q : m < i ∧ cK C m = 11
        · rw [if_pos q, if_pos ⟨by omega, q.2⟩]
        · rw [if_neg q, if_neg (fun z => q ⟨by omega, z.2⟩)]
    · exact h11 m (by rcases Nat.lt_or_ge m i with z | z; exact z; exact absurd (by rw [← show m = i by omega]; exact hkm) hk) hkm
  · have d16 := (dl_n hDl hk).2.2
    refine ⟨fun r hr => ?_, fun m k hk4 => ?_, h3, h4, h5, h6, h7, h8, h9, fun m => ?_, fun m hm hkm => ?_, dnOK_bg h12 d16⟩
    · show vf_upd (vf_upd (jA jj) (xr i 4) a) (xr i 5) b r = _
      rw [vf_ne _ _ (by unfold xr; omega), vf_ne _ _ (by unfold xr; omega), h1 r hr]
    · show vf_upd (vf_upd (jA jj) (xr i 4) a) (xr i 5) b (xr m k) = _
      rw [vf_ne _ _ (by unfold xr; omega), vf_ne _ _ (by unfold xr; omega), h2 m k hk4]
    · show vf_upd (jDn jj) i (some (dlN C i)) m = _
      by_cases e : m = i
      · subst e; rw [vf_at, if_pos ⟨by omega, hk⟩]
      · rw [vf_ne _ _ e, h10 m]
        by_cases q : m < i ∧ cK C m = 11
        · rw [if_pos q, if_pos ⟨by omega, q.2⟩]
        · rw [if_neg q, if_neg (fun z => q ⟨by omega, z.2⟩)]
    · show vf_upd (jWf jj) i (cB C i) m = _ ∧ vf_upd (jNf jj) i (FP.d2f (cB C i)) m = _
      by_cases e : m = i
      · subst e; rw [vf_at, vf_at]; exact ⟨rfl, rfl⟩
      · rw [vf_ne _ _ e, vf_ne _ _ e]; exact h11 m (by omega) hkm
theorem bgP_A {C : tp_C} {i : Nat} {jj jn : xj_T} (hb : bgP C i jj jn) : jA jn 0 = jA jj 0 := by
  rcases hb with ⟨hk, rfl⟩ | ⟨hk, a, b, rfl⟩
  · rfl
  · show vf_upd (vf_upd (jA jj) (xr i 4) a) (xr i 5) b 0 = _
    rw [vf_ne _ _ (by unfold xr; omega), vf_ne _ _ (by unfold xr; omega)]
theorem bgN_21 (C : tp_C) (d : md_T) : ∀ n m, m < n → dAD (bgN C n d) 21 (16 * m) = cB C m ∧ dAF (bgN C n d) 22 (16 * m) = FP.d2f (cB C m)
  | 0, m, h => absurd h (by omega)
  | n + 1, m, h => by
    obtain ⟨s1, s2, s3, s4, s5, s6, s7, s8, s9, s10, s11⟩ := bgS_s C n (bgN C n d)
    have e : bgN C (n + 1) d = bgS C n (bgN C n d) := rfl
    rw [e, s7, s10]
    by_cases hm : m = n
    · subst hm; unfold fil; rw [if_pos ⟨by omega, by omega⟩, if_pos ⟨by omega, by omega⟩]; exact ⟨rfl, rfl⟩
    · rw [fil_ne (dAD (bgN C n d) 21) (k := 0) (q := 16 * m) (n := 16) (cB C n) hm (by decide) (by decide) rfl, fil_ne (dAF (bgN C n d) 22) (k := 0) (q := 16 * m) (n := 16) (FP.d2f (cB C n)) hm (by decide) (by decide) rfl]
      exact bgN_21 C d n m (by omega)
theorem jOK_bs {C : tp_C} {d : md_T} {j jj : xj_T} (h11 : ∀ m, cK C m = 11 → m < cN C) (h : bsP C (cN C) j jj) : jOK C (bgN C (cN C) d) jj := fun m hk => by
  obtain ⟨a1, a2⟩ := bgN_21 C d (cN C) m (h11 m hk)
  obtain ⟨b1, b2⟩ := h.2.2.2.2.2.2.2.2.2.2.1 m (h11 m hk) hk
  rw [a1, a2]; exact ⟨b1, b2⟩
theorem apOK_0 : bD 1087 FP.dconst0 ∧ FP.dconst0.toNat < 2 ^ 63 := ⟨bD_0, by decide⟩
theorem apOK_bg {C : tp_C} {m : Nat} {d : md_T} (h : apOK d) : apOK (bgS C m d) := fun k => by
  rw [(bgS_s C m d).2.2.2.2.1]
  unfold vf_upd
  split
  · exact apOK_0
  · exact h k
theorem apOK_bgN {C : tp_C} {d : md_T} (h : apOK d) (n : Nat) : apOK (bgN C n d) := it_ok (n := n) h (fun i a _ ha => apOK_bg ha) n (Nat.le_refl _)
theorem bgN_dI (C : tp_C) (d : md_T) (n : Nat) : dI (bgN C n d) = dI d := it_ok (n := n) (P := fun x => dI x = dI d) rfl (fun i a _ ha => (bgS_s C i a).1.trans ha) n (Nat.le_refl _)
/-- alike but for the rates that are told -/
def e26 (a b : md_T) : Prop := dI a = dI b ∧ dAI a = dAI b ∧ dAF a = dAF b ∧ ∀ k, k ≠ 26 → dAD a k = dAD b k
theorem e26_df {a b : md_T} (m : Nat) (h : e26 a b) : e26 (dfS m a) (dfS m b) := by
  obtain ⟨h1, h2, h3, h4⟩ := h
  have ev : dfA a m = dfA b m := by unfold dfA dfV; rw [h4 19 (by decide), h3]
  refine ⟨h1, h2, h3, fun k hk => ?_⟩
  unfold dfS
  rw [ev, h4 25 (by decide)]
  by_cases e : k = 25
  · subst e; rw [dAD_self, dAD_self, h4 25 (by decide)]
  · rw [uAD_ne _ _ _ _ e, uAD_ne _ _ _ _ e, h4 k hk]
theorem e26_be (C : tp_C) (e : md_T) : ∀ n, e26 (beN C n e) (dfN n e)
  | 0 => ⟨rfl, rfl, rfl, fun _ _ => rfl⟩
  | n + 1 => by
    have h := e26_df n (e26_be C e n)
    obtain ⟨h1, h2, h3, h4⟩ := h
    exact ⟨h1, h2, h3, fun k hk => (uAD_ne _ 26 n _ hk).trans (h4 k hk)⟩
theorem vw_26 {a b : md_T} (h : e26 a b) : vw a = vw b := vw_mk (fun k _ => by rw [h.1]) (fun k _ => by rw [h.2.1]) (fun k _ h2 => h.2.2.2 k h2) (fun k _ => by rw [h.2.2.1])
