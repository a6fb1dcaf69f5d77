/-! what the panel shows of what runs; a step in the panel -/
def vw (d : md_T) : Int32 × Int32 × Int32 × (Nat → UInt64) × (Nat → Int32) × (Nat → UInt64) × (Nat → Int32) × (Nat → UInt64) × (Nat → UInt32) × (Nat → Int32) × (Nat → UInt64) × (Nat → UInt64) × (Nat → UInt32) × (Nat → Int32) × (Nat → UInt64) × (Nat → UInt32) := (dI d 12, dI d 15, dI d 16, dAD d 40, dAI d 39, dAD d 42, dAI d 10, dAD d 19, dAF d 20, dAI d 24, dAD d 25, dAD d 17, dAF d 18, dAI d 23, dAD d 21, dAF d 22)
theorem xL_v {dA : Nat → ClassId} {C : tp_C} {d d' : md_T} {j : xj_T} (h : vw d = vw d') : xL dA C d j = xL dA C d' j := by
  simp only [vw, Prod.mk.injEq] at h
  obtain ⟨h1, h2, h3, h4, h5, h6, h7, h8, h9, h10, h11, h12, h13, h14, h15, h16⟩ := h
  have eV : ∀ m f, xV C d j m f = xV C d' j m f := by
    intro m f
    unfold xV xE xEk
    rw [h8, h9, h10, h11, h12, h13, h14]
  have eF : ∀ m, xFs C d j m = xFs C d' j m := fun m => xFs_congr rfl (fun g _ => eV m g)
  have eP : xPs C d j = xPs C d' j := by
    unfold xPs
    apply List.map_congr_left
    intro f _
    unfold xPV
    rw [h1, h2, h3]
  unfold xL
  apply wr_l_congr
  intro r _
  unfold xW
  have e1 : xPE dA C d j r = xPE dA C d' j r := by
    unfold xPE
    rw [eP, h4, h5, h6, h7]
  have e2 : ∀ m i, xME dA C d j m i = xME dA C d' j m i := by
    intro m i
    unfold xME xM4 xM5
    rw [eF, h15, h16]
  rw [e1, e2]
theorem vw_mk {d d' : md_T} (hi : ∀ k, k ≤ 16 → dI d' k = dI d k) (hA : ∀ k, k ≤ 40 → dAI d' k = dAI d k) (hD : ∀ k, k ≤ 42 → k ≠ 26 → dAD d' k = dAD d k) (hF : ∀ k, k ≤ 22 → dAF d' k = dAF d k) : vw d' = vw d := by
  unfold vw
  rw [hi 12 (by decide), hi 15 (by decide), hi 16 (by decide), hD 40 (by decide) (by decide), hA 39 (by decide), hD 42 (by decide) (by decide), hA 10 (by decide), hD 19 (by decide) (by decide), hF 20 (by decide), hA 24 (by decide), hD 25 (by decide) (by decide), hD 17 (by decide) (by decide), hF 18 (by decide), hA 23 (by decide), hD 21 (by decide) (by decide), hF 22 (by decide)]
theorem vw_ss {d : md_T} {k' : Nat} {f : Nat → UInt64} {k2 : Nat} {g : Nat → UInt32} (h1 : 42 < k') (h2 : 22 < k2) : vw (sAF (sAD d k' f) k2 g) = vw d :=
  vw_mk (fun _ _ => rfl) (fun _ _ => rfl) (fun k hk _ => ss_D d k' f k2 g (by omega)) (fun k hk => ss_F d k' f k2 g (by omega))
theorem vw_rate (C : tp_C) (d : md_T) : vw (rateD C d) = vw d := vw_ss (by decide) (by decide)
theorem vw_kp1 (C : tp_C) (d : md_T) : vw (kpD C 1 d) = vw d := by rw [kp_1]; exact vw_ss (by decide) (by decide)
theorem vw_kp2 (C : tp_C) (d : md_T) : vw (kpD C 2 d) = vw d := by rw [kp_2]; exact vw_ss (by decide) (by decide)
theorem vw_kp3 (C : tp_C) (d : md_T) : vw (kpD C 3 d) = vw d := by rw [kp_3]; exact vw_ss (by decide) (by decide)
theorem vw_c1 (d : md_T) (n : Nat) : vw (c1I d n) = vw d := vw_ss (by decide) (by decide)
theorem vw_c2 (d : md_T) (n : Nat) : vw (c2I d n) = vw d := vw_ss (by decide) (by decide)
theorem tkS_dI (C : tp_C) (m : Nat) (d : md_T) : dI (tkS C m d) = dI d := by
  unfold tkS; split
  · rfl
  · split <;> rfl
theorem tkN_keep {C : tp_C} {P : md_T → Prop} (h : ∀ m d, P d → P (tkS C m d)) {n : Nat} {d : md_T} (hd : P d) : P (tkN C n d) := it_ok (n := n) hd (fun i a _ ha => h i a ha) n (Nat.le_refl _)
theorem vw_tk (C : tp_C) (n : Nat) (d : md_T) : vw (tkN C n d) = vw d := tkN_keep (P := fun x => vw x = vw d) (fun m x hx => (vw_mk (fun k _ => by rw [tkS_dI]) (fun k _ => by rw [tkS_A]) (fun k hk _ => tkS_D C m x (by omega) (by omega)) (fun k hk => tkS_F C m x (by omega) (by omega))).trans hx) rfl
theorem vw_s1 (C : tp_C) (d : md_T) : vw (s1D C d) = vw d := (vw_kp1 C _).trans ((vw_rate C _).trans (vw_tk C _ d))
theorem vw_c {d d' : md_T} (h : vw d = vw d') : dAD d 19 = dAD d' 19 ∧ dAF d 20 = dAF d' 20 ∧ dAD d 17 = dAD d' 17 ∧ dAF d 18 = dAF d' 18 := by
  simp only [vw, Prod.mk.injEq] at h
  exact ⟨h.2.2.2.2.2.2.2.1, h.2.2.2.2.2.2.2.2.1, h.2.2.2.2.2.2.2.2.2.2.2.1, h.2.2.2.2.2.2.2.2.2.2.2.2.1⟩
/-- what the panel notes ahead of a step -/
def t1W (C : tp_C) (d : md_T) (j : xj_T) : Nat → UInt64 := fun m => if cK C m = 2 then dAD d 17 m else jWf j m
def t1N (C : tp_C) (d : md_T) (j : xj_T) : Nat → UInt32 := fun m => if cK C m = 2 then dAF d 18 m else jNf j m
def t1X (C : tp_C) (d : md_T) (j : xj_T) : Nat → UInt64 := fun m => if cK C m = 3 then nxD C d m else if cK C m = 11 then inD C (dAD d 19) m 0 else jWn j m
def t1Y (C : tp_C) (d : md_T) (j : xj_T) : Nat → UInt32 := fun m => if cK C m = 3 then nxF C d m else if cK C m = 11 then inF C (dAF d 20) m 0 else jNn j m
def t1J (C : tp_C) (d : md_T) (j : xj_T) (n : Nat) : xj_T := (jA j, pm (jWf j) n (t1W C d j), pm (jNf j) n (t1N C d j), jWr j, jNr j, pm (jWn j) n (t1X C d j), pm (jNn j) n (t1Y C d j), jSr j, jOd j, jRc j, jDn j)
def tkJ (C : tp_C) (d : md_T) (m : Nat) (j : xj_T) : xj_T := if cK C m = 3 then sNn (sWn j m (nxD C d m)) m (nxF C d m) else if cK C m = 11 then sNn (sWn j m (inD C (dAD d 19) m 0)) m (inF C (dAF d 20) m 0) else j
theorem t1J_0 (C : tp_C) (d : md_T) (j : xj_T) : j = t1J C d j 0 := by unfold t1J; rw [pm_0, pm_0, pm_0, pm_0]; rfl
theorem tkJ_f (C : tp_C) (d : md_T) (m : Nat) (j : xj_T) : jA (tkJ C d m j) = jA j ∧ jWf (tkJ C d m j) = jWf j ∧ jNf (tkJ C d m j) = jNf j ∧ jWr (tkJ C d m j) = jWr j ∧ jNr (tkJ C d m j) = jNr j ∧ jSr (tkJ C d m j) = jSr j ∧ jOd (tkJ C d m j) = jOd j ∧ jRc (tkJ C d m j) = jRc j ∧ jDn (tkJ C d m j) = jDn j := by
  unfold tkJ; split
  · exact ⟨rfl, rfl, rfl, rfl, rfl, rfl, rfl, rfl, rfl⟩
  · split <;> exact ⟨rfl, rfl, rfl, rfl, rfl, rfl, rfl, rfl, rfl⟩
theorem t1J_2 (C : tp_C) (d : md_T) (j : xj_T) (n : Nat) (h : cK C n = 2) : sNf (sWf (t1J C d j n) n (dAD d 17 n)) n (dAF d 18 n) = t1J C d j (n + 1) := by
  show (jA j, vf_upd (pm (jWf j) n (t1W C d j)) n (dAD d 17 n), vf_upd (pm (jNf j) n (t1N C d j)) n (dAF d 18 n), jWr j, jNr j, pm (jWn j) n (t1X C d j), pm (jNn j) n (t1Y C d j), jSr j, jOd j, jRc j, jDn j) = _
  rw [pm_s (by simp [t1W, h]), pm_s (by simp [t1N, h]), pm_k (f := jWn j) (by simp [t1X, h]), pm_k (f := jNn j) (by simp [t1Y, h])]; rfl
theorem t1J_n (C : tp_C) (d : md_T) (j : xj_T) (n : Nat) (h : ¬ cK C n = 2) : tkJ C d n (t1J C d j n) = t1J C d j (n + 1) := by
  unfold tkJ
  by_cases h3 : cK C n = 3
  · rw [if_pos h3]
    show (jA j, pm (jWf j) n (t1W C d j), pm (jNf j) n (t1N C d j), jWr j, jNr j, vf_upd (pm (jWn j) n (t1X C d j)) n (nxD C d n), vf_upd (pm (jNn j) n (t1Y C d j)) n (nxF C d n), jSr j, jOd j, jRc j, jDn j) = _
    rw [pm_s (by simp [t1X, h3]), pm_s (by simp [t1Y, h3]), pm_k (f := jWf j) (by simp [t1W, h]), pm_k (f := jNf j) (by simp [t1N, h])]; rfl
  · rw [if_neg h3]
    by_cases h11 : cK C n = 11
    · rw [if_pos h11]
      show (jA j, pm (jWf j) n (t1W C d j), pm (jNf j) n (t1N C d j), jWr j, jNr j, vf_upd (pm (jWn j) n (t1X C d j)) n (inD C (dAD d 19) n 0), vf_upd (pm (jNn j) n (t1Y C d j)) n (inF C (dAF d 20) n 0), jSr j, jOd j, jRc j, jDn j) = _
      rw [pm_s (by simp [t1X, h11]), pm_s (by simp [t1Y, h11]), pm_k (f := jWf j) (by simp [t1W, h]), pm_k (f := jNf j) (by simp [t1N, h])]; rfl
    · rw [if_neg h11]
      show (jA j, pm (jWf j) n (t1W C d j), pm (jNf j) n (t1N C d j), jWr j, jNr j, pm (jWn j) n (t1X C d j), pm (jNn j) n (t1Y C d j), jSr j, jOd j, jRc j, jDn j) = _
      rw [pm_k (f := jWn j) (by simp [t1X, h3, h11]), pm_k (f := jNn j) (by simp [t1Y, h3, h11]), pm_k (f := jWf j) (by simp [t1W, h]), pm_k (f := jNf j) (by simp [t1N, h])]; rfl
theorem tkJ_2 (C : tp_C) (d : md_T) (j : xj_T) (n : Nat) (h : cK C n = 2) : tkJ C d n j = j := by unfold tkJ; rw [if_neg (by omega), if_neg (by omega)]
/-- the rates of a stage -/
def rtW (C : tp_C) (d : md_T) (i : Nat) (j : xj_T) (n : Nat) : Nat → Nat → UInt64 := fun m k => if m < n ∧ cK C m = 2 ∧ k = i then suD C (dAD d 19) m else jWr j m k
def rtV (C : tp_C) (d : md_T) (i : Nat) (j : xj_T) (n : Nat) : Nat → Nat → UInt32 := fun m k => if m < n ∧ cK C m = 2 ∧ k = i then suF C (dAF d 20) m else jNr j m k
def rtJ (C : tp_C) (d : md_T) (i : Nat) (j : xj_T) (n : Nat) : xj_T := (jA j, jWf j, jNf j, rtW C d i j n, rtV C d i j n, jWn j, jNn j, jSr j, jOd j, jRc j, jDn j)
theorem rtJ_0 (C : tp_C) (d : md_T) (i : Nat) (j : xj_T) : j = rtJ C d i j 0 := by
  have e1 : rtW C d i j 0 = jWr j := by funext m k; unfold rtW; rw [if_neg (by omega)]
  have e2 : rtV C d i j 0 = jNr j := by funext m k; unfold rtV; rw [if_neg (by omega)]
  unfold rtJ; rw [e1, e2]; rfl
theorem rtJ_2 (C : tp_C) (d : md_T) (i : Nat) (j : xj_T) (n : Nat) (h : cK C n = 2) : sNr (sWr (rtJ C d i j n) n i (suD C (dAD d 19) n)) n i (suF C (dAF d 20) n) = rtJ C d i j (n + 1) := by
  have e1 : up2 (rtW C d i j n) n i (suD C (dAD d 19) n) = rtW C d i j (n + 1) := by
    funext m k; unfold up2 rtW
    by_cases e : m = n ∧ k = i
    · obtain ⟨rfl, rfl⟩ := e
      rw [if_pos ⟨rfl, rfl⟩, if_pos ⟨by omega, h, rfl⟩]
    · rw [if_neg e]
      by_cases e2 : m < n ∧ cK C m = 2 ∧ k = i
      · rw [if_pos e2, if_pos ⟨by omega, e2.2⟩]
      · rw [if_neg e2, if_neg (fun q => e2 ⟨by rcases Nat.lt_or_ge m n with h | h; exact h; exact absurd ⟨by omega, q.2.2⟩ e, q.2⟩)]
  have e2 : up2 (rtV C d i j n) n i (suF C (dAF d 20) n) = rtV C d i j (n + 1) := by
    funext m k; unfold up2 rtV
    by_cases e : m = n ∧ k = i
    · obtain ⟨rfl, rfl⟩ := e
      rw [if_pos ⟨rfl, rfl⟩, if_pos ⟨by omega, h, rfl⟩]
    · rw [if_neg e]
      by_cases e2 : m < n ∧ cK C m = 2 ∧ k = i
      · rw [if_pos e2, if_pos ⟨by omega, e2.2⟩]
      · rw [if_neg e2, if_neg (fun q => e2 ⟨by rcases Nat.lt_or_ge m n with h | h; exact h; exact absurd ⟨by omega, q.2.2⟩ e, q.2⟩)]
  show (jA j, jWf j, jNf j, up2 (rtW C d i j n) n i (suD C (dAD d 19) n), up2 (rtV C d i j n) n i (suF C (dAF d 20) n), jWn j, jNn j, jSr j, jOd j, jRc j, jDn j) = _
  rw [e1, e2]; rfl
theorem rtJ_n (C : tp_C) (d : md_T) (i : Nat) (j : xj_T) (n : Nat) (h : ¬ cK C n = 2) : rtJ C d i j n = rtJ C d i j (n + 1) := by
  have e1 : rtW C d i j n = rtW C d i j (n + 1) := by
    funext m k; unfold rtW
    by_cases e2 : m < n ∧ cK C m = 2 ∧ k = i
    · rw [if_pos e2, if_pos ⟨by omega, e2.2⟩]
    · rw [if_neg e2, if_neg (fun q => e2 ⟨by rcases Nat.lt_or_ge m n with h3 | h3; exact h3; exact absurd (by rw [← show m = n by omega]; exact q.2.1) h, q.2⟩)]
  have e2 : rtV C d i j n = rtV C d i j (n + 1) := by
    funext m k; unfold rtV
    by_cases e2 : m < n ∧ cK C m = 2 ∧ k = i
    · rw [if_pos e2, if_pos ⟨by omega, e2.2⟩]
    · rw [if_neg e2, if_neg (fun q => e2 ⟨by rcases Nat.lt_or_ge m n with h3 | h3; exact h3; exact absurd (by rw [← show m = n by omega]; exact q.2.1) h, q.2⟩)]
  unfold rtJ; rw [e1, e2]
/-- ties between what the panel notes and what the reference notes -/
def tiF (C : tp_C) (d : md_T) (j : xj_T) : Prop := ∀ m, m < cN C → cK C m = 2 → jWf j m = dAD d 49 m ∧ jNf j m = dAF d 53 m
def tiR (C : tp_C) (d : md_T) (j : xj_T) (i a b : Nat) : Prop := ∀ m, m < cN C → cK C m = 2 → jWr j m i = dAD d a m ∧ jNr j m i = dAF d b m
def tiN (C : tp_C) (d : md_T) (j : xj_T) : Prop := ∀ m, m < cN C → (cK C m = 3 ∨ cK C m = 11) → jWn j m = dAD d 54 m ∧ jNn j m = dAF d 55 m
def grOK (C : tp_C) (j : xj_T) : Prop := ∀ m, m < cN C → cK C m = 2 → jrOK j m
/-- the rates that are noted are small -/
def wrOK (j : xj_T) : Prop := (∀ m i, bD 1087 (jWr j m i)) ∧ ∀ m i, bF 1087 (jNr j m i)
theorem wrOK_rt {C : tp_C} {d : md_T} {i : Nat} {j : xj_T} {n : Nat} (hR : rOK d) (h : wrOK j) : wrOK (rtJ C d i j n) := by
  refine ⟨fun m k => ?_, fun m k => ?_⟩
  · show bD 1087 (rtW C d i j n m k)
    unfold rtW; split
    · exact su_b hR.rd
    · exact h.1 m k
  · show bF 1087 (rtV C d i j n m k)
    unfold rtV; split
    · exact su_bF hR.rf
    · exact h.2 m k
theorem tiF_mv {C : tp_C} {d d' : md_T} {j j' : xj_T} (e1 : dAD d' 49 = dAD d 49) (e2 : dAF d' 53 = dAF d 53) (e3 : jWf j' = jWf j) (e4 : jNf j' = jNf j) (h : tiF C d j) : tiF C d' j' := fun m hm hk => by rw [e1, e2, e3, e4]; exact h m hm hk
theorem tiR_mv {C : tp_C} {d d' : md_T} {j j' : xj_T} {i a b : Nat} (e1 : dAD d' a = dAD d a) (e2 : dAF d' b = dAF d b) (e3 : ∀ m, jWr j' m i = jWr j m i) (e4 : ∀ m, jNr j' m i = jNr j m i) (h : tiR C d j i a b) : tiR C d' j' i a b := fun m hm hk => by rw [e1, e2, e3, e4]; exact h m hm hk
theorem tiN_mv {C : tp_C} {d d' : md_T} {j j' : xj_T} (e1 : dAD d' 54 = dAD d 54) (e2 : dAF d' 55 = dAF d 55) (e3 : jWn j' = jWn j) (e4 : jNn j' = jNn j) (h : tiN C d j) : tiN C d' j' := fun m hm hk => by rw [e1, e2, e3, e4]; exact h m hm hk
theorem gr_of {C : tp_C} {d : md_T} {j : xj_T} (hf : fOK d) (h : tiF C d j) (hw : wrOK j) : grOK C j := fun m hm hk => ⟨by rw [(h m hm hk).1]; exact hf.1 m, by rw [(h m hm hk).2]; exact hf.2 m, hw.1 m, hw.2 m⟩
theorem rtJ_ne {C : tp_C} {d : md_T} {i k : Nat} {j : xj_T} {n : Nat} (h : k ≠ i) : (∀ m, jWr (rtJ C d i j n) m k = jWr j m k) ∧ ∀ m, jNr (rtJ C d i j n) m k = jNr j m k :=
  ⟨fun m => if_neg (fun q => h q.2.2), fun m => if_neg (fun q => h q.2.2)⟩
theorem tiR_rt (C : tp_C) (d : md_T) (i : Nat) (j : xj_T) : tiR C (rateD C d) (rtJ C d i j (cN C)) i 56 57 := fun m hm hk => by
  have e1 : dAD (rateD C d) 56 m = suD C (dAD d 19) m := by
    show dAD (rtI C d (cN C)) 56 m = _
    unfold rtI
    rw [ss_Ds]
    show pm _ _ _ m = _
    unfold pm rtG
    rw [if_pos hm, if_pos hk]
  have e2 : dAF (rateD C d) 57 m = suF C (dAF d 20) m := by
    show dAF (rtI C d (cN C)) 57 m = _
    unfold rtI
    rw [ss_Fs]
    show pm _ _ _ m = _
    unfold pm rtGF
    rw [if_pos hm, if_pos hk]
  rw [e1, e2]
  exact ⟨if_pos ⟨hm, hk, rfl⟩, if_pos ⟨hm, hk, rfl⟩⟩
theorem tkS_49 (C : tp_C) (m : Nat) (d : md_T) : dAD (tkS C m d) 49 = vf_upd (dAD d 49) m (dAD d 17 m) ∧ dAF (tkS C m d) 53 = vf_upd (dAF d 53) m (dAF d 18 m) := by
  unfold tkS
  split
  · rw [uu_D _ _ _ _ _ _ _ (by decide), uu_F _ _ _ _ _ _ _ (by decide)]; exact ⟨tk0_49 m d, tk0_53 m d⟩
  · split
    · rw [uu_D _ _ _ _ _ _ _ (by decide), uu_F _ _ _ _ _ _ _ (by decide)]; exact ⟨tk0_49 m d, tk0_53 m d⟩
    · exact ⟨tk0_49 m d, tk0_53 m d⟩
theorem tkS_54 (C : tp_C) (m : Nat) (d : md_T) : (dAD (tkS C m d) 54 = if cK C m = 3 then vf_upd (dAD d 54) m (nxD C d m) else if cK C m = 11 then vf_upd (dAD d 54) m (inD C (dAD d 19) m 0) else dAD d 54) ∧ (dAF (tkS C m d) 55 = if cK C m = 3 then vf_upd (dAF d 55) m (nxF C d m) else if cK C m = 11 then vf_upd (dAF d 55) m (inF C (dAF d 20) m 0) else dAF d 55) := by
  unfold tkS
  by_cases h3 : cK C m = 3
  · simp only [h3, if_true]
    refine ⟨?_, ?_⟩
    · show dAD (uAD (tk0 m d) 54 m (nxD C d m)) 54 = _; rw [dAD_self, tk0_54]
    · rw [dAF_self]; show vf_upd (dAF (tk0 m d) 55) m _ = _; rw [tk0_55]
  · by_cases h11 : cK C m = 11
    · simp only [h11, if_false, if_true, show ¬ (11 : Nat) = 3 by decide]
      refine ⟨?_, ?_⟩
      · show dAD (uAD (tk0 m d) 54 m (inD C (dAD d 19) m 0)) 54 = _; rw [dAD_self, tk0_54]
      · rw [dAF_self]; show vf_upd (dAF (tk0 m d) 55) m _ = _; rw [tk0_55]
    · simp only [h3, h11, if_false]
      exact ⟨tk0_54 m d, tk0_55 m d⟩
theorem vf_at {α : Type} (f : Nat → α) (k : Nat) (v : α) : vf_upd f k v k = v := by unfold vf_upd; rw [if_pos rfl]
theorem vf_ne {α : Type} (f : Nat → α) {k q : Nat} (v : α) (h : q ≠ k) : vf_upd f k v q = f q := by unfold vf_upd; rw [if_neg h]
theorem tk_tie (C : tp_C) (d : md_T) : ∀ n m, m < n → dAD (tkN C n d) 49 m = dAD d 17 m ∧ dAF (tkN C n d) 53 m = dAF d 18 m ∧ (cK C m = 3 → dAD (tkN C n d) 54 m = nxD C d m ∧ dAF (tkN C n d) 55 m = nxF C d m) ∧ (cK C m = 11 → dAD (tkN C n d) 54 m = inD C (dAD d 19) m 0 ∧ dAF (tkN C n d) 55 m = inF C (dAF d 20) m 0)
  | 0, m, h => absurd h (by omega)
  | n + 1, m, h => by
    obtain ⟨v1, v2, v3, v4⟩ := vw_c (vw_tk C n d)
    have e : tkN C (n + 1) d = tkS C n (tkN C n d) := rfl
    have ex : nxD C (tkN C n d) n = nxD C d n := by unfold nxD; rw [v1, v3]
    have ey : nxF C (tkN C n d) n = nxF C d n := by unfold nxF; rw [v2, v4]
    rw [e, (tkS_49 C n _).1, (tkS_49 C n _).2, (tkS_54 C n _).1, (tkS_54 C n _).2, ex, ey, v1, v2, v3, v4]
    by_cases hm : m = n
    · subst hm
      rw [vf_at, vf_at]
      refine ⟨rfl, rfl, fun h3 => ?_, fun h11 => ?_⟩
      · rw [if_pos h3, if_pos h3, vf_at, vf_at]; exact ⟨rfl, rfl⟩
      · have n3 : ¬ cK C m = 3 := by omega
        rw [if_neg n3, if_neg n3, if_pos h11, if_pos h11, vf_at, vf_at]; exact ⟨rfl, rfl⟩
    · obtain ⟨a1, a2, a3, a4⟩ := tk_tie C d n m (by omega)
      have key : ∀ {α : Type} (f : Nat → α) (a b : α), (if cK C n = 3 then vf_upd f n a else if cK C n = 11 then vf_upd f n b else f) m = f m := fun f a b => by
        split
        · exact vf_ne _ _ hm
        · split
          · exact vf_ne _ _ hm
          · rfl
      rw [vf_ne _ _ hm, vf_ne _ _ hm, key, key]
      exact ⟨a1, a2, a3, a4⟩
theorem pm_in {α : Type} {f g : Nat → α} {n k : Nat} (h : k < n) : pm f n g k = g k := if_pos h
theorem tie_1 (C : tp_C) (d : md_T) (j : xj_T) : tiF C (tkD C d) (t1J C d j (cN C)) ∧ tiN C (tkD C d) (t1J C d j (cN C)) := by
  refine ⟨fun m hm hk => ?_, fun m hm hk => ?_⟩
  · obtain ⟨a1, a2, -, -⟩ := tk_tie C d (cN C) m hm
    show pm _ _ _ m = _ ∧ pm _ _ _ m = _
    rw [pm_in hm, pm_in hm]
    unfold t1W t1N
    rw [if_pos hk, if_pos hk]
    exact ⟨a1.symm, a2.symm⟩
  · obtain ⟨-, -, a3, a4⟩ := tk_tie C d (cN C) m hm
    show pm _ _ _ m = _ ∧ pm _ _ _ m = _
    rw [pm_in hm, pm_in hm]
    unfold t1X t1Y
    rcases hk with hk | hk
    · rw [if_pos hk, if_pos hk]; exact ⟨(a3 hk).1.symm, (a3 hk).2.symm⟩
    · have n3 : ¬ cK C m = 3 := by omega
      rw [if_neg n3, if_neg n3, if_pos hk, if_pos hk]; exact ⟨(a4 hk).1.symm, (a4 hk).2.symm⟩
theorem jOK_mv {C : tp_C} {d d' : md_T} {j j' : xj_T} (e1 : dAD d' 21 = dAD d 21) (e2 : dAF d' 22 = dAF d 22) (e3 : ∀ m, cK C m = 11 → jWf j' m = jWf j m) (e4 : ∀ m, cK C m = 11 → jNf j' m = jNf j m) (h : jOK C d j) : jOK C d' j' := fun m hk => by rw [e1, e2, e3 m hk, e4 m hk]; exact h m hk
theorem jOK_v {C : tp_C} {d d' : md_T} {j : xj_T} (e : vw d' = vw d) (h : jOK C d j) : jOK C d' j := by
  simp only [vw, Prod.mk.injEq] at e
  exact jOK_mv e.2.2.2.2.2.2.2.2.2.2.2.2.2.2.1 e.2.2.2.2.2.2.2.2.2.2.2.2.2.2.2 (fun _ _ => rfl) (fun _ _ => rfl) h
theorem t1_11 (C : tp_C) (d : md_T) (j : xj_T) (n m : Nat) (h : cK C m = 11) : jWf (t1J C d j n) m = jWf j m ∧ jNf (t1J C d j n) m = jNf j m := by
  show pm _ _ _ m = _ ∧ pm _ _ _ m = _
  unfold pm t1W t1N
  rw [if_neg (by omega : ¬ cK C m = 2), if_neg (by omega : ¬ cK C m = 2)]
  exact ⟨by split <;> rfl, by split <;> rfl⟩
/-! stages and what others become commute -/
theorem md_ext {d d' : md_T} (h1 : dI d = dI d') (h2 : dD d = dD d') (h3 : dH d = dH d') (h4 : ∀ k, dAI d k = dAI d' k) (h5 : ∀ k, dAD d k = dAD d' k) (h6 : ∀ k, dAF d k = dAF d' k) : d = d' := by
  have e4 : dAI d = dAI d' := funext h4
  have e5 : dAD d = dAD d' := funext h5
  have e6 : dAF d = dAF d' := funext h6
  show (dI d, dD d, dH d, dAI d, dAD d, dAF d) = (dI d', dD d', dH d', dAI d', dAD d', dAF d')
  rw [h1, h2, h3, e4, e5, e6]
theorem otS_dI (C : tp_C) (m : Nat) (d : md_T) : dI (otS C m d) = dI d ∧ dD (otS C m d) = dD d ∧ dH (otS C m d) = dH d := by
  unfold otS
  split
  · exact ⟨rfl, rfl, rfl⟩
  · split
    · exact ⟨rfl, rfl, rfl⟩
    · split <;> exact ⟨rfl, rfl, rfl⟩
theorem otS_17 (C : tp_C) (m : Nat) (d : md_T) : (dAD (otS C m d) 17 = if cK C m = 3 then vf_upd (dAD d 17) m (dAD d 54 m) else if cK C m = 13 then vf_upd (dAD d 17) m (nsV (sdN (dAI d 23 m))) else dAD d 17) ∧ (dAF (otS C m d) 18 = if cK C m = 3 then vf_upd (dAF d 18) m (dAF d 55 m) else if cK C m = 13 then vf_upd (dAF d 18) m (FP.d2f (nsV (sdN (dAI d 23 m)))) else dAF d 18) ∧ (dAI (otS C m d) 23 = if cK C m = 13 then upd (dAI d 23) m (sdN (dAI d 23 m)) else dAI d 23) := by
  unfold otS
  by_cases h3 : cK C m = 3
  · simp only [h3, if_true, show ¬ (3 : Nat) = 13 by decide, if_false]
    refine ⟨?_, ?_, rfl⟩
    · show dAD (uAD d 17 m (dAD d 54 m)) 17 = _; rw [dAD_self]
    · rw [dAF_self]; rfl
  · by_cases h11 : cK C m = 11
    · simp only [h3, h11, if_false, if_true, show ¬ (11 : Nat) = 13 by decide, show ¬ (11 : Nat) = 3 by decide]
      refine ⟨?_, ?_, rfl⟩
      · rw [uu_D _ _ _ _ _ _ _ (by decide)]; exact ss_D d 21 _ 22 _ (by decide)
      · rw [uu_F _ _ _ _ _ _ _ (by decide)]; exact ss_F d 21 _ 22 _ (by decide)
    · by_cases h13 : cK C m = 13
      · simp only [h13, if_true, if_false, show ¬ (13 : Nat) = 3 by decide, show ¬ (13 : Nat) = 11 by decide]
        refine ⟨?_, ?_, ?_⟩
        · show dAD (uAD (uAI d 23 m _) 17 m _) 17 = _; rw [dAD_self]; rfl
        · rw [dAF_self]; rfl
        · show dAI (uAI d 23 m _) 23 = _; rw [dAI_self]
      · simp only [h3, h11, h13, if_false]
        exact ⟨trivial, trivial, trivial⟩
theorem otS_21 (C : tp_C) (m : Nat) (d : md_T) : (dAD (otS C m d) 21 = if cK C m = 11 then vf_upd (shf (dAD d 21) m (dlN C m - 1)) (16 * m + (dlN C m - 1)) (dAD d 54 m) else dAD d 21) ∧ (dAF (otS C m d) 22 = if cK C m = 11 then vf_upd (shf (dAF d 22) m (dlN C m - 1)) (16 * m + (dlN C m - 1)) (dAF d 55 m) else dAF d 22) := by
  unfold otS
  by_cases h3 : cK C m = 3
  · simp only [h3, if_true, show ¬ (3 : Nat) = 11 by decide, if_false]
    exact ⟨uu_D d 17 m _ 18 m _ (by decide), uu_F d 17 m _ 18 m _ (by decide)⟩
  · by_cases h11 : cK C m = 11
    · simp only [h11, if_false, if_true, show ¬ (11 : Nat) = 3 by decide]
      refine ⟨?_, ?_⟩
      · show dAD (uAD (rwI d m (dlN C m - 1)) 21 _ _) 21 = _
        rw [dAD_self]
        refine congrArg (fun f => vf_upd f _ _) ?_
        exact ss_Ds d 21 _ 22 _
      · rw [dAF_self]
        show vf_upd (dAF (rwI d m (dlN C m - 1)) 22) _ _ = _
        refine congrArg (fun f => vf_upd f _ _) ?_
        exact ss_Fs d 21 _ 22 _
    · by_cases h13 : cK C m = 13
      · simp only [h13, if_true, if_false, show ¬ (13 : Nat) = 3 by decide, show ¬ (13 : Nat) = 11 by decide]
        exact ⟨uu_D (uAI d 23 m _) 17 m _ 18 m _ (by decide), uu_F (uAI d 23 m _) 17 m _ 18 m _ (by decide)⟩
      · simp only [h3, h11, h13, if_false]
        exact ⟨trivial, trivial⟩
theorem mLight_24c {d d' : md_T} {m : Nat} (e1 : dAI d 24 = dAI d' 24) (e2 : dI d = dI d') : dAI (mLight d m) 24 = dAI (mLight d' m) 24 := by
  unfold mLight
  rw [e1, e2]
  split
  · rw [dAI_self, dAI_self, e1]
  · exact e1
theorem mAfter_24c {d d' : md_T} {m : Nat} (v : UInt64) (e1 : dAI d 24 = dAI d' 24) (e2 : dI d = dI d') : dAI (mAfter d m v) 24 = dAI (mAfter d' m v) 24 := by
  unfold mAfter
  split
  · exact mLight_24c e1 e2
  · exact e1
theorem mAfterF_24c {d d' : md_T} {m : Nat} (v : UInt32) (e1 : dAI d 24 = dAI d' 24) (e2 : dI d = dI d') : dAI (mAfterF d m v) 24 = dAI (mAfterF d' m v) 24 := by
  unfold mAfterF
  split
  · exact mLight_24c e1 e2
  · exact e1
theorem mLight_dH (d : md_T) (m : Nat) : dH (mLight d m) = dH d := by unfold mLight; split <;> rfl
theorem mAfter_dH (d : md_T) (m : Nat) (v : UInt64) : dH (mAfter d m v) = dH d := by unfold mAfter; split; exact mLight_dH d m; rfl
theorem mAfterF_dH (d : md_T) (m : Nat) (v : UInt32) : dH (mAfterF d m v) = dH d := by unfold mAfterF; split; exact mLight_dH d m; rfl
theorem sg1_dI (t : UInt64) (m : Nat) (d : md_T) : dI (sg1 t m d) = dI d ∧ dD (sg1 t m d) = dD d ∧ dH (sg1 t m d) = dH d := ⟨mAfter_dI _ _ _, mAfter_dD _ _ _, mAfter_dH _ _ _⟩
theorem sg2_dI (t : UInt64) (m : Nat) (d : md_T) : dI (sg2 t m d) = dI d ∧ dD (sg2 t m d) = dD d ∧ dH (sg2 t m d) = dH d := ⟨mAfterF_dI _ _ _, mAfterF_dD _ _ _, mAfterF_dH _ _ _⟩
theorem sg1_17 (t : UInt64) (m : Nat) (d : md_T) : dAD (sg1 t m d) 17 = vf_upd (dAD d 17) m (clD (sgV d t m)) := by
  unfold sg1; rw [dAD_self, mAfter_D]
theorem sg2_18 (t : UInt64) (m : Nat) (d : md_T) : dAF (sg2 t m d) 18 = vf_upd (dAF d 18) m (clF (sgW d t m)) := by
  unfold sg2; rw [dAF_self, mAfterF_F]
/-- what a stage does, slot by slot -/
theorem sgS_c {C : tp_C} {t : UInt64} {m : Nat} (h : cK C m = 2) (d : md_T) : dI (sgS C t m d) = dI d ∧ dD (sgS C t m d) = dD d ∧ dH (sgS C t m d) = dH d ∧ dAD (sgS C t m d) 17 = vf_upd (dAD d 17) m (clD (sgV d t m)) ∧ dAF (sgS C t m d) 18 = vf_upd (dAF d 18) m (clF (sgW d t m)) ∧ (∀ k, k ≠ 17 → dAD (sgS C t m d) k = dAD d k) ∧ (∀ k, k ≠ 18 → dAF (sgS C t m d) k = dAF d k) ∧ (∀ k, k ≠ 24 → dAI (sgS C t m d) k = dAI d k) ∧ dAI (sgS C t m d) 24 = dAI (mAfterF (mAfter d m (sgV d t m)) m (sgW d t m)) 24 := by
  have e : sgS C t m d = sg2 t m (sg1 t m d) := if_pos h
  have ew : sgW (sg1 t m d) t m = sgW d t m := by unfold sgW; rw [sg1_F]
  rw [e]
  refine ⟨(sg2_dI _ _ _).1.trans (sg1_dI _ _ _).1, (sg2_dI _ _ _).2.1.trans (sg1_dI _ _ _).2.1, (sg2_dI _ _ _).2.2.trans (sg1_dI _ _ _).2.2, ?_, ?_, fun k hk => ?_, fun k hk => ?_, fun k hk => ?_, ?_⟩
  · rw [sg2_D, sg1_17]
  · rw [sg2_18, sg1_F, ew]
  · rw [sg2_D, sg1_D _ _ _ hk]
  · rw [sg2_F _ _ _ hk, sg1_F]
  · rw [sg2_A _ _ _ hk, sg1_A _ _ _ hk]
  · show dAI (mAfterF (sg1 t m d) m (sgW (sg1 t m d) t m)) 24 = _
    rw [ew]
    exact mAfterF_24c _ rfl rfl
theorem vf_comm {α : Type} (f : Nat → α) {a b : Nat} (v w : α) (h : a ≠ b) : vf_upd (vf_upd f a v) b w = vf_upd (vf_upd f b w) a v := by
  funext q; unfold vf_upd
  by_cases h1 : q = a
  · subst h1; rw [if_neg h, if_pos rfl, if_pos rfl]
  · by_cases h2 : q = b
    · rw [if_pos h2, if_neg h1, if_pos h2]
    · rw [if_neg h2, if_neg h1, if_neg h1, if_neg h2]
theorem ot_sg (C : tp_C) (t : UInt64) (m m' : Nat) (d : md_T) : sgS C t m' (otS C m d) = otS C m (sgS C t m' d) := by
  by_cases h : cK C m' = 2
  · by_cases hk : cK C m = 3 ∨ cK C m = 11 ∨ cK C m = 13
    · have hne : m ≠ m' := fun e => by subst e; omega
      obtain ⟨a1, a2, a3, a4, a5, a6, a7, a8, a9⟩ := sgS_c (t := t) h d
      obtain ⟨b1, b2, b3, b4, b5, b6, b7, b8, b9⟩ := sgS_c (t := t) h (otS C m d)
      obtain ⟨o1, o2, o3⟩ := otS_dI C m d
      obtain ⟨p1, p2, p3⟩ := otS_dI C m (sgS C t m' d)
      have ev : sgV (otS C m d) t m' = sgV d t m' := by unfold sgV; rw [otS_D C m d (by decide) (by decide), otS_D C m d (by decide) (by decide)]
      have ew : sgW (otS C m d) t m' = sgW d t m' := by unfold sgW; rw [otS_F C m d (by decide) (by decide), otS_F C m d (by decide) (by decide)]
      refine md_ext (b1.trans (o1.trans (p1.trans a1).symm)) (b2.trans (o2.trans (p2.trans a2).symm)) (b3.trans (o3.trans (p3.trans a3).symm)) (fun k => ?_) (fun k => ?_) (fun k => ?_)
      · by_cases k24 : k = 24
        · subst k24
          rw [b9, otS_A C m _ (by decide), a9, ev, ew]
          exact mAfterF_24c _ (mAfter_24c _ (otS_A C m d (by decide)) o1) ((mAfter_dI _ _ _).trans (o1.trans (mAfter_dI _ _ _).symm))
        · rw [b8 k k24]
          by_cases k23 : k = 23
          · subst k23
            rw [(otS_17 C m _).2.2, (otS_17 C m _).2.2, a8 23 (by decide)]
          · rw [otS_A C m _ k23, otS_A C m _ k23, a8 k k24]
      · by_cases k17 : k = 17
        · subst k17
          rw [b4, ev, (otS_17 C m _).1, (otS_17 C m _).1, a4, a6 54 (by decide), a8 23 (by decide)]
          by_cases h3 : cK C m = 3
          · rw [if_pos h3, if_pos h3]; exact vf_comm _ _ _ hne
          · rw [if_neg h3, if_neg h3]
            by_cases h13 : cK C m = 13
            · rw [if_pos h13, if_pos h13]; exact vf_comm _ _ _ hne
            · rw [if_neg h13, if_neg h13]
        · rw [b6 k k17]
          by_cases k21 : k = 21
          · subst k21
            rw [(otS_21 C m _).1, (otS_21 C m _).1, a6 54 (by decide), a6 21 (by decide)]
          · rw [otS_D C m _ k17 k21, otS_D C m _ k17 k21, a6 k k17]
      · by_cases k18 : k = 18
        · subst k18
          rw [b5, ew, (otS_17 C m _).2.1, (otS_17 C m _).2.1, a5, a7 55 (by decide), a8 23 (by decide)]
          by_cases h3 : cK C m = 3
          · rw [if_pos h3, if_pos h3]; exact vf_comm _ _ _ hne
          · rw [if_neg h3, if_neg h3]
            by_cases h13 : cK C m = 13
            · rw [if_pos h13, if_pos h13]; exact vf_comm _ _ _ hne
            · rw [if_neg h13, if_neg h13]
        · rw [b7 k k18]
          by_cases k22 : k = 22
          · subst k22
            rw [(otS_21 C m _).2, (otS_21 C m _).2, a7 55 (by decide), a7 22 (by decide)]
          · rw [otS_F C m _ k18 k22, otS_F C m _ k18 k22, a7 k k18]
    · have e : ∀ x, otS C m x = x := fun x => by unfold otS; rw [if_neg (by omega), if_neg (by omega), if_neg (by omega)]
      rw [e, e]
  · have e : ∀ x, sgS C t m' x = x := fun x => if_neg h
    rw [e, e]
theorem it_comm1 {α : Type} {f : Nat → α → α} {g : α → α} (h : ∀ i a, g (f i a) = f i (g a)) : ∀ n a, g (it_ f n a) = it_ f n (g a)
  | 0, _ => rfl
  | n + 1, a => by rw [it_s, h, it_comm1 h n a, it_s]
theorem it_comm {α : Type} {f g : Nat → α → α} (h : ∀ i k a, g k (f i a) = f i (g k a)) : ∀ n a, it_ (fun m a => f m (g m a)) n a = it_ f n (it_ g n a)
  | 0, _ => rfl
  | n + 1, a => by
    rw [it_s, it_comm h n a, it_s, it_s]
    exact congrArg (f n) (it_comm1 (fun i a => h i n a) n (it_ g n a))
/-- stage and become, module by module -/
def gbN (C : tp_C) (t : UInt64) (n : Nat) (d : md_T) : md_T := it_ (fun m d => otS C m (sgS C t m d)) n d
theorem gbN_e (C : tp_C) (t : UInt64) (d : md_T) : gbN C t (cN C) d = otD C (sgA C t d) := it_comm (fun i k a => ot_sg C t i k a) (cN C) d
theorem sgS_D (C : tp_C) (t : UInt64) (m : Nat) (d : md_T) {k : Nat} (h : k ≠ 17) : dAD (sgS C t m d) k = dAD d k := by
  by_cases hk : cK C m = 2
  · exact (sgS_c (t := t) hk d).2.2.2.2.2.1 k h
  · rw [show sgS C t m d = d from if_neg hk]
theorem sgS_F (C : tp_C) (t : UInt64) (m : Nat) (d : md_T) {k : Nat} (h : k ≠ 18) : dAF (sgS C t m d) k = dAF d k := by
  by_cases hk : cK C m = 2
  · exact (sgS_c (t := t) hk d).2.2.2.2.2.2.1 k h
  · rw [show sgS C t m d = d from if_neg hk]
theorem sgS_A (C : tp_C) (t : UInt64) (m : Nat) (d : md_T) {k : Nat} (h : k ≠ 24) : dAI (sgS C t m d) k = dAI d k := by
  by_cases hk : cK C m = 2
  · exact (sgS_c (t := t) hk d).2.2.2.2.2.2.2.1 k h
  · rw [show sgS C t m d = d from if_neg hk]
theorem sgS_dI (C : tp_C) (t : UInt64) (m : Nat) (d : md_T) : dI (sgS C t m d) = dI d := by
  by_cases hk : cK C m = 2
  · exact (sgS_c (t := t) hk d).1
  · rw [show sgS C t m d = d from if_neg hk]
theorem gbN_D {C : tp_C} {t : UInt64} {n : Nat} {d : md_T} {k : Nat} (h1 : k ≠ 17) (h2 : k ≠ 21) : dAD (gbN C t n d) k = dAD d k := it_ok (n := n) (P := fun x => dAD x k = dAD d k) rfl (fun i a _ ha => by rw [otS_D C i _ h1 h2, sgS_D C t i a h1]; exact ha) n (Nat.le_refl _)
theorem gbN_F {C : tp_C} {t : UInt64} {n : Nat} {d : md_T} {k : Nat} (h1 : k ≠ 18) (h2 : k ≠ 22) : dAF (gbN C t n d) k = dAF d k := it_ok (n := n) (P := fun x => dAF x k = dAF d k) rfl (fun i a _ ha => by rw [otS_F C i _ h1 h2, sgS_F C t i a h1]; exact ha) n (Nat.le_refl _)
theorem gbN_dI {C : tp_C} {t : UInt64} {n : Nat} {d : md_T} : dI (gbN C t n d) = dI d := it_ok (n := n) (P := fun x => dI x = dI d) rfl (fun i a _ ha => by rw [(otS_dI C i _).1, sgS_dI]; exact ha) n (Nat.le_refl _)
theorem otS_row {C : tp_C} {m : Nat} {d : md_T} (hD : dlOK C) {q : Nat} (h : ¬ (16 * m ≤ q ∧ q < 16 * m + 16)) : dAD (otS C m d) 21 q = dAD d 21 q ∧ dAF (otS C m d) 22 q = dAF d 22 q := by
  rw [(otS_21 C m d).1, (otS_21 C m d).2]
  by_cases hk : cK C m = 11
  · rw [if_pos hk, if_pos hk]
    obtain ⟨n, h1, h2, h3⟩ := hD m hk
    have e : dlN C m = n := by unfold dlN; rw [h3, ixN_nI (by omega)]
    rw [e, vf_ne _ _ (by omega), vf_ne _ _ (by omega)]
    unfold shf
    rw [if_neg (by omega), if_neg (by omega)]; exact ⟨rfl, rfl⟩
  · rw [if_neg hk, if_neg hk]; exact ⟨rfl, rfl⟩
theorem gbN_row {C : tp_C} {t : UInt64} {d : md_T} (hD : dlOK C) (m : Nat) : ∀ n, m < n → dAD (gbN C t n d) 21 (16 * m) = dAD (gbN C t (m + 1) d) 21 (16 * m) ∧ dAF (gbN C t n d) 22 (16 * m) = dAF (gbN C t (m + 1) d) 22 (16 * m)
  | 0, h => absurd h (by omega)
  | n + 1, h => by
    by_cases e : m = n
    · subst e; exact ⟨rfl, rfl⟩
    · obtain ⟨a1, a2⟩ := gbN_row (t := t) (d := d) hD m n (by omega)
      have e2 : gbN C t (n + 1) d = otS C n (sgS C t n (gbN C t n d)) := rfl
      obtain ⟨b1, b2⟩ := otS_row (m := n) (d := sgS C t n (gbN C t n d)) hD (q := 16 * m) (by omega)
      rw [e2, b1, b2, sgS_D C t n _ (by decide), sgS_F C t n _ (by decide)]
      exact ⟨a1, a2⟩
/-- what the panel notes of delays behind a step -/
def fbJ (C : tp_C) (t : UInt64) (d : md_T) (j : xj_T) (n : Nat) : xj_T := (jA j, pm (jWf j) n (fun m => if cK C m = 11 then dAD (gbN C t (m + 1) d) 21 (16 * m) else jWf j m), pm (jNf j) n (fun m => if cK C m = 11 then dAF (gbN C t (m + 1) d) 22 (16 * m) else jNf j m), jWr j, jNr j, jWn j, jNn j, jSr j, jOd j, jRc j, jDn j)
def bcJ (C : tp_C) (m : Nat) (d : md_T) (j : xj_T) : xj_T := if cK C m = 11 then sNf (sWf j m (dAD d 21 (16 * m))) m (dAF d 22 (16 * m)) else j
theorem fbJ_0 (C : tp_C) (t : UInt64) (d : md_T) (j : xj_T) : j = fbJ C t d j 0 := by unfold fbJ; rw [pm_0, pm_0]; rfl
theorem fbJ_s (C : tp_C) (t : UInt64) (d : md_T) (j : xj_T) (n : Nat) : bcJ C n (gbN C t (n + 1) d) (fbJ C t d j n) = fbJ C t d j (n + 1) := by
  unfold bcJ
  by_cases h : cK C n = 11
  · rw [if_pos h]
    show (jA j, vf_upd (pm (jWf j) n _) n (dAD (gbN C t (n + 1) d) 21 (16 * n)), vf_upd (pm (jNf j) n _) n (dAF (gbN C t (n + 1) d) 22 (16 * n)), jWr j, jNr j, jWn j, jNn j, jSr j, jOd j, jRc j, jDn j) = _
    rw [pm_s (by rw [if_pos h]), pm_s (by rw [if_pos h])]; rfl
  · rw [if_neg h]
    show (jA j, pm (jWf j) n _, pm (jNf j) n _, jWr j, jNr j, jWn j, jNn j, jSr j, jOd j, jRc j, jDn j) = _
    rw [pm_k (f := jWf j) (by rw [if_neg h]), pm_k (f := jNf j) (by rw [if_neg h])]; rfl
theorem fb_W (C : tp_C) (t : UInt64) (d : md_T) (j : xj_T) (n : Nat) : jWf (fbJ C t d j n) = pm (jWf j) n (fun m => if cK C m = 11 then dAD (gbN C t (m + 1) d) 21 (16 * m) else jWf j m) ∧ jNf (fbJ C t d j n) = pm (jNf j) n (fun m => if cK C m = 11 then dAF (gbN C t (m + 1) d) 22 (16 * m) else jNf j m) := ⟨rfl, rfl⟩
theorem jOK_fb {C : tp_C} {t : UInt64} {d : md_T} {j : xj_T} (hD : dlOK C) (h11 : ∀ m, cK C m = 11 → m < cN C) : jOK C (gbN C t (cN C) d) (fbJ C t d j (cN C)) := fun m hk => by
  rw [(fb_W C t d j (cN C)).1, (fb_W C t d j (cN C)).2, pm_in (h11 m hk), pm_in (h11 m hk), if_pos hk, if_pos hk]
  obtain ⟨a1, a2⟩ := gbN_row (t := t) (d := d) hD m (cN C) (h11 m hk)
  exact ⟨a1.symm, a2.symm⟩
theorem gb_sg {C : tp_C} {t : UInt64} {d : md_T} {m : Nat} {V : UInt64} {W : UInt32} (h : cK C m = 2) (hV : V = sgV d t m) (hW : W = sgW d t m) : xgS d m V W = sgS C t m d := by
  subst hV; subst hW
  rw [← sgS_fin h]; rfl
theorem apOK_df {d : md_T} {m : Nat} (hR : rOK d) (h : apOK d) : apOK (dfS m d) := fun k => by
  have hb : bD 1079 (dfA d m) := by
    unfold dfA; split
    · exact sg_b (b := true) (dfV_bx hR)
    · exact dfV_bx hR
  unfold dfS
  rw [dAD_self]
  unfold vf_upd
  split
  · split
    · rename_i hg
      refine ⟨bD_up hb, ?_⟩
      rw [fx_gt_z (bD_f hb) (bD_f (h m).1)] at hg
      have h1 := of_decide_eq_true hg
      have h2 := zD_pos (h m).2
      by_cases h3 : (dfA d m).toNat < 2 ^ 63
      · exact h3
      · have := zD_npos h3; omega
    · exact h m
  · exact h k
theorem sgN_dI {C : tp_C} {t : UInt64} {n : Nat} {d : md_T} : dI (sgN C t n d) = dI d := it_ok (n := n) (P := fun x => dI x = dI d) rfl (fun i a _ ha => by rw [sgS_dI]; exact ha) n (Nat.le_refl _)
