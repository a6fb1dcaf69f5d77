/-! what beginning keeps -/
theorem rbI_D (d : md_T) (m k : Nat) (v : UInt64) {j : Nat} (h : j ≠ 21) : dAD (rbI d m k v) j = dAD d j := ss_D _ _ _ _ _ h
theorem rbI_F (d : md_T) (m k : Nat) (v : UInt64) {j : Nat} (h : j ≠ 22) : dAF (rbI d m k v) j = dAF d j := ss_F _ _ _ _ _ h
theorem bg5_D (C : tp_C) (m : Nat) (d : md_T) {j : Nat} (h1 : j ≠ 25) (h2 : j ≠ 17) : dAD (bg5 C m d) j = dAD d j := by
  have e1 : dAD (bg5 C m d) j = dAD (uAD (uAD (uAI d 24 m (-1)) 25 m FP.dconst0) 17 m (cB C m)) j := rfl
  rw [e1, uAD_ne _ _ _ _ h2, uAD_ne _ _ _ _ h1]; rfl
theorem bg5_17 (C : tp_C) (m : Nat) (d : md_T) : dAD (bg5 C m d) 17 = vf_upd (dAD d 17) m (cB C m) := by
  have e1 : dAD (bg5 C m d) 17 = dAD (uAD (uAD (uAI d 24 m (-1)) 25 m FP.dconst0) 17 m (cB C m)) 17 := rfl
  rw [e1, dAD_self, uAD_ne _ _ _ _ (by decide)]; rfl
theorem bg5_F (C : tp_C) (m : Nat) (d : md_T) {j : Nat} (h : j ≠ 18) : dAF (bg5 C m d) j = dAF d j := by
  have e1 : dAF (bg5 C m d) j = dAF (uAF (uAD (uAD (uAI d 24 m (-1)) 25 m FP.dconst0) 17 m (cB C m)) 18 m (FP.d2f (cB C m))) j := rfl
  rw [e1, uAF_ne _ _ _ _ h]; rfl
theorem bg5_18 (C : tp_C) (m : Nat) (d : md_T) : dAF (bg5 C m d) 18 = vf_upd (dAF d 18) m (FP.d2f (cB C m)) := by
  have e1 : dAF (bg5 C m d) 18 = dAF (uAF (uAD (uAD (uAI d 24 m (-1)) 25 m FP.dconst0) 17 m (cB C m)) 18 m (FP.d2f (cB C m))) 18 := rfl
  rw [e1, dAF_self]; rfl
theorem bgS_D (C : tp_C) (m : Nat) (d : md_T) {j : Nat} (h1 : j ≠ 25) (h2 : j ≠ 17) (h3 : j ≠ 21) : dAD (bgS C m d) j = dAD d j := (rbI_D _ _ _ _ h3).trans (bg5_D C m d h1 h2)
theorem bgS_F (C : tp_C) (m : Nat) (d : md_T) {j : Nat} (h1 : j ≠ 18) (h3 : j ≠ 22) : dAF (bgS C m d) j = dAF d j := (rbI_F _ _ _ _ h3).trans (bg5_F C m d h1)
theorem bgS_A (C : tp_C) (m : Nat) (d : md_T) {j : Nat} (h1 : j ≠ 23) (h2 : j ≠ 24) : dAI (bgS C m d) j = dAI d j := by
  have e1 : dAI (bgS C m d) j = dAI (uAI (uAI d 24 m (-1)) 23 m (sd0 C m)) j := rfl
  rw [e1, uAI_ne _ _ _ _ h1, uAI_ne _ _ _ _ h2]
/-- the settings' beginnings as floats are small -/
def vfOK (C : tp_C) : Prop := ∀ m, bF 1075 (FP.d2f (cB C m))
theorem bgS_r {C : tp_C} {m : Nat} {d : md_T} (hV : vOK C) (hW : vfOK C) (h : rOK d) : rOK (bgS C m d) := by
  refine ⟨?_, ?_, ?_, ?_, ?_, ?_⟩
  · rw [bgS_D _ _ _ (by decide) (by decide) (by decide)]; exact h.rd
  · rw [bgS_F _ _ _ (by decide) (by decide)]; exact h.rf
  · have e1 : dAD (bgS C m d) 17 = vf_upd (dAD d 17) m (cB C m) := (rbI_D _ _ _ _ (by decide)).trans (bg5_17 C m d)
    rw [e1]; exact upd_all h.st (hV.b m)
  · have e1 : dAF (bgS C m d) 18 = vf_upd (dAF d 18) m (FP.d2f (cB C m)) := (rbI_F _ _ _ _ (by decide)).trans (bg5_18 C m d)
    rw [e1]; exact upd_all h.sf (hW m)
  · have e1 : dAD (bgS C m d) 21 = fil (dAD (bg5 C m d) 21) m 16 (cB C m) := ss_Ds _ _ _ _ _
    rw [e1, bg5_D _ _ _ (by decide) (by decide)]; exact fil_all h.rw (hV.b m)
  · have e1 : dAF (bgS C m d) 22 = fil (dAF (bg5 C m d) 22) m 16 (FP.d2f (cB C m)) := ss_Fs _ _ _ _ _
    rw [e1, bg5_F _ _ _ (by decide)]; exact fil_all h.rwf (hW m)
theorem iOK_bg {C : tp_C} {f : Nat → Int32} {m : Nat} {d : md_T} (hV : vOK C) (hW : vfOK C) (h : iOK C f d) : iOK C f (bgS C m d) := by
  refine ⟨bgS_r hV hW h.r, ?_, ?_, ?_, ?_, (bgS_A _ _ _ (by decide) (by decide)).trans h.l⟩
  · unfold gOK
    rw [bgS_D C m d (by decide) (by decide) (by decide), bgS_D C m d (by decide) (by decide) (by decide), bgS_D C m d (by decide) (by decide) (by decide), bgS_F C m d (by decide) (by decide), bgS_F C m d (by decide) (by decide), bgS_F C m d (by decide) (by decide)]
    exact h.g
  · unfold nOK; rw [bgS_D C m d (by decide) (by decide) (by decide), bgS_F C m d (by decide) (by decide)]; exact h.n
  · unfold fOK; rw [bgS_D C m d (by decide) (by decide) (by decide), bgS_F C m d (by decide) (by decide)]; exact h.f
  · unfold zOK; rw [bgS_D C m d (by decide) (by decide) (by decide), bgS_F C m d (by decide) (by decide)]; exact h.z
theorem iOK_bgN {C : tp_C} {f : Nat → Int32} {d : md_T} (hV : vOK C) (hW : vfOK C) (h : iOK C f d) (n : Nat) : iOK C f (bgN C n d) := it_ok (n := n) h (fun _ _ _ hh => iOK_bg hV hW hh) n (Nat.le_refl n)
theorem iOK_be0 {C : tp_C} {f : Nat → Int32} {d : md_T} (h : iOK C f d) : iOK C (leF C (dAI d 10)) (be0 C d) := by
  refine ⟨h.r, h.g, h.n, h.f, h.z, ?_⟩
  show dAI (sAI d 10 (leF C (dAI d 10))) 10 = _
  exact dAI_sAI d 10 _
theorem beS_D (C : tp_C) (m : Nat) (d : md_T) {j : Nat} (h1 : j ≠ 25) (h2 : j ≠ 26) : dAD (beS C m d) j = dAD d j := (uAD_ne (dfS m d) 26 m (beV C d m) h2).trans (dfS_D m d h1)
theorem iOK_beS {C : tp_C} {f : Nat → Int32} {m : Nat} {d : md_T} (h : iOK C f d) : iOK C f (beS C m d) := by
  refine ⟨?_, ?_, ?_, ?_, ?_, h.l⟩
  · unfold rOK
    rw [beS_D C m d (by decide) (by decide), beS_D C m d (by decide) (by decide), beS_D C m d (by decide) (by decide)]
    exact h.r
  · unfold gOK
    rw [beS_D C m d (by decide) (by decide), beS_D C m d (by decide) (by decide), beS_D C m d (by decide) (by decide)]
    exact h.g
  · unfold nOK; rw [beS_D C m d (by decide) (by decide)]; exact h.n
  · unfold fOK; rw [beS_D C m d (by decide) (by decide)]; exact h.f
  · unfold zOK; rw [beS_D C m d (by decide) (by decide)]; exact h.z
theorem iOK_beN {C : tp_C} {f : Nat → Int32} {d : md_T} (h : iOK C f d) (n : Nat) : iOK C f (beN C n d) := it_ok (n := n) h (fun _ _ _ hh => iOK_beS hh) n (Nat.le_refl n)
theorem iOK_be1 {C : tp_C} {f : Nat → Int32} {d : md_T} (hC : mOK C) (hV : vOK C) (hW : vfOK C) (hA : aOK C) (h : iOK C f d) : iOK C (leF C (dAI d 10)) (be1 C d) := iOK_ra hC hV hA (iOK_bgN hV hW (iOK_be0 h) _)
theorem iOK_be {C : tp_C} {f : Nat → Int32} {d : md_T} (hC : mOK C) (hV : vOK C) (hW : vfOK C) (hA : aOK C) (h : iOK C f d) : iOK C (leF C (dAI d 10)) (beD C d) := iOK_beN (iOK_be1 hC hV hW hA h) _
