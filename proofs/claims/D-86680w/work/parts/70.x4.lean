set_option maxRecDepth 100000
set_option maxHeartbeats 4000000
theorem dX2_read_0 : decode cX2_read 0 = .ok (.aload_n 0, 1) := by decide +kernel
theorem dX2_read_1 : decode cX2_read 1 = .ok (.aload_n 0, 1) := by decide +kernel
theorem dX2_read_2 : decode cX2_read 2 = .ok (.aload_n 0, 1) := by decide +kernel
theorem dX2_read_3 : decode cX2_read 3 = .ok (.iload_n 1, 1) := by decide +kernel
theorem dX2_read_4 : decode cX2_read 4 = .ok (.invokevirtual 59, 3) := by decide +kernel
theorem dX2_read_7 : decode cX2_read 7 = .ok (.iload_n 1, 1) := by decide +kernel
theorem dX2_read_8 : decode cX2_read 8 = .ok (.invokevirtual 62, 3) := by decide +kernel
theorem dX2_read_11 : decode cX2_read 11 = .ok (.putfield 34, 3) := by decide +kernel
theorem dX2_read_14 : decode cX2_read 14 = .ok (.aload_n 0, 1) := by decide +kernel
theorem dX2_read_15 : decode cX2_read 15 = .ok (.aload_n 0, 1) := by decide +kernel
theorem dX2_read_16 : decode cX2_read 16 = .ok (.aload_n 0, 1) := by decide +kernel
theorem dX2_read_17 : decode cX2_read 17 = .ok (.iload_n 1, 1) := by decide +kernel
theorem dX2_read_18 : decode cX2_read 18 = .ok (.invokevirtual 66, 3) := by decide +kernel
theorem dX2_read_21 : decode cX2_read 21 = .ok (.iload_n 1, 1) := by decide +kernel
theorem dX2_read_22 : decode cX2_read 22 = .ok (.invokevirtual 69, 3) := by decide +kernel
theorem dX2_read_25 : decode cX2_read 25 = .ok (.putfield 37, 3) := by decide +kernel
theorem dX2_read_28 : decode cX2_read 28 = .ok (.return_, 1) := by decide +kernel
theorem hu_Module_afterNarrow : "TwinPanel$Module" ≠ "java/lang/invoke/MethodHandle" ∧ "TwinPanel$Module" ≠ "java/lang/invoke/VarHandle" ∧ (parseMethodDescriptor "(FI)F").map (fun d => d.parameters.length) = some 2 := by decide +kernel
theorem hu_Module_afterWide : "TwinPanel$Module" ≠ "java/lang/invoke/MethodHandle" ∧ "TwinPanel$Module" ≠ "java/lang/invoke/VarHandle" ∧ (parseMethodDescriptor "(DI)D").map (fun d => d.parameters.length) = some 2 := by decide +kernel
theorem hu_Module_narrowOut : "TwinPanel$Module" ≠ "java/lang/invoke/MethodHandle" ∧ "TwinPanel$Module" ≠ "java/lang/invoke/VarHandle" ∧ (parseMethodDescriptor "(I)F").map (fun d => d.parameters.length) = some 1 := by decide +kernel
theorem hu_Module_wideOut : "TwinPanel$Module" ≠ "java/lang/invoke/MethodHandle" ∧ "TwinPanel$Module" ≠ "java/lang/invoke/VarHandle" ∧ (parseMethodDescriptor "(I)D").map (fun d => d.parameters.length) = some 1 := by decide +kernel
theorem zv_0 {s : Bool} {c : Nat} {q : Int} (h : zv (.fin s c q) = 0) : c = 0 := by
  have h : FP.Core.signed s (c * 2 ^ (q + 1074).toNat) = 0 := h
  have e : c * 2 ^ (q + 1074).toNat = 0 := by
    cases s <;> simp only [FP.Core.signed] at h <;> omega
  rcases Nat.mul_eq_zero.mp e with h | h
  · exact h
  · exact absurd h (Nat.ne_of_gt (Nat.two_pow_pos _))
theorem zF_d2f0 {x : UInt64} (hx : fD x) (h : zD x = 0) : fF (FP.d2f x) ∧ zF (FP.d2f x) = 0 := by
  obtain ⟨s, c, q, h1⟩ := hx
  have hn : vf_n64 x := (nD_val x).mpr (by rw [h1]; exact fun e => by cases e)
  have hc : c = 0 := zv_0 (s := s) (q := q) (by unfold zD at h; rw [h1] at h; exact h)
  subst hc
  have hv := v32_d2f hn
  rw [h1] at hv
  have hv : v32 (FP.d2f x) = .fin s 0 FP.Core.b32.qmin := by rw [hv]; show FP.Core.roundRatio _ s 0 1 q = _; unfold FP.Core.roundRatio; exact if_pos rfl
  refine ⟨⟨s, 0, _, hv⟩, ?_⟩
  unfold zF
  rw [hv]
  cases s <;> simp [zv, FP.Core.signed]
theorem cl_z {v : UInt64} (hf : fD v) (h : zD v = 0) : ouD v = false ∧ clD v = FP.dconst0 := by
  have e : ouD v = false := by
    unfold ouD
    rw [fx_gt_z hf fD_15, fx_lt_z hf fD_m15, h, zD_15, zD_m15]
    simp only [Bool.or_eq_false_iff, decide_eq_false_iff_not]
    have := Nat.two_pow_pos 1073
    generalize 2 ^ 1073 = q at *
    omega
  refine ⟨e, ?_⟩
  unfold clD
  rw [if_neg (by rw [e]; simp), if_pos (by rw [fx_eq_z hf fD_0, h, zD_0]; simp)]
theorem cl_zF {v : UInt32} (hf : fF v) (h : zF v = 0) : ouF v = false ∧ clF v = FP.fconst0 := by
  have e : ouF v = false := by
    unfold ouF
    rw [fy_gt_z hf fF_15, fy_lt_z hf fF_m15, h, zF_15, zF_m15]
    simp only [Bool.or_eq_false_iff, decide_eq_false_iff_not]
    have := Nat.two_pow_pos 1073
    generalize 2 ^ 1073 = q at *
    omega
  refine ⟨e, ?_⟩
  unfold clF
  rw [if_neg (by rw [e]; simp), if_pos (by rw [fy_eq_z hf fF_0, h, zF_0]; simp)]
theorem xo_cl {C : tp_C} {d : md_T} {m : Nat} (hR : rOK d) : ouD (xoD C d m) = ouD (mkD C d m) ∧ clD (xoD C d m) = clD (mkD C d m) := by
  unfold xoD
  split
  · rename_i h
    have hf := bD_f (a0_b (C := C) (m := m) (i := 0) hR.rd)
    have hz : zD (a0D C (dAD d 19) m 0) = 0 := by
      have := h.2.2; rw [fx_eq_z hf fD_0, zD_0] at this; exact of_decide_eq_true this
    have e : mkD C d m = a0D C (dAD d 19) m 0 := by simp [mkD, h.1, h.2.1, rtD, h.2.2]
    rw [e]
    have h1 := cl_z hf hz
    have h2 := cl_z fD_0 zD_0
    exact ⟨h2.1.trans h1.1.symm, h2.2.trans h1.2.symm⟩
  · exact ⟨rfl, rfl⟩
theorem xo_clF {C : tp_C} {d : md_T} {m : Nat} (hR : rOK d) : ouF (xoF C d m) = ouF (mkF C d m) ∧ clF (xoF C d m) = clF (mkF C d m) := by
  unfold xoF
  split
  · rename_i h
    have hf := bF_f (a0_bF (C := C) (m := m) (i := 0) hR.rf)
    have hz : zF (a0F C (dAF d 20) m 0) = 0 := by
      have := h.2.2; rw [fy_eq_z hf fF_0, zF_0] at this; exact of_decide_eq_true this
    obtain ⟨h3, h4⟩ := zD_f2d hf
    rw [hz] at h4
    obtain ⟨h5, h6⟩ := zF_d2f0 h3 h4
    have e0 : fx_eq (FP.f2d (a0F C (dAF d 20) m 0)) FP.dconst0 = true := by rw [fx_eq_z h3 fD_0, h4, zD_0]; simp
    have e : mkF C d m = FP.d2f (FP.f2d (a0F C (dAF d 20) m 0)) := by simp [mkF, h.1, h.2.1, rtD, e0]
    rw [e]
    have h1 := cl_zF h5 h6
    have h2 := cl_zF fF_0 zF_0
    exact ⟨h2.1.trans h1.1.symm, h2.2.trans h1.2.symm⟩
  · exact ⟨rfl, rfl⟩
theorem xo_R1 {C : tp_C} {d : md_T} {m : Nat} (hR : rOK d) : uAD (mAfter (mkL C d m) m (xoD C d m)) 19 m (clD (xoD C d m)) = mR1 C m d := by
  unfold mR1 mAfter; rw [(xo_cl hR).1, (xo_cl hR).2]
theorem xo_R2 {C : tp_C} {d : md_T} {m : Nat} (hR : rOK d) : uAF (mAfterF (mkLF C d m) m (xoF C d m)) 20 m (clF (xoF C d m)) = mR2 C m d := by
  unfold mR2 mAfterF; rw [(xo_clF hR).1, (xo_clF hR).2]
theorem mR1_D2 (C : tp_C) (m : Nat) (d : md_T) {k : Nat} (h : k ≠ 19) : dAD (mR1 C m d) k = dAD d k := by unfold mR1; rw [uAD_ne _ _ _ _ h, mAfter_D, mkL_D]
theorem mR2_F2 (C : tp_C) (m : Nat) (d : md_T) {k : Nat} (h : k ≠ 20) : dAF (mR2 C m d) k = dAF d k := by unfold mR2; rw [uAF_ne _ _ _ _ h, mAfterF_F, mkLF_F]
theorem jOK_R1 {C : tp_C} {d : md_T} {j : xj_T} (m : Nat) (h : jOK C d j) : jOK C (mR1 C m d) j := fun k hk => by
  rw [mR1_D2 C m d (by decide), mR1_F]; exact h k hk
theorem jOK_Rd {C : tp_C} {d : md_T} {j : xj_T} (m : Nat) (h : jOK C d j) : jOK C (mRd C m d) j := fun k hk => by
  unfold mRd; rw [mR2_F2 C m _ (by decide), mR2_D, mR1_D2 C m d (by decide), mR1_F]; exact h k hk
section TX5_
variable {p : Program} {l : Launch} {e : Env} {h : Nat} {s : State} {m : MethodId} {args : Array Value} {below : List Frame} {meth : Method} {c : Code} {H : Heap} {locs : List Loc} {Q : State → Prop}
variable {cc : ByteArray} {pc nL : Nat} {ls : Array Slot} {rest : List Value} {D : va_G} {dA : Nat → ClassId} {A : Nat → Prop} {C : tp_C} {d : md_T} {j : xj_T}
theorem xo_wideOut (S : CallFix p m c cc nL s args lw_all RX2) (G : xG D dA A C d j s H locs) {mm : Nat} {t : Int32} (hC : mOK C) (hm : mm < cN C) (hV : vOK C) (hR : rOK d) (hI : okM C mm) (ht : dI d 44 = t) (hJ : jOK C d j) (hh : 6 ≤ h) (hsz : ls.size = nL) (hW : (rest.map fun v => v.category).sum ≤ 8) (hdg : decode cc pc = .ok (.invokevirtual 59, 3))
    (kk : ∀ (H1 : Heap) (locs1 : List Loc), xG D dA A C (mkL C d mm) j s H1 locs1 → W p l e (rm_ h) s m args below meth c H1 locs1 0 0 Q (F0 m (pc + 3) ls (.double (xoD C d mm) :: rest))) : W p l e (rm_ h) s m args below meth c H locs 0 0 Q (F0 m pc ls (.int t :: .ref (jA j (xr mm 0)) :: rest)) := by
  have hN := hC.n; have hts := S.2.2.2.2; have hk14 := hC.k mm
  have hr : ∀ a L, a ≤ 5 → L ≤ 20 → a + 1 ≤ (rm_ h).frames ∧ 8 + (L + 11) + 48 * a ≤ (rm_ h).locals := fun a L h1 h2 => ⟨by show a + 1 ≤ h; omega, by show 8 + (L + 11) + 48 * a ≤ 48 * h; omega⟩
  rcases (show cK C mm = 0 ∨ cK C mm = 1 ∨ cK C mm = 2 ∨ cK C mm = 3 ∨ cK C mm = 4 ∨ cK C mm = 5 ∨ cK C mm = 6 ∨ cK C mm = 7 ∨ cK C mm = 8 ∨ cK C mm = 9 ∨ cK C mm = 10 ∨ cK C mm = 11 ∨ cK C mm = 12 ∨ cK C mm = 13 by omega) with h_ | h_ | h_ | h_ | h_ | h_ | h_ | h_ | h_ | h_ | h_ | h_ | h_ | h_
  · exact xx_callM (mm := mm) (As := [.int t]) (rest := rest) S G hm hN (hC.k _) (xt_X3_wideOut l D dA C d j mm t hC hm h_ hV hR hI ht) (xx_cwA hts q739 q741 (by rw [h_]; exact q838) q839 q59 q840 (xG_D G).1 hu_Module_wideOut (hr _ _ (by decide) (by decide))) rfl hsz rfl hW hdg ⟨Nat.zero_le _, Nat.zero_le _⟩ kk
  · exact xx_callM (mm := mm) (As := [.int t]) (rest := rest) S G hm hN (hC.k _) (xt_X4_wideOut l D dA C d j mm t hC hm h_ hV hR hI ht) (xx_cwA hts q739 q741 (by rw [h_]; exact q855) q856 q60 q857 (xG_D G).1 hu_Module_wideOut (hr _ _ (by decide) (by decide))) rfl hsz rfl hW hdg ⟨Nat.zero_le _, Nat.zero_le _⟩ kk
  · exact xx_callM (mm := mm) (As := [.int t]) (rest := rest) S G hm hN (hC.k _) (xt_X5_wideOut_2 l D dA C d j mm t hC hm h_ hV hR hI ht hJ) (xx_cwA hts q739 q741 (by rw [h_]; exact q755) q753 q61 q754 (xG_D G).1 hu_Module_wideOut (hr _ _ (by decide) (by decide))) rfl hsz rfl hW hdg ⟨Nat.zero_le _, Nat.zero_le _⟩ kk
  · exact xx_callM (mm := mm) (As := [.int t]) (rest := rest) S G hm hN (hC.k _) (xt_X5_wideOut_3 l D dA C d j mm t hC hm h_ hV hR hI ht hJ) (xx_cwA hts q739 q741 (by rw [h_]; exact q854) q753 q61 q754 (xG_D G).1 hu_Module_wideOut (hr _ _ (by decide) (by decide))) rfl hsz rfl hW hdg ⟨Nat.zero_le _, Nat.zero_le _⟩ kk
  · exact xx_callM (mm := mm) (As := [.int t]) (rest := rest) S G hm hN (hC.k _) (xt_X8_wideOut l D dA C d j mm t hC hm h_ hV hR hI ht) (xx_cwA hts q739 q741 (by rw [h_]; exact q769) q770 q64 q771 (xG_D G).1 hu_Module_wideOut (hr _ _ (by decide) (by decide))) rfl hsz rfl hW hdg ⟨Nat.zero_le _, Nat.zero_le _⟩ kk
  · exact xx_callM (mm := mm) (As := [.int t]) (rest := rest) S G hm hN (hC.k _) (xt_X9_wideOut l D dA C d j mm t hC hm h_ hV hR hI ht) (xx_cwA hts q739 q741 (by rw [h_]; exact q775) q776 q65 q777 (xG_D G).1 hu_Module_wideOut (hr _ _ (by decide) (by decide))) rfl hsz rfl hW hdg ⟨Nat.zero_le _, Nat.zero_le _⟩ kk
  · exact xx_callM (mm := mm) (As := [.int t]) (rest := rest) S G hm hN (hC.k _) (xt_X10_wideOut l D dA C d j mm t hC hm h_ hV hR hI ht) (xx_cwA hts q739 q741 (by rw [h_]; exact q795) q796 q66 q797 (xG_D G).1 hu_Module_wideOut (hr _ _ (by decide) (by decide))) rfl hsz rfl hW hdg ⟨Nat.zero_le _, Nat.zero_le _⟩ kk
  · exact xx_callM (mm := mm) (As := [.int t]) (rest := rest) S G hm hN (hC.k _) (xt_X11_wideOut l D dA C d j mm t hC hm h_ hV hR hI ht) (xx_cwA hts q739 q741 (by rw [h_]; exact q848) q849 q67 q850 (xG_D G).1 hu_Module_wideOut (hr _ _ (by decide) (by decide))) rfl hsz rfl hW hdg ⟨Nat.zero_le _, Nat.zero_le _⟩ kk
  · exact xx_callM (mm := mm) (As := [.int t]) (rest := rest) S G hm hN (hC.k _) (xt_X12_wideOut l D dA C d j mm t hC hm h_ hV hR hI ht) (xx_cwA hts q739 q741 (by rw [h_]; exact q742) q743 q68 q744 (xG_D G).1 hu_Module_wideOut (hr _ _ (by decide) (by decide))) rfl hsz rfl hW hdg ⟨Nat.zero_le _, Nat.zero_le _⟩ kk
  · exact xx_callM (mm := mm) (As := [.int t]) (rest := rest) S G hm hN (hC.k _) (xt_X13_wideOut l D dA C d j mm t hC hm h_ hV hR hI ht) (xx_cwA hts q739 q741 (by rw [h_]; exact q789) q790 q69 q791 (xG_D G).1 hu_Module_wideOut (hr _ _ (by decide) (by decide))) rfl hsz rfl hW hdg ⟨Nat.zero_le _, Nat.zero_le _⟩ kk
  · exact xx_callM (mm := mm) (As := [.int t]) (rest := rest) S G hm hN (hC.k _) (xt_X14_wideOut l D dA C d j mm t hC hm h_ hV hR hI ht) (xx_cwA hts q739 q741 (by rw [h_]; exact q763) q764 q70 q765 (xG_D G).1 hu_Module_wideOut (hr _ _ (by decide) (by decide))) rfl hsz rfl hW hdg ⟨Nat.zero_le _, Nat.zero_le _⟩ kk
  · exact xx_callM (mm := mm) (As := [.int t]) (rest := rest) S G hm hN (hC.k _) (xt_X5_wideOut_11 l D dA C d j mm t hC hm h_ hV hR hI ht hJ) (xx_cwA hts q739 q741 (by rw [h_]; exact q752) q753 q61 q754 (xG_D G).1 hu_Module_wideOut (hr _ _ (by decide) (by decide))) rfl hsz rfl hW hdg ⟨Nat.zero_le _, Nat.zero_le _⟩ kk
  · exact xx_callM (mm := mm) (As := [.int t]) (rest := rest) S G hm hN (hC.k _) (xt_X16_wideOut l D dA C d j mm t hC hm h_ hV hR hI ht) (xx_cwA hts q739 q741 (by rw [h_]; exact q756) q757 q72 q758 (xG_D G).1 hu_Module_wideOut (hr _ _ (by decide) (by decide))) rfl hsz rfl hW hdg ⟨Nat.zero_le _, Nat.zero_le _⟩ kk
  · exact xx_callM (mm := mm) (As := [.int t]) (rest := rest) S G hm hN (hC.k _) (xt_X5_wideOut_13 l D dA C d j mm t hC hm h_ hV hR hI ht hJ) (xx_cwA hts q739 q741 (by rw [h_]; exact q762) q753 q61 q754 (xG_D G).1 hu_Module_wideOut (hr _ _ (by decide) (by decide))) rfl hsz rfl hW hdg ⟨Nat.zero_le _, Nat.zero_le _⟩ kk
theorem xo_narrowOut (S : CallFix p m c cc nL s args lw_all RX2) (G : xG D dA A C d j s H locs) {mm : Nat} {t : Int32} (hC : mOK C) (hm : mm < cN C) (hV : vOK C) (hR : rOK d) (hI : okM C mm) (ht : dI d 44 = t) (hJ : jOK C d j) (hh : 6 ≤ h) (hsz : ls.size = nL) (hW : (rest.map fun v => v.category).sum ≤ 8) (hdg : decode cc pc = .ok (.invokevirtual 66, 3))
    (kk : ∀ (H1 : Heap) (locs1 : List Loc), xG D dA A C (mkLF C d mm) j s H1 locs1 → W p l e (rm_ h) s m args below meth c H1 locs1 0 0 Q (F0 m (pc + 3) ls (.float (xoF C d mm) :: rest))) : W p l e (rm_ h) s m args below meth c H locs 0 0 Q (F0 m pc ls (.int t :: .ref (jA j (xr mm 0)) :: rest)) := by
  have hN := hC.n; have hts := S.2.2.2.2; have hk14 := hC.k mm
  have hr : ∀ a L, a ≤ 5 → L ≤ 20 → a + 1 ≤ (rm_ h).frames ∧ 8 + (L + 11) + 48 * a ≤ (rm_ h).locals := fun a L h1 h2 => ⟨by show a + 1 ≤ h; omega, by show 8 + (L + 11) + 48 * a ≤ 48 * h; omega⟩
  rcases (show cK C mm = 0 ∨ cK C mm = 1 ∨ cK C mm = 2 ∨ cK C mm = 3 ∨ cK C mm = 4 ∨ cK C mm = 5 ∨ cK C mm = 6 ∨ cK C mm = 7 ∨ cK C mm = 8 ∨ cK C mm = 9 ∨ cK C mm = 10 ∨ cK C mm = 11 ∨ cK C mm = 12 ∨ cK C mm = 13 by omega) with h_ | h_ | h_ | h_ | h_ | h_ | h_ | h_ | h_ | h_ | h_ | h_ | h_ | h_
  · exact xx_callM (mm := mm) (As := [.int t]) (rest := rest) S G hm hN (hC.k _) (xt_X3_narrowOut l D dA C d j mm t hC hm h_ hV hR hI ht) (xx_cwA hts q882 q884 (by rw [h_]; exact q938) q939 q59 q940 (xG_D G).2 hu_Module_narrowOut (hr _ _ (by decide) (by decide))) rfl hsz rfl hW hdg ⟨Nat.zero_le _, Nat.zero_le _⟩ kk
  · exact xx_callM (mm := mm) (As := [.int t]) (rest := rest) S G hm hN (hC.k _) (xt_X4_narrowOut l D dA C d j mm t hC hm h_ hV hR hI ht) (xx_cwA hts q882 q884 (by rw [h_]; exact q955) q956 q60 q957 (xG_D G).2 hu_Module_narrowOut (hr _ _ (by decide) (by decide))) rfl hsz rfl hW hdg ⟨Nat.zero_le _, Nat.zero_le _⟩ kk
  · exact xx_callM (mm := mm) (As := [.int t]) (rest := rest) S G hm hN (hC.k _) (xt_X5_narrowOut_2 l D dA C d j mm t hC hm h_ hV hR hI ht hJ) (xx_cwA hts q882 q884 (by rw [h_]; exact q898) q896 q61 q897 (xG_D G).2 hu_Module_narrowOut (hr _ _ (by decide) (by decide))) rfl hsz rfl hW hdg ⟨Nat.zero_le _, Nat.zero_le _⟩ kk
  · exact xx_callM (mm := mm) (As := [.int t]) (rest := rest) S G hm hN (hC.k _) (xt_X5_narrowOut_3 l D dA C d j mm t hC hm h_ hV hR hI ht hJ) (xx_cwA hts q882 q884 (by rw [h_]; exact q954) q896 q61 q897 (xG_D G).2 hu_Module_narrowOut (hr _ _ (by decide) (by decide))) rfl hsz rfl hW hdg ⟨Nat.zero_le _, Nat.zero_le _⟩ kk
  · exact xx_callM (mm := mm) (As := [.int t]) (rest := rest) S G hm hN (hC.k _) (xt_X8_narrowOut l D dA C d j mm t hC hm h_ hV hR hI ht) (xx_cwA hts q882 q884 (by rw [h_]; exact q912) q913 q64 q914 (xG_D G).2 hu_Module_narrowOut (hr _ _ (by decide) (by decide))) rfl hsz rfl hW hdg ⟨Nat.zero_le _, Nat.zero_le _⟩ kk
  · exact xx_callM (mm := mm) (As := [.int t]) (rest := rest) S G hm hN (hC.k _) (xt_X9_narrowOut l D dA C d j mm t hC hm h_ hV hR hI ht) (xx_cwA hts q882 q884 (by rw [h_]; exact q918) q919 q65 q920 (xG_D G).2 hu_Module_narrowOut (hr _ _ (by decide) (by decide))) rfl hsz rfl hW hdg ⟨Nat.zero_le _, Nat.zero_le _⟩ kk
  · exact xx_callM (mm := mm) (As := [.int t]) (rest := rest) S G hm hN (hC.k _) (xt_X10_narrowOut l D dA C d j mm t hC hm h_ hV hR hI ht) (xx_cwA hts q882 q884 (by rw [h_]; exact q932) q933 q66 q934 (xG_D G).2 hu_Module_narrowOut (hr _ _ (by decide) (by decide))) rfl hsz rfl hW hdg ⟨Nat.zero_le _, Nat.zero_le _⟩ kk
  · exact xx_callM (mm := mm) (As := [.int t]) (rest := rest) S G hm hN (hC.k _) (xt_X11_narrowOut l D dA C d j mm t hC hm h_ hV hR hI ht) (xx_cwA hts q882 q884 (by rw [h_]; exact q948) q949 q67 q950 (xG_D G).2 hu_Module_narrowOut (hr _ _ (by decide) (by decide))) rfl hsz rfl hW hdg ⟨Nat.zero_le _, Nat.zero_le _⟩ kk
  · exact xx_callM (mm := mm) (As := [.int t]) (rest := rest) S G hm hN (hC.k _) (xt_X12_narrowOut l D dA C d j mm t hC hm h_ hV hR hI ht) (xx_cwA hts q882 q884 (by rw [h_]; exact q885) q886 q68 q887 (xG_D G).2 hu_Module_narrowOut (hr _ _ (by decide) (by decide))) rfl hsz rfl hW hdg ⟨Nat.zero_le _, Nat.zero_le _⟩ kk
  · exact xx_callM (mm := mm) (As := [.int t]) (rest := rest) S G hm hN (hC.k _) (xt_X13_narrowOut l D dA C d j mm t hC hm h_ hV hR hI ht) (xx_cwA hts q882 q884 (by rw [h_]; exact q926) q927 q69 q928 (xG_D G).2 hu_Module_narrowOut (hr _ _ (by decide) (by decide))) rfl hsz rfl hW hdg ⟨Nat.zero_le _, Nat.zero_le _⟩ kk
  · exact xx_callM (mm := mm) (As := [.int t]) (rest := rest) S G hm hN (hC.k _) (xt_X14_narrowOut l D dA C d j mm t hC hm h_ hV hR hI ht) (xx_cwA hts q882 q884 (by rw [h_]; exact q906) q907 q70 q908 (xG_D G).2 hu_Module_narrowOut (hr _ _ (by decide) (by decide))) rfl hsz rfl hW hdg ⟨Nat.zero_le _, Nat.zero_le _⟩ kk
  · exact xx_callM (mm := mm) (As := [.int t]) (rest := rest) S G hm hN (hC.k _) (xt_X5_narrowOut_11 l D dA C d j mm t hC hm h_ hV hR hI ht hJ) (xx_cwA hts q882 q884 (by rw [h_]; exact q895) q896 q61 q897 (xG_D G).2 hu_Module_narrowOut (hr _ _ (by decide) (by decide))) rfl hsz rfl hW hdg ⟨Nat.zero_le _, Nat.zero_le _⟩ kk
  · exact xx_callM (mm := mm) (As := [.int t]) (rest := rest) S G hm hN (hC.k _) (xt_X16_narrowOut l D dA C d j mm t hC hm h_ hV hR hI ht) (xx_cwA hts q882 q884 (by rw [h_]; exact q899) q900 q72 q901 (xG_D G).2 hu_Module_narrowOut (hr _ _ (by decide) (by decide))) rfl hsz rfl hW hdg ⟨Nat.zero_le _, Nat.zero_le _⟩ kk
  · exact xx_callM (mm := mm) (As := [.int t]) (rest := rest) S G hm hN (hC.k _) (xt_X5_narrowOut_13 l D dA C d j mm t hC hm h_ hV hR hI ht hJ) (xx_cwA hts q882 q884 (by rw [h_]; exact q905) q896 q61 q897 (xG_D G).2 hu_Module_narrowOut (hr _ _ (by decide) (by decide))) rfl hsz rfl hW hdg ⟨Nat.zero_le _, Nat.zero_le _⟩ kk
end TX5_
theorem xt_X2_read (l : Launch) (D : va_G) (dA : Nat → ClassId) (C : tp_C) (d : md_T) (j : xj_T) (m : Nat) (t : Int32) (hC : mOK C) (hm : m < cN C) (hV : vOK C) (hR : rOK d) (hI : okM C m) (ht : dI d 44 = t) (hJ : jOK C d j) : xC l D dA yX2_read cX2_read 2 none 6 [.ref (jA j (xr m 0)), .int t] C d j none C (mRd C m d) j := by
  refine xx_start (own := RX2) (by decide) rfl (Nat.le_of_ble_eq_true rfl) ?_
  intro p0 e0 s0 mid bl0 me0 co0 ls S hr hlk G hl
  have hx := S.1; have hb := S.2.1; have hml := S.2.2.1; have hown := S.2.2.2.1; have hts := S.2.2.2.2; have hN := hC.n
  have hl : lv_has ls 2 [(0, .ref (jA j (xr m 0))), (1, .int t)] := hl
  refine lv_aload_n hx hb dX2_read_0 rfl (lv_at hl 0 rfl) ?_
  refine lv_aload_n hx hb dX2_read_1 rfl (lv_at hl 0 rfl) ?_
  refine lv_aload_n hx hb dX2_read_2 rfl (lv_at hl 0 rfl) ?_
  refine lv_iload_n hx hb dX2_read_3 rfl (lv_at hl 1 rfl) ?_
  refine xo_wideOut (rest := [.ref (jA j (xr m 0)), .ref (jA j (xr m 0))]) S G hC (by omega) hV hR hI ht hJ (Nat.le_of_ble_eq_true rfl) hl.1 (Nat.le_of_ble_eq_true rfl) dX2_read_4 (fun H locs G => ?_)
  refine lv_iload_n hx hb dX2_read_7 rfl (lv_at hl 1 rfl) ?_
  refine xx_callM (mm := m) (As := [.double (xoD C d m), .int t]) (rest := [.ref (jA j (xr m 0))]) S G (by omega) hN (hC.k _) (xt_X2_afterWide l D dA C (mkL C d m) j m (xoD C d m) t hC (by omega) (by rw [mkL_dI]; exact ht)) (xx_cw hts q861 q863 (se_afterWide (hC.k _)) q862 q58 q878 rfl hu_Module_afterWide ⟨Nat.le_of_ble_eq_true rfl, Nat.le_of_ble_eq_true rfl⟩) rfl hl.1 rfl (Nat.le_of_ble_eq_true rfl) dX2_read_8 ⟨Nat.zero_le _, Nat.zero_le _⟩ (fun H locs G => ?_)
  refine W.eq (g2 := F0 mid 11 ls [.double (clD (xoD C d m)), .ref (jA j (xr m 0))]) rfl ?_
  refine xx_put11 S G (mm := m) (by omega) hN (hC.k _) 6 (by decide) q225 rfl rfl rfl rfl (xs_wide (by omega)) dX2_read_11 (fun H locs G => ?_)
  have G := xG_d (xL_e rfl (xo_R1 hR) rfl) G
  have hR1 := mR1_ok hC hV hR hI
  refine lv_aload_n hx hb dX2_read_14 rfl (lv_at hl 0 rfl) ?_
  refine lv_aload_n hx hb dX2_read_15 rfl (lv_at hl 0 rfl) ?_
  refine lv_aload_n hx hb dX2_read_16 rfl (lv_at hl 0 rfl) ?_
  refine lv_iload_n hx hb dX2_read_17 rfl (lv_at hl 1 rfl) ?_
  refine xo_narrowOut (rest := [.ref (jA j (xr m 0)), .ref (jA j (xr m 0))]) S G hC (by omega) hV hR1 hI (by rw [mR1_dI]; exact ht) (jOK_R1 m hJ) (Nat.le_of_ble_eq_true rfl) hl.1 (Nat.le_of_ble_eq_true rfl) dX2_read_18 (fun H locs G => ?_)
  refine lv_iload_n hx hb dX2_read_21 rfl (lv_at hl 1 rfl) ?_
  refine xx_callM (mm := m) (As := [.float (xoF C (mR1 C m d) m), .int t]) (rest := [.ref (jA j (xr m 0))]) S G (by omega) hN (hC.k _) (xt_X2_afterNarrow l D dA C (mkLF C (mR1 C m d) m) j m (xoF C (mR1 C m d) m) t hC (by omega) (by rw [mkLF_dI, mR1_dI]; exact ht)) (xx_cw hts q961 q963 (se_afterNarrow (hC.k _)) q962 q58 q978 rfl hu_Module_afterNarrow ⟨Nat.le_of_ble_eq_true rfl, Nat.le_of_ble_eq_true rfl⟩) rfl hl.1 rfl (Nat.le_of_ble_eq_true rfl) dX2_read_22 ⟨Nat.zero_le _, Nat.zero_le _⟩ (fun H locs G => ?_)
  refine W.eq (g2 := F0 mid 25 ls [.float (clF (xoF C (mR1 C m d) m)), .ref (jA j (xr m 0))]) rfl ?_
  refine xx_put11 S G (mm := m) (by omega) hN (hC.k _) 7 (by decide) q227 rfl rfl rfl rfl (xs_narrow (by omega)) dX2_read_25 (fun H locs G => ?_)
  have G := xG_d (xL_e (d' := mRd C m d) rfl (xo_R2 hR1) rfl) G
  exact xx_vret S hr hlk G rfl dX2_read_28
