set_option maxRecDepth 100000
set_option maxHeartbeats 4000000
theorem dX2_compare_0 : decode cX2_compare 0 = .ok (.aload_n 0, 1) := by decide +kernel
theorem dX2_compare_1 : decode cX2_compare 1 = .ok (.aload_n 0, 1) := by decide +kernel
theorem dX2_compare_2 : decode cX2_compare 2 = .ok (.getfield 73, 3) := by decide +kernel
theorem dX2_compare_5 : decode cX2_compare 5 = .ok (.aload_n 0, 1) := by decide +kernel
theorem dX2_compare_6 : decode cX2_compare 6 = .ok (.getfield 34, 3) := by decide +kernel
theorem dX2_compare_9 : decode cX2_compare 9 = .ok (.aload_n 0, 1) := by decide +kernel
theorem dX2_compare_10 : decode cX2_compare 10 = .ok (.getfield 37, 3) := by decide +kernel
theorem dX2_compare_13 : decode cX2_compare 13 = .ok (.f2d, 1) := by decide +kernel
theorem dX2_compare_14 : decode cX2_compare 14 = .ok (.dsub, 1) := by decide +kernel
theorem dX2_compare_15 : decode cX2_compare 15 = .ok (.invokestatic 76, 3) := by decide +kernel
theorem dX2_compare_18 : decode cX2_compare 18 = .ok (.invokestatic 82, 3) := by decide +kernel
theorem dX2_compare_21 : decode cX2_compare 21 = .ok (.putfield 73, 3) := by decide +kernel
theorem dX2_compare_24 : decode cX2_compare 24 = .ok (.return_, 1) := by decide +kernel
theorem ovA_run2 {a : UInt64} (ha : vf_n64 a) (e : Env) (S : State) : ∃ acts, (ovA.sem #[.double a]).run e S = .ok (some (.double (abD a))) S acts := by rw [← abD_and]; exact ovA_run ha e S
theorem ovM_run2 {a b : UInt64} (ha : vf_n64 a) (hb : vf_n64 b) (e : Env) (S : State) : ∃ acts, (ovM.sem #[.double a, .double b]).run e S = .ok (some (.double (mxD a b))) S acts := ovM_run (dnan_f ha) (dnan_f hb) e S
theorem ovA_d : "java/lang/Math" ≠ "java/lang/invoke/MethodHandle" ∧ "java/lang/Math" ≠ "java/lang/invoke/VarHandle" := by decide
theorem ovA_c : overriddenIn.contains "java/lang/Math" = true := by decide
theorem ovA_p : (parseMethodDescriptor "(D)D").map (fun d => d.parameters.length) = some 1 := by decide +kernel
theorem ovM_d : "java/lang/Math" ≠ "java/lang/invoke/MethodHandle" ∧ "java/lang/Math" ≠ "java/lang/invoke/VarHandle" := by decide
theorem ovM_c : overriddenIn.contains "java/lang/Math" = true := by decide
theorem ovM_p : (parseMethodDescriptor "(DD)D").map (fun d => d.parameters.length) = some 2 := by decide +kernel
/-- how far the twins are apart: not below zero -/
def apOK (d : md_T) : Prop := ∀ m, bD 1087 (dAD d 25 m) ∧ (dAD d 25 m).toNat < 2 ^ 63
theorem dfV_bx {d : md_T} {m : Nat} (hR : rOK d) : bD 1079 (dfV d m) := bD_sub (K := 1077) (bD_up (hR.rd m)) (bD_up (bD_f2d (hR.rf m)))
theorem xt_X2_compare (l : Launch) (D : va_G) (dA : Nat → ClassId) (C : tp_C) (d : md_T) (j : xj_T) (m : Nat) (hC : mOK C) (hm : m < cN C) (hR : rOK d) (hap : apOK d) : xC l D dA yX2_compare cX2_compare 1 none 2 [.ref (jA j (xr m 0))] C d j none C (dfS m d) j := by
  refine xx_start (own := RX2) (by decide) rfl (Nat.le_of_ble_eq_true rfl) ?_
  intro p0 e0 s0 mid bl0 me0 co0 ls S hr hlk G hl
  have hx := S.1; have hb := S.2.1; have hml := S.2.2.1; have hown := S.2.2.2.1; have hts := S.2.2.2.2; have hN := hC.n
  have hl : lv_has ls 1 [(0, .ref (jA j (xr m 0)))] := hl
  refine lv_aload_n hx hb dX2_compare_0 rfl (lv_at hl 0 rfl) ?_
  refine lv_aload_n hx hb dX2_compare_1 rfl (lv_at hl 0 rfl) ?_
  refine xx_get11 S G (mm := m) (by omega) hN (hC.k _) 9 (by decide) q231 rfl (v := .double (dAD d 25 m)) rfl dX2_compare_2 ?_
  refine lv_aload_n hx hb dX2_compare_5 rfl (lv_at hl 0 rfl) ?_
  refine xx_get11 S G (mm := m) (by omega) hN (hC.k _) 6 (by decide) q225 rfl (v := .double (dAD d 19 m)) rfl dX2_compare_6 ?_
  refine lv_aload_n hx hb dX2_compare_9 rfl (lv_at hl 0 rfl) ?_
  refine xx_get11 S G (mm := m) (by omega) hN (hC.k _) 7 (by decide) q227 rfl (v := .float (dAF d 20 m)) rfl dX2_compare_10 ?_
  refine lv_f2d hx hb dX2_compare_13 (nD_f2d (bF_n (hR.rf m))) ?_
  refine lv_dsub hx hb dX2_compare_14 (bD_n (dfV_bx hR)) ?_
  refine va_ov (As := [.double (FP.dsub (dAD d 19 m) (FP.f2d (dAF d 20 m)))]) (rest := [.double (dAD d 25 m), .ref (jA j (xr m 0))]) (row := ovA) (r := .double (abD (FP.dsub (dAD d 19 m) (FP.f2d (dAF d 20 m))))) hx hb (hml.trans hl.1.symm) hown (hts _ q999) (hts _ q185) (hts _ q56) (hts _ q186) ovA_d ovA_c (ovA_row _) ovA_p rfl rfl (fun S => ovA_run2 (bD_n (dfV_bx hR)) _ S) (Nat.le_of_ble_eq_true rfl) (Nat.le_of_ble_eq_true rfl) (Nat.zero_le _) (Nat.zero_le _) rfl dX2_compare_15 ?_
  refine va_ov (As := [.double (dAD d 25 m), .double (abD (FP.dsub (dAD d 19 m) (FP.f2d (dAF d 20 m))))]) (rest := [.ref (jA j (xr m 0))]) (row := ovM) (r := .double (mxD (dAD d 25 m) (abD (FP.dsub (dAD d 19 m) (FP.f2d (dAF d 20 m)))))) hx hb (hml.trans hl.1.symm) hown (hts _ q1000) (hts _ q1001) (hts _ q56) (hts _ q1002) ovM_d ovM_c (ovM_row _) ovM_p rfl rfl (fun S => ovM_run2 (bD_n (hap m).1) (abD_n (bD_n (dfV_bx hR))) _ S) (Nat.le_of_ble_eq_true rfl) (Nat.le_of_ble_eq_true rfl) (Nat.zero_le _) (Nat.zero_le _) rfl dX2_compare_18 ?_
  refine xx_put11 S G (mm := m) (by omega) hN (hC.k _) 9 (by decide) q231 rfl rfl rfl rfl (xs_apart (by omega)) dX2_compare_21 (fun H locs G => ?_)
  exact xx_vret S hr hlk G (xL_e rfl (by show uAD d 25 m (mxD (dAD d 25 m) (abD (dfV d m))) = _; rw [mxD_df (bD_f (hap m).1) (hap m).2 (bD_f (dfV_bx hR))]; rfl) rfl) dX2_compare_24
