set_option maxRecDepth 100000
set_option maxHeartbeats 4000000
theorem dJ0_isNaN_0 : decode cJ0_isNaN 0 = .ok (.dload_n 0, 1) := by decide +kernel
theorem dJ0_isNaN_1 : decode cJ0_isNaN 1 = .ok (.dload_n 0, 1) := by decide +kernel
theorem dJ0_isNaN_2 : decode cJ0_isNaN 2 = .ok (.dcmp .l, 1) := by decide +kernel
theorem dJ0_isNaN_3 : decode cJ0_isNaN 3 = .ok (.ifCond .eq 7, 3) := by decide +kernel
theorem dJ0_isNaN_10 : decode cJ0_isNaN 10 = .ok (.iconst 0, 1) := by decide +kernel
theorem dJ0_isNaN_11 : decode cJ0_isNaN 11 = .ok (.ireturn, 1) := by decide +kernel
theorem dJ0_doubleToLongBits_0 : decode cJ0_doubleToLongBits 0 = .ok (.dload_n 0, 1) := by decide +kernel
theorem dJ0_doubleToLongBits_1 : decode cJ0_doubleToLongBits 1 = .ok (.invokestatic 122, 3) := by decide +kernel
theorem dJ0_doubleToLongBits_4 : decode cJ0_doubleToLongBits 4 = .ok (.ifCond .ne 8, 3) := by decide +kernel
theorem dJ0_doubleToLongBits_7 : decode cJ0_doubleToLongBits 7 = .ok (.dload_n 0, 1) := by decide +kernel
theorem dJ0_doubleToLongBits_8 : decode cJ0_doubleToLongBits 8 = .ok (.invokestatic 134, 3) := by decide +kernel
theorem dJ0_doubleToLongBits_11 : decode cJ0_doubleToLongBits 11 = .ok (.lreturn, 1) := by decide +kernel
theorem dJ6_isNaN_0 : decode cJ6_isNaN 0 = .ok (.fload_n 0, 1) := by decide +kernel
theorem dJ6_isNaN_1 : decode cJ6_isNaN 1 = .ok (.fload_n 0, 1) := by decide +kernel
theorem dJ6_isNaN_2 : decode cJ6_isNaN 2 = .ok (.fcmp .l, 1) := by decide +kernel
theorem dJ6_isNaN_3 : decode cJ6_isNaN 3 = .ok (.ifCond .eq 7, 3) := by decide +kernel
theorem dJ6_isNaN_10 : decode cJ6_isNaN 10 = .ok (.iconst 0, 1) := by decide +kernel
theorem dJ6_isNaN_11 : decode cJ6_isNaN 11 = .ok (.ireturn, 1) := by decide +kernel
theorem dJ6_floatToIntBits_0 : decode cJ6_floatToIntBits 0 = .ok (.fload_n 0, 1) := by decide +kernel
theorem dJ6_floatToIntBits_1 : decode cJ6_floatToIntBits 1 = .ok (.invokestatic 59, 3) := by decide +kernel
theorem dJ6_floatToIntBits_4 : decode cJ6_floatToIntBits 4 = .ok (.ifCond .ne 8, 3) := by decide +kernel
theorem dJ6_floatToIntBits_7 : decode cJ6_floatToIntBits 7 = .ok (.fload_n 0, 1) := by decide +kernel
theorem dJ6_floatToIntBits_8 : decode cJ6_floatToIntBits 8 = .ok (.invokestatic 74, 3) := by decide +kernel
theorem dJ6_floatToIntBits_11 : decode cJ6_floatToIntBits 11 = .ok (.ireturn, 1) := by decide +kernel
theorem dJ1_max_0 : decode cJ1_max 0 = .ok (.iload_n 0, 1) := by decide +kernel
theorem dJ1_max_1 : decode cJ1_max 1 = .ok (.iload_n 1, 1) := by decide +kernel
theorem dJ1_max_2 : decode cJ1_max 2 = .ok (.if_icmp .lt 7, 3) := by decide +kernel
theorem dJ1_max_5 : decode cJ1_max 5 = .ok (.iload_n 0, 1) := by decide +kernel
theorem dJ1_max_6 : decode cJ1_max 6 = .ok (.goto 4, 3) := by decide +kernel
theorem dJ1_max_9 : decode cJ1_max 9 = .ok (.iload_n 1, 1) := by decide +kernel
theorem dJ1_max_10 : decode cJ1_max 10 = .ok (.ireturn, 1) := by decide +kernel
theorem dJ5_compare_0 : decode cJ5_compare 0 = .ok (.iload_n 0, 1) := by decide +kernel
theorem dJ5_compare_1 : decode cJ5_compare 1 = .ok (.iload_n 1, 1) := by decide +kernel
theorem dJ5_compare_2 : decode cJ5_compare 2 = .ok (.if_icmp .ge 7, 3) := by decide +kernel
theorem dJ5_compare_5 : decode cJ5_compare 5 = .ok (.iconst (-1), 1) := by decide +kernel
theorem dJ5_compare_6 : decode cJ5_compare 6 = .ok (.goto 13, 3) := by decide +kernel
theorem dJ5_compare_9 : decode cJ5_compare 9 = .ok (.iload_n 0, 1) := by decide +kernel
theorem dJ5_compare_10 : decode cJ5_compare 10 = .ok (.iload_n 1, 1) := by decide +kernel
theorem dJ5_compare_11 : decode cJ5_compare 11 = .ok (.if_icmp .ne 7, 3) := by decide +kernel
theorem dJ5_compare_14 : decode cJ5_compare 14 = .ok (.iconst 0, 1) := by decide +kernel
theorem dJ5_compare_15 : decode cJ5_compare 15 = .ok (.goto 4, 3) := by decide +kernel
theorem dJ5_compare_18 : decode cJ5_compare 18 = .ok (.iconst 1, 1) := by decide +kernel
theorem dJ5_compare_19 : decode cJ5_compare 19 = .ok (.ireturn, 1) := by decide +kernel
theorem hd_J0_isNaN : yJ0_isNaN.cls ≠ "java/lang/invoke/MethodHandle" ∧ yJ0_isNaN.cls ≠ "java/lang/invoke/VarHandle" ∧ (parseMethodDescriptor yJ0_isNaN.desc).map (fun d => d.parameters.length) = some 1 := by decide +kernel
theorem hd_J6_isNaN : yJ6_isNaN.cls ≠ "java/lang/invoke/MethodHandle" ∧ yJ6_isNaN.cls ≠ "java/lang/invoke/VarHandle" ∧ (parseMethodDescriptor yJ6_isNaN.desc).map (fun d => d.parameters.length) = some 1 := by decide +kernel
theorem st_J0_isNaN (l : Launch) (v : UInt64) (hv : vf_n64 v) : sC l yJ0_isNaN cJ0_isNaN 2 (some .boolean) 0 [.double v] (some (.int (bI false))) := by
  refine ss_startF (own := RJ0) (by decide +kernel) rfl (Nat.le_of_ble_eq_true rfl) ?_
  intro p0 e0 s0 mid bl0 me0 co0 ls S hr hlk hl
  have hx := S.1; have hb := S.2.1; have hml := S.2.2.1; have hown := S.2.2.2.1; have hts := S.2.2.2.2
  have hl : lv_has ls 2 [(0, .double v)] := hl
  refine lv_dload_n hx hb dJ0_isNaN_0 rfl (lv_at hl 0 rfl) ?_
  refine lv_dload_n hx hb dJ0_isNaN_1 rfl (lv_at hl 0 rfl) ?_
  refine fx_jleq (tgt := 10) hx hb dJ0_isNaN_2 dJ0_isNaN_3 (by decide) (fun c_3 => ?_) (fun c_3 => by exfalso; exact nb_tf (fx_self hv) c_3)
  refine lv_iconst (v := nI 0) hx hb dJ0_isNaN_10 (by decide) ?_
  exact ss_zret S hr hlk (by first | rfl | exact bb_nar _) (bI_f (by rfl)) dJ0_isNaN_11
theorem st_J0_doubleToLongBits (l : Launch) (v : UInt64) (hv : vf_n64 v) : sC l yJ0_doubleToLongBits cJ0_doubleToLongBits 2 (some .long) 1 [.double v] (some (.long ((v).toInt64))) := by
  refine ss_startF (own := RJ0) (by decide +kernel) rfl (Nat.le_of_ble_eq_true rfl) ?_
  intro p0 e0 s0 mid bl0 me0 co0 ls S hr hlk hl
  have hx := S.1; have hb := S.2.1; have hml := S.2.2.1; have hown := S.2.2.2.1; have hts := S.2.2.2.2
  have hl : lv_has ls 2 [(0, .double v)] := hl
  refine lv_dload_n hx hb dJ0_doubleToLongBits_0 rfl (lv_at hl 0 rfl) ?_
  refine sC_call (As := [.double v]) (rest := []) S (st_J0_isNaN l v (by assumption)) q1158 q1159 q55 q1160 hd_J0_isNaN ⟨Nat.le_of_ble_eq_true rfl, Nat.le_of_ble_eq_true rfl⟩ rfl hl.1 rfl (Nat.le_of_ble_eq_true rfl) dJ0_doubleToLongBits_1 ⟨Nat.zero_le _, Nat.zero_le _⟩ ?_
  refine W.eq (g2 := F0 mid 4 ls [.int (bI false)]) rfl ?_
  refine bb_ne (tgt := 12) hx hb dJ0_doubleToLongBits_4 (by decide) (fun c_4 => by exfalso; cases c_4) (fun c_4 => ?_)
  refine lv_dload_n hx hb dJ0_doubleToLongBits_7 rfl (lv_at hl 0 rfl) ?_
  refine vn_d2l hx hb (hml.trans hl.1.symm) hown (hts _ q1161) (hts _ q180) (hts _ q179) (hts _ q55) (Nat.le_of_ble_eq_true rfl) (Nat.le_of_ble_eq_true rfl) dJ0_doubleToLongBits_8 ?_
  exact ss_lret S hr hlk rfl dJ0_doubleToLongBits_11
theorem st_J6_isNaN (l : Launch) (v : UInt32) (hv : vf_n32 v) : sC l yJ6_isNaN cJ6_isNaN 1 (some .boolean) 0 [.float v] (some (.int (bI false))) := by
  refine ss_startF (own := RJ6) (by decide +kernel) rfl (Nat.le_of_ble_eq_true rfl) ?_
  intro p0 e0 s0 mid bl0 me0 co0 ls S hr hlk hl
  have hx := S.1; have hb := S.2.1; have hml := S.2.2.1; have hown := S.2.2.2.1; have hts := S.2.2.2.2
  have hl : lv_has ls 1 [(0, .float v)] := hl
  refine lv_fload_n hx hb dJ6_isNaN_0 rfl (lv_at hl 0 rfl) ?_
  refine lv_fload_n hx hb dJ6_isNaN_1 rfl (lv_at hl 0 rfl) ?_
  refine fy_jleq (tgt := 10) hx hb dJ6_isNaN_2 dJ6_isNaN_3 (by decide) (fun c_3 => ?_) (fun c_3 => by exfalso; exact nb_tf (fy_self hv) c_3)
  refine lv_iconst (v := nI 0) hx hb dJ6_isNaN_10 (by decide) ?_
  exact ss_zret S hr hlk (by first | rfl | exact bb_nar _) (bI_f (by rfl)) dJ6_isNaN_11
theorem st_J6_floatToIntBits (l : Launch) (v : UInt32) (hv : vf_n32 v) : sC l yJ6_floatToIntBits cJ6_floatToIntBits 1 (some .int) 1 [.float v] (some (.int ((v).toInt32))) := by
  refine ss_startF (own := RJ6) (by decide +kernel) rfl (Nat.le_of_ble_eq_true rfl) ?_
  intro p0 e0 s0 mid bl0 me0 co0 ls S hr hlk hl
  have hx := S.1; have hb := S.2.1; have hml := S.2.2.1; have hown := S.2.2.2.1; have hts := S.2.2.2.2
  have hl : lv_has ls 1 [(0, .float v)] := hl
  refine lv_fload_n hx hb dJ6_floatToIntBits_0 rfl (lv_at hl 0 rfl) ?_
  refine sC_call (As := [.float v]) (rest := []) S (st_J6_isNaN l v (by assumption)) q1170 q1171 q78 q1172 hd_J6_isNaN ⟨Nat.le_of_ble_eq_true rfl, Nat.le_of_ble_eq_true rfl⟩ rfl hl.1 rfl (Nat.le_of_ble_eq_true rfl) dJ6_floatToIntBits_1 ⟨Nat.zero_le _, Nat.zero_le _⟩ ?_
  refine W.eq (g2 := F0 mid 4 ls [.int (bI false)]) rfl ?_
  refine bb_ne (tgt := 12) hx hb dJ6_floatToIntBits_4 (by decide) (fun c_4 => by exfalso; cases c_4) (fun c_4 => ?_)
  refine lv_fload_n hx hb dJ6_floatToIntBits_7 rfl (lv_at hl 0 rfl) ?_
  refine vn_f2i hx hb (hml.trans hl.1.symm) hown (hts _ q1173) (hts _ q1175) (hts _ q1174) (hts _ q78) (Nat.le_of_ble_eq_true rfl) (Nat.le_of_ble_eq_true rfl) dJ6_floatToIntBits_8 ?_
  exact ss_iret S hr hlk rfl dJ6_floatToIntBits_11
theorem st_J1_max (l : Launch) (a : Int32) (b : Int32) : sC l yJ1_max cJ1_max 2 (some .int) 0 [.int a, .int b] (some (.int (mxI a b))) := by
  refine ss_startF (own := RJ1) (by decide +kernel) rfl (Nat.le_of_ble_eq_true rfl) ?_
  intro p0 e0 s0 mid bl0 me0 co0 ls S hr hlk hl
  have hx := S.1; have hb := S.2.1; have hml := S.2.2.1; have hown := S.2.2.2.1; have hts := S.2.2.2.2
  have hl : lv_has ls 2 [(0, .int a), (1, .int b)] := hl
  refine lv_iload_n hx hb dJ1_max_0 rfl (lv_at hl 0 rfl) ?_
  refine lv_iload_n hx hb dJ1_max_1 rfl (lv_at hl 1 rfl) ?_
  refine lv_icmp_lt (tgt := 9) hx hb dJ1_max_2 (by decide) (fun c_2 => ?_) (fun c_2 => ?_)
  · refine lv_iload_n hx hb dJ1_max_9 rfl (lv_at hl 1 rfl) ?_
    exact ss_iret S hr hlk (by simp [mxI, c_2]) dJ1_max_10
  · refine lv_iload_n hx hb dJ1_max_5 rfl (lv_at hl 0 rfl) ?_
    refine lv_goto (tgt := 10) hx hb dJ1_max_6 (by decide) ?_
    exact ss_iret S hr hlk (by simp [mxI, c_2]) dJ1_max_10
theorem st_J5_compare (l : Launch) (a : Int32) (b : Int32) : sC l yJ5_compare cJ5_compare 2 (some .int) 0 [.int a, .int b] (some (.int (cmI a b))) := by
  refine ss_startF (own := RJ5) (by decide +kernel) rfl (Nat.le_of_ble_eq_true rfl) ?_
  intro p0 e0 s0 mid bl0 me0 co0 ls S hr hlk hl
  have hx := S.1; have hb := S.2.1; have hml := S.2.2.1; have hown := S.2.2.2.1; have hts := S.2.2.2.2
  have hl : lv_has ls 2 [(0, .int a), (1, .int b)] := hl
  refine lv_iload_n hx hb dJ5_compare_0 rfl (lv_at hl 0 rfl) ?_
  refine lv_iload_n hx hb dJ5_compare_1 rfl (lv_at hl 1 rfl) ?_
  refine lv_icmp_ge (tgt := 9) hx hb dJ5_compare_2 (by decide) (fun c_2 => ?_) (fun c_2 => ?_)
  · refine lv_iload_n hx hb dJ5_compare_9 rfl (lv_at hl 0 rfl) ?_
    refine lv_iload_n hx hb dJ5_compare_10 rfl (lv_at hl 1 rfl) ?_
    refine lv_icmp_ne (tgt := 18) hx hb dJ5_compare_11 (by decide) (fun c_11 => ?_) (fun c_11 => ?_)
    · refine lv_iconst (v := nI 1) hx hb dJ5_compare_18 (by decide) ?_
      exact ss_iret S hr hlk (by unfold cmI; rw [if_pos c_2, if_neg c_11]) dJ5_compare_19
    · refine lv_iconst (v := nI 0) hx hb dJ5_compare_14 (by decide) ?_
      refine lv_goto (tgt := 19) hx hb dJ5_compare_15 (by decide) ?_
      exact ss_iret S hr hlk (by unfold cmI; rw [if_pos c_2, if_pos c_11]) dJ5_compare_19
  · refine lv_iconst (v := (-1)) hx hb dJ5_compare_5 (by decide) ?_
    refine lv_goto (tgt := 19) hx hb dJ5_compare_6 (by decide) ?_
    exact ss_iret S hr hlk (by exact (if_neg c_2).symm) dJ5_compare_19
