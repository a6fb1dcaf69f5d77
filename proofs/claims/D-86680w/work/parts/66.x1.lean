set_option maxRecDepth 100000
set_option maxHeartbeats 4000000
theorem dX2_light_0 : decode cX2_light 0 = .ok (.aload_n 0, 1) := by decide +kernel
theorem dX2_light_1 : decode cX2_light 1 = .ok (.aload_n 0, 1) := by decide +kernel
theorem dX2_light_2 : decode cX2_light 2 = .ok (.getfield 23, 3) := by decide +kernel
theorem dX2_light_5 : decode cX2_light 5 = .ok (.iconst (-1), 1) := by decide +kernel
theorem dX2_light_6 : decode cX2_light 6 = .ok (.if_icmp .ne 7, 3) := by decide +kernel
theorem dX2_light_9 : decode cX2_light 9 = .ok (.iload_n 1, 1) := by decide +kernel
theorem dX2_light_10 : decode cX2_light 10 = .ok (.goto 7, 3) := by decide +kernel
theorem dX2_light_13 : decode cX2_light 13 = .ok (.aload_n 0, 1) := by decide +kernel
theorem dX2_light_14 : decode cX2_light 14 = .ok (.getfield 23, 3) := by decide +kernel
theorem dX2_light_17 : decode cX2_light 17 = .ok (.putfield 23, 3) := by decide +kernel
theorem dX2_light_20 : decode cX2_light 20 = .ok (.return_, 1) := by decide +kernel
theorem dX2_afterWide_0 : decode cX2_afterWide 0 = .ok (.dload_n 1, 1) := by decide +kernel
theorem dX2_afterWide_1 : decode cX2_afterWide 1 = .ok (.ldc2_w 49, 3) := by decide +kernel
theorem dX2_afterWide_4 : decode cX2_afterWide 4 = .ok (.dcmp .l, 1) := by decide +kernel
theorem dX2_afterWide_5 : decode cX2_afterWide 5 = .ok (.ifCond .gt 11, 3) := by decide +kernel
theorem dX2_afterWide_8 : decode cX2_afterWide 8 = .ok (.dload_n 1, 1) := by decide +kernel
theorem dX2_afterWide_9 : decode cX2_afterWide 9 = .ok (.ldc2_w 51, 3) := by decide +kernel
theorem dX2_afterWide_12 : decode cX2_afterWide 12 = .ok (.dcmp .g, 1) := by decide +kernel
theorem dX2_afterWide_13 : decode cX2_afterWide 13 = .ok (.ifCond .ge 24, 3) := by decide +kernel
theorem dX2_afterWide_16 : decode cX2_afterWide 16 = .ok (.aload_n 0, 1) := by decide +kernel
theorem dX2_afterWide_17 : decode cX2_afterWide 17 = .ok (.iload_n 3, 1) := by decide +kernel
theorem dX2_afterWide_18 : decode cX2_afterWide 18 = .ok (.invokevirtual 53, 3) := by decide +kernel
theorem dX2_afterWide_21 : decode cX2_afterWide 21 = .ok (.dload_n 1, 1) := by decide +kernel
theorem dX2_afterWide_22 : decode cX2_afterWide 22 = .ok (.dconst 0, 1) := by decide +kernel
theorem dX2_afterWide_23 : decode cX2_afterWide 23 = .ok (.dcmp .l, 1) := by decide +kernel
theorem dX2_afterWide_24 : decode cX2_afterWide 24 = .ok (.ifCond .le 9, 3) := by decide +kernel
theorem dX2_afterWide_27 : decode cX2_afterWide 27 = .ok (.ldc2_w 49, 3) := by decide +kernel
theorem dX2_afterWide_30 : decode cX2_afterWide 30 = .ok (.goto 6, 3) := by decide +kernel
theorem dX2_afterWide_33 : decode cX2_afterWide 33 = .ok (.ldc2_w 51, 3) := by decide +kernel
theorem dX2_afterWide_36 : decode cX2_afterWide 36 = .ok (.dreturn, 1) := by decide +kernel
theorem dX2_afterWide_37 : decode cX2_afterWide 37 = .ok (.dload_n 1, 1) := by decide +kernel
theorem dX2_afterWide_38 : decode cX2_afterWide 38 = .ok (.dconst 0, 1) := by decide +kernel
theorem dX2_afterWide_39 : decode cX2_afterWide 39 = .ok (.dcmp .l, 1) := by decide +kernel
theorem dX2_afterWide_40 : decode cX2_afterWide 40 = .ok (.ifCond .ne 7, 3) := by decide +kernel
theorem dX2_afterWide_43 : decode cX2_afterWide 43 = .ok (.dconst 0, 1) := by decide +kernel
theorem dX2_afterWide_44 : decode cX2_afterWide 44 = .ok (.goto 4, 3) := by decide +kernel
theorem dX2_afterWide_47 : decode cX2_afterWide 47 = .ok (.dload_n 1, 1) := by decide +kernel
theorem dX2_afterWide_48 : decode cX2_afterWide 48 = .ok (.dreturn, 1) := by decide +kernel
theorem dX2_afterNarrow_0 : decode cX2_afterNarrow 0 = .ok (.fload_n 1, 1) := by decide +kernel
theorem dX2_afterNarrow_1 : decode cX2_afterNarrow 1 = .ok (.ldc 57, 2) := by decide +kernel
theorem dX2_afterNarrow_3 : decode cX2_afterNarrow 3 = .ok (.fcmp .l, 1) := by decide +kernel
theorem dX2_afterNarrow_4 : decode cX2_afterNarrow 4 = .ok (.ifCond .gt 10, 3) := by decide +kernel
theorem dX2_afterNarrow_7 : decode cX2_afterNarrow 7 = .ok (.fload_n 1, 1) := by decide +kernel
theorem dX2_afterNarrow_8 : decode cX2_afterNarrow 8 = .ok (.ldc 58, 2) := by decide +kernel
theorem dX2_afterNarrow_10 : decode cX2_afterNarrow 10 = .ok (.fcmp .g, 1) := by decide +kernel
theorem dX2_afterNarrow_11 : decode cX2_afterNarrow 11 = .ok (.ifCond .ge 22, 3) := by decide +kernel
theorem dX2_afterNarrow_14 : decode cX2_afterNarrow 14 = .ok (.aload_n 0, 1) := by decide +kernel
theorem dX2_afterNarrow_15 : decode cX2_afterNarrow 15 = .ok (.iload_n 2, 1) := by decide +kernel
theorem dX2_afterNarrow_16 : decode cX2_afterNarrow 16 = .ok (.invokevirtual 53, 3) := by decide +kernel
theorem dX2_afterNarrow_19 : decode cX2_afterNarrow 19 = .ok (.fload_n 1, 1) := by decide +kernel
theorem dX2_afterNarrow_20 : decode cX2_afterNarrow 20 = .ok (.fconst 0, 1) := by decide +kernel
theorem dX2_afterNarrow_21 : decode cX2_afterNarrow 21 = .ok (.fcmp .l, 1) := by decide +kernel
theorem dX2_afterNarrow_22 : decode cX2_afterNarrow 22 = .ok (.ifCond .le 8, 3) := by decide +kernel
theorem dX2_afterNarrow_25 : decode cX2_afterNarrow 25 = .ok (.ldc 57, 2) := by decide +kernel
theorem dX2_afterNarrow_27 : decode cX2_afterNarrow 27 = .ok (.goto 5, 3) := by decide +kernel
theorem dX2_afterNarrow_30 : decode cX2_afterNarrow 30 = .ok (.ldc 58, 2) := by decide +kernel
theorem dX2_afterNarrow_32 : decode cX2_afterNarrow 32 = .ok (.freturn, 1) := by decide +kernel
theorem dX2_afterNarrow_33 : decode cX2_afterNarrow 33 = .ok (.fload_n 1, 1) := by decide +kernel
theorem dX2_afterNarrow_34 : decode cX2_afterNarrow 34 = .ok (.fconst 0, 1) := by decide +kernel
theorem dX2_afterNarrow_35 : decode cX2_afterNarrow 35 = .ok (.fcmp .l, 1) := by decide +kernel
theorem dX2_afterNarrow_36 : decode cX2_afterNarrow 36 = .ok (.ifCond .ne 7, 3) := by decide +kernel
theorem dX2_afterNarrow_39 : decode cX2_afterNarrow 39 = .ok (.fconst 0, 1) := by decide +kernel
theorem dX2_afterNarrow_40 : decode cX2_afterNarrow 40 = .ok (.goto 4, 3) := by decide +kernel
theorem dX2_afterNarrow_43 : decode cX2_afterNarrow 43 = .ok (.fload_n 1, 1) := by decide +kernel
theorem dX2_afterNarrow_44 : decode cX2_afterNarrow 44 = .ok (.freturn, 1) := by decide +kernel
theorem dX2_wideIn_0 : decode cX2_wideIn 0 = .ok (.aload_n 0, 1) := by decide +kernel
theorem dX2_wideIn_1 : decode cX2_wideIn 1 = .ok (.getfield 19, 3) := by decide +kernel
theorem dX2_wideIn_4 : decode cX2_wideIn 4 = .ok (.iload_n 1, 1) := by decide +kernel
theorem dX2_wideIn_5 : decode cX2_wideIn 5 = .ok (.baload, 1) := by decide +kernel
theorem dX2_wideIn_6 : decode cX2_wideIn 6 = .ok (.ifCond .eq 16, 3) := by decide +kernel
theorem dX2_wideIn_9 : decode cX2_wideIn 9 = .ok (.aload_n 0, 1) := by decide +kernel
theorem dX2_wideIn_10 : decode cX2_wideIn 10 = .ok (.getfield 11, 3) := by decide +kernel
theorem dX2_wideIn_13 : decode cX2_wideIn 13 = .ok (.iload_n 1, 1) := by decide +kernel
theorem dX2_wideIn_14 : decode cX2_wideIn 14 = .ok (.aaload, 1) := by decide +kernel
theorem dX2_wideIn_15 : decode cX2_wideIn 15 = .ok (.getfield 34, 3) := by decide +kernel
theorem dX2_wideIn_18 : decode cX2_wideIn 18 = .ok (.dneg, 1) := by decide +kernel
theorem dX2_wideIn_19 : decode cX2_wideIn 19 = .ok (.goto 12, 3) := by decide +kernel
theorem dX2_wideIn_22 : decode cX2_wideIn 22 = .ok (.aload_n 0, 1) := by decide +kernel
theorem dX2_wideIn_23 : decode cX2_wideIn 23 = .ok (.getfield 11, 3) := by decide +kernel
theorem dX2_wideIn_26 : decode cX2_wideIn 26 = .ok (.iload_n 1, 1) := by decide +kernel
theorem dX2_wideIn_27 : decode cX2_wideIn 27 = .ok (.aaload, 1) := by decide +kernel
theorem dX2_wideIn_28 : decode cX2_wideIn 28 = .ok (.getfield 34, 3) := by decide +kernel
theorem dX2_wideIn_31 : decode cX2_wideIn 31 = .ok (.dreturn, 1) := by decide +kernel
theorem dX2_narrowIn_0 : decode cX2_narrowIn 0 = .ok (.aload_n 0, 1) := by decide +kernel
theorem dX2_narrowIn_1 : decode cX2_narrowIn 1 = .ok (.getfield 19, 3) := by decide +kernel
theorem dX2_narrowIn_4 : decode cX2_narrowIn 4 = .ok (.iload_n 1, 1) := by decide +kernel
theorem dX2_narrowIn_5 : decode cX2_narrowIn 5 = .ok (.baload, 1) := by decide +kernel
theorem dX2_narrowIn_6 : decode cX2_narrowIn 6 = .ok (.ifCond .eq 16, 3) := by decide +kernel
theorem dX2_narrowIn_9 : decode cX2_narrowIn 9 = .ok (.aload_n 0, 1) := by decide +kernel
theorem dX2_narrowIn_10 : decode cX2_narrowIn 10 = .ok (.getfield 11, 3) := by decide +kernel
theorem dX2_narrowIn_13 : decode cX2_narrowIn 13 = .ok (.iload_n 1, 1) := by decide +kernel
theorem dX2_narrowIn_14 : decode cX2_narrowIn 14 = .ok (.aaload, 1) := by decide +kernel
theorem dX2_narrowIn_15 : decode cX2_narrowIn 15 = .ok (.getfield 37, 3) := by decide +kernel
theorem dX2_narrowIn_18 : decode cX2_narrowIn 18 = .ok (.fneg, 1) := by decide +kernel
theorem dX2_narrowIn_19 : decode cX2_narrowIn 19 = .ok (.goto 12, 3) := by decide +kernel
theorem dX2_narrowIn_22 : decode cX2_narrowIn 22 = .ok (.aload_n 0, 1) := by decide +kernel
theorem dX2_narrowIn_23 : decode cX2_narrowIn 23 = .ok (.getfield 11, 3) := by decide +kernel
theorem dX2_narrowIn_26 : decode cX2_narrowIn 26 = .ok (.iload_n 1, 1) := by decide +kernel
theorem dX2_narrowIn_27 : decode cX2_narrowIn 27 = .ok (.aaload, 1) := by decide +kernel
theorem dX2_narrowIn_28 : decode cX2_narrowIn 28 = .ok (.getfield 37, 3) := by decide +kernel
theorem dX2_narrowIn_31 : decode cX2_narrowIn 31 = .ok (.freturn, 1) := by decide +kernel
theorem dX2_remembers_0 : decode cX2_remembers 0 = .ok (.iconst 0, 1) := by decide +kernel
theorem dX2_remembers_1 : decode cX2_remembers 1 = .ok (.ireturn, 1) := by decide +kernel
theorem dX2_needs_0 : decode cX2_needs 0 = .ok (.iconst 1, 1) := by decide +kernel
theorem dX2_needs_1 : decode cX2_needs 1 = .ok (.ireturn, 1) := by decide +kernel
theorem dX2_take_0 : decode cX2_take 0 = .ok (.return_, 1) := by decide +kernel
theorem dX2_become_0 : decode cX2_become 0 = .ok (.return_, 1) := by decide +kernel
theorem dX2_wideSum_0 : decode cX2_wideSum 0 = .ok (.dconst 0, 1) := by decide +kernel
theorem dX2_wideSum_1 : decode cX2_wideSum 1 = .ok (.dstore_n 1, 1) := by decide +kernel
theorem dX2_wideSum_2 : decode cX2_wideSum 2 = .ok (.iconst 0, 1) := by decide +kernel
theorem dX2_wideSum_3 : decode cX2_wideSum 3 = .ok (.istore_n 3, 1) := by decide +kernel
theorem dX2_wideSum_4 : decode cX2_wideSum 4 = .ok (.iconst 0, 1) := by decide +kernel
theorem dX2_wideSum_5 : decode cX2_wideSum 5 = .ok (.istore 4, 2) := by decide +kernel
theorem dX2_wideSum_7 : decode cX2_wideSum 7 = .ok (.iload 4, 2) := by decide +kernel
theorem dX2_wideSum_9 : decode cX2_wideSum 9 = .ok (.bipush 6, 2) := by decide +kernel
theorem dX2_wideSum_11 : decode cX2_wideSum 11 = .ok (.if_icmp .ge 43, 3) := by decide +kernel
theorem dX2_wideSum_14 : decode cX2_wideSum 14 = .ok (.aload_n 0, 1) := by decide +kernel
theorem dX2_wideSum_15 : decode cX2_wideSum 15 = .ok (.getfield 11, 3) := by decide +kernel
theorem dX2_wideSum_18 : decode cX2_wideSum 18 = .ok (.iload 4, 2) := by decide +kernel
theorem dX2_wideSum_20 : decode cX2_wideSum 20 = .ok (.aaload, 1) := by decide +kernel
theorem dX2_wideSum_21 : decode cX2_wideSum 21 = .ok (.ifnull 27, 3) := by decide +kernel
theorem dX2_wideSum_24 : decode cX2_wideSum 24 = .ok (.iload_n 3, 1) := by decide +kernel
theorem dX2_wideSum_25 : decode cX2_wideSum 25 = .ok (.ifCond .eq 14, 3) := by decide +kernel
theorem dX2_wideSum_28 : decode cX2_wideSum 28 = .ok (.dload_n 1, 1) := by decide +kernel
theorem dX2_wideSum_29 : decode cX2_wideSum 29 = .ok (.aload_n 0, 1) := by decide +kernel
theorem dX2_wideSum_30 : decode cX2_wideSum 30 = .ok (.iload 4, 2) := by decide +kernel
theorem dX2_wideSum_32 : decode cX2_wideSum 32 = .ok (.invokevirtual 41, 3) := by decide +kernel
theorem dX2_wideSum_35 : decode cX2_wideSum 35 = .ok (.dadd, 1) := by decide +kernel
theorem dX2_wideSum_36 : decode cX2_wideSum 36 = .ok (.goto 9, 3) := by decide +kernel
theorem dX2_wideSum_39 : decode cX2_wideSum 39 = .ok (.aload_n 0, 1) := by decide +kernel
theorem dX2_wideSum_40 : decode cX2_wideSum 40 = .ok (.iload 4, 2) := by decide +kernel
theorem dX2_wideSum_42 : decode cX2_wideSum 42 = .ok (.invokevirtual 41, 3) := by decide +kernel
theorem dX2_wideSum_45 : decode cX2_wideSum 45 = .ok (.dstore_n 1, 1) := by decide +kernel
theorem dX2_wideSum_46 : decode cX2_wideSum 46 = .ok (.iconst 1, 1) := by decide +kernel
theorem dX2_wideSum_47 : decode cX2_wideSum 47 = .ok (.istore_n 3, 1) := by decide +kernel
theorem dX2_wideSum_48 : decode cX2_wideSum 48 = .ok (.iinc 4 1, 3) := by decide +kernel
theorem dX2_wideSum_51 : decode cX2_wideSum 51 = .ok (.goto (-44), 3) := by decide +kernel
theorem dX2_wideSum_54 : decode cX2_wideSum 54 = .ok (.dload_n 1, 1) := by decide +kernel
theorem dX2_wideSum_55 : decode cX2_wideSum 55 = .ok (.dreturn, 1) := by decide +kernel
theorem dX2_narrowSum_0 : decode cX2_narrowSum 0 = .ok (.fconst 0, 1) := by decide +kernel
theorem dX2_narrowSum_1 : decode cX2_narrowSum 1 = .ok (.fstore_n 1, 1) := by decide +kernel
theorem dX2_narrowSum_2 : decode cX2_narrowSum 2 = .ok (.iconst 0, 1) := by decide +kernel
theorem dX2_narrowSum_3 : decode cX2_narrowSum 3 = .ok (.istore_n 2, 1) := by decide +kernel
theorem dX2_narrowSum_4 : decode cX2_narrowSum 4 = .ok (.iconst 0, 1) := by decide +kernel
theorem dX2_narrowSum_5 : decode cX2_narrowSum 5 = .ok (.istore_n 3, 1) := by decide +kernel
theorem dX2_narrowSum_6 : decode cX2_narrowSum 6 = .ok (.iload_n 3, 1) := by decide +kernel
theorem dX2_narrowSum_7 : decode cX2_narrowSum 7 = .ok (.bipush 6, 2) := by decide +kernel
theorem dX2_narrowSum_9 : decode cX2_narrowSum 9 = .ok (.if_icmp .ge 40, 3) := by decide +kernel
theorem dX2_narrowSum_12 : decode cX2_narrowSum 12 = .ok (.aload_n 0, 1) := by decide +kernel
theorem dX2_narrowSum_13 : decode cX2_narrowSum 13 = .ok (.getfield 11, 3) := by decide +kernel
theorem dX2_narrowSum_16 : decode cX2_narrowSum 16 = .ok (.iload_n 3, 1) := by decide +kernel
theorem dX2_narrowSum_17 : decode cX2_narrowSum 17 = .ok (.aaload, 1) := by decide +kernel
theorem dX2_narrowSum_18 : decode cX2_narrowSum 18 = .ok (.ifnull 25, 3) := by decide +kernel
theorem dX2_narrowSum_21 : decode cX2_narrowSum 21 = .ok (.iload_n 2, 1) := by decide +kernel
theorem dX2_narrowSum_22 : decode cX2_narrowSum 22 = .ok (.ifCond .eq 13, 3) := by decide +kernel
theorem dX2_narrowSum_25 : decode cX2_narrowSum 25 = .ok (.fload_n 1, 1) := by decide +kernel
theorem dX2_narrowSum_26 : decode cX2_narrowSum 26 = .ok (.aload_n 0, 1) := by decide +kernel
theorem dX2_narrowSum_27 : decode cX2_narrowSum 27 = .ok (.iload_n 3, 1) := by decide +kernel
theorem dX2_narrowSum_28 : decode cX2_narrowSum 28 = .ok (.invokevirtual 45, 3) := by decide +kernel
theorem dX2_narrowSum_31 : decode cX2_narrowSum 31 = .ok (.fadd, 1) := by decide +kernel
theorem dX2_narrowSum_32 : decode cX2_narrowSum 32 = .ok (.goto 8, 3) := by decide +kernel
theorem dX2_narrowSum_35 : decode cX2_narrowSum 35 = .ok (.aload_n 0, 1) := by decide +kernel
theorem dX2_narrowSum_36 : decode cX2_narrowSum 36 = .ok (.iload_n 3, 1) := by decide +kernel
theorem dX2_narrowSum_37 : decode cX2_narrowSum 37 = .ok (.invokevirtual 45, 3) := by decide +kernel
theorem dX2_narrowSum_40 : decode cX2_narrowSum 40 = .ok (.fstore_n 1, 1) := by decide +kernel
theorem dX2_narrowSum_41 : decode cX2_narrowSum 41 = .ok (.iconst 1, 1) := by decide +kernel
theorem dX2_narrowSum_42 : decode cX2_narrowSum 42 = .ok (.istore_n 2, 1) := by decide +kernel
theorem dX2_narrowSum_43 : decode cX2_narrowSum 43 = .ok (.iinc 3 1, 3) := by decide +kernel
theorem dX2_narrowSum_46 : decode cX2_narrowSum 46 = .ok (.goto (-40), 3) := by decide +kernel
theorem dX2_narrowSum_49 : decode cX2_narrowSum 49 = .ok (.fload_n 1, 1) := by decide +kernel
theorem dX2_narrowSum_50 : decode cX2_narrowSum 50 = .ok (.freturn, 1) := by decide +kernel
theorem hu_Module_light : "TwinPanel$Module" ≠ "java/lang/invoke/MethodHandle" ∧ "TwinPanel$Module" ≠ "java/lang/invoke/VarHandle" ∧ (parseMethodDescriptor "(I)V").map (fun d => d.parameters.length) = some 1 := by decide +kernel
theorem hu_Module_narrowIn : "TwinPanel$Module" ≠ "java/lang/invoke/MethodHandle" ∧ "TwinPanel$Module" ≠ "java/lang/invoke/VarHandle" ∧ (parseMethodDescriptor "(I)F").map (fun d => d.parameters.length) = some 1 := by decide +kernel
theorem hu_Module_wideIn : "TwinPanel$Module" ≠ "java/lang/invoke/MethodHandle" ∧ "TwinPanel$Module" ≠ "java/lang/invoke/VarHandle" ∧ (parseMethodDescriptor "(I)D").map (fun d => d.parameters.length) = some 1 := by decide +kernel
theorem uAI_id (d : md_T) (k j : Nat) : uAI d k j (dAI d k j) = d := by
  have e : va_up (dAI d) k (upd (dAI d k) j (dAI d k j)) = dAI d := by
    funext a; unfold va_up; by_cases h : a = k
    · rw [if_pos h, h]; funext b; unfold upd; by_cases h2 : b = j
      · simp [h2]
      · simp [h2]
    · rw [if_neg h]
  unfold uAI; rw [e]; rfl
theorem xt_X2_light (l : Launch) (D : va_G) (dA : Nat → ClassId) (C : tp_C) (d : md_T) (j : xj_T) (m : Nat) (t : Int32) (hC : mOK C) (hm : m < cN C) (ht : dI d 44 = t) : xC l D dA yX2_light cX2_light 2 none 0 [.ref (jA j (xr m 0)), .int t] C d j none C (mLight d m) j := by
  refine xx_start (own := RX2) (by decide) rfl (Nat.le_of_ble_eq_true rfl) ?_
  intro p0 e0 s0 mid bl0 me0 co0 ls S hr hlk G hl
  have hx := S.1; have hb := S.2.1; have hml := S.2.2.1; have hown := S.2.2.2.1; have hts := S.2.2.2.2; have hN := hC.n
  have hl : lv_has ls 2 [(0, .ref (jA j (xr m 0))), (1, .int t)] := hl
  refine lv_aload_n hx hb dX2_light_0 rfl (lv_at hl 0 rfl) ?_
  refine lv_aload_n hx hb dX2_light_1 rfl (lv_at hl 0 rfl) ?_
  refine xx_get11 S G (mm := m) (by omega) hN (hC.k _) 8 (by decide) q229 rfl (v := .int (dAI d 24 m)) rfl dX2_light_2 ?_
  refine lv_iconst (v := (-1)) hx hb dX2_light_5 (by decide) ?_
  refine lv_icmp_ne (tgt := 13) hx hb dX2_light_6 (by decide) (fun c_6 => ?_) (fun c_6 => ?_)
  · refine lv_aload_n hx hb dX2_light_13 rfl (lv_at hl 0 rfl) ?_
    refine xx_get11 S G (mm := m) (by omega) hN (hC.k _) 8 (by decide) q229 rfl (v := .int (dAI d 24 m)) rfl dX2_light_14 ?_
    refine xx_put11 S G (mm := m) (by omega) hN (hC.k _) 8 (by decide) q229 rfl rfl rfl rfl (xs_lamp (by omega)) dX2_light_17 (fun H locs G => ?_)
    exact xx_vret S hr hlk G (xL_e rfl (by simp [mLight, uAI_id, ht, c_6]) rfl) dX2_light_20
  · refine lv_iload_n hx hb dX2_light_9 rfl (lv_at hl 1 rfl) ?_
    refine lv_goto (tgt := 17) hx hb dX2_light_10 (by decide) ?_
    refine xx_put11 S G (mm := m) (by omega) hN (hC.k _) 8 (by decide) q229 rfl rfl rfl rfl (xs_lamp (by omega)) dX2_light_17 (fun H locs G => ?_)
    exact xx_vret S hr hlk G (xL_e rfl (by simp [mLight, uAI_id, ht, c_6]) rfl) dX2_light_20
theorem xt_X2_afterWide (l : Launch) (D : va_G) (dA : Nat → ClassId) (C : tp_C) (d : md_T) (j : xj_T) (m : Nat) (v : UInt64) (t : Int32) (hC : mOK C) (hm : m < cN C) (ht : dI d 44 = t) : xC l D dA yX2_afterWide cX2_afterWide 4 (some .double) 1 [.ref (jA j (xr m 0)), .double v, .int t] C d j (some (.double (clD v))) C (mAfter d m v) j := by
  refine xx_start (own := RX2) (by decide) rfl (Nat.le_of_ble_eq_true rfl) ?_
  intro p0 e0 s0 mid bl0 me0 co0 ls S hr hlk G hl
  have hx := S.1; have hb := S.2.1; have hml := S.2.2.1; have hown := S.2.2.2.1; have hts := S.2.2.2.2; have hN := hC.n
  have hl : lv_has ls 4 [(0, .ref (jA j (xr m 0))), (1, .double v), (3, .int t)] := hl
  refine lv_dload_n hx hb dX2_afterWide_0 rfl (lv_at hl 1 rfl) ?_
  refine lv_ldc2d hx hb hown (hts _ q879) dX2_afterWide_1 ?_
  refine fx_jlgt (tgt := 16) hx hb dX2_afterWide_4 dX2_afterWide_5 (by decide) (fun c_5 => ?_) (fun c_5 => ?_)
  · refine lv_aload_n hx hb dX2_afterWide_16 rfl (lv_at hl 0 rfl) ?_
    refine lv_iload_n hx hb dX2_afterWide_17 rfl (lv_at hl 2 rfl) ?_
    refine xx_callM (mm := m) (As := [.int t]) (rest := []) S G (by omega) hN (hC.k _) (xt_X2_light l D dA C d j m t hC (by omega) ht) (xx_cw hts q881 q1765 (se_light (hC.k _)) q785 q58 q786 rfl hu_Module_light ⟨Nat.le_of_ble_eq_true rfl, Nat.le_of_ble_eq_true rfl⟩) rfl hl.1 rfl (Nat.le_of_ble_eq_true rfl) dX2_afterWide_18 ⟨Nat.zero_le _, Nat.zero_le _⟩ (fun H locs G => ?_)
    refine W.eq (g2 := F0 mid 21 ls []) rfl ?_
    refine lv_dload_n hx hb dX2_afterWide_21 rfl (lv_at hl 1 rfl) ?_
    refine lv_dconst0 hx hb dX2_afterWide_22 ?_
    refine fx_jlle (tgt := 33) hx hb dX2_afterWide_23 dX2_afterWide_24 (by decide) (fun c_24 => ?_) (fun c_24 => ?_)
    · refine lv_ldc2d hx hb hown (hts _ q880) dX2_afterWide_33 ?_
      exact xx_dret S hr hlk G (by simp [clD, ouD, mAfter, c_5, c_24]) (xL_e rfl (by simp [clD, ouD, mAfter, c_5, c_24]) rfl) dX2_afterWide_36
    · refine lv_ldc2d hx hb hown (hts _ q879) dX2_afterWide_27 ?_
      refine lv_goto (tgt := 36) hx hb dX2_afterWide_30 (by decide) ?_
      exact xx_dret S hr hlk G (by simp [clD, ouD, mAfter, c_5, c_24]) (xL_e rfl (by simp [clD, ouD, mAfter, c_5, c_24]) rfl) dX2_afterWide_36
  · refine lv_dload_n hx hb dX2_afterWide_8 rfl (lv_at hl 1 rfl) ?_
    refine lv_ldc2d hx hb hown (hts _ q880) dX2_afterWide_9 ?_
    refine fx_jgge (tgt := 37) hx hb dX2_afterWide_12 dX2_afterWide_13 (by decide) (fun c_13 => ?_) (fun c_13 => ?_)
    · refine lv_dload_n hx hb dX2_afterWide_37 rfl (lv_at hl 1 rfl) ?_
      refine lv_dconst0 hx hb dX2_afterWide_38 ?_
      refine fx_jlne (tgt := 47) hx hb dX2_afterWide_39 dX2_afterWide_40 (by decide) (fun c_40 => ?_) (fun c_40 => ?_)
      · refine lv_dload_n hx hb dX2_afterWide_47 rfl (lv_at hl 1 rfl) ?_
        exact xx_dret S hr hlk G (by simp [clD, ouD, mAfter, c_5, c_13, c_40]) (xL_e rfl (by simp [clD, ouD, mAfter, c_5, c_13, c_40]) rfl) dX2_afterWide_48
      · refine lv_dconst0 hx hb dX2_afterWide_43 ?_
        refine lv_goto (tgt := 48) hx hb dX2_afterWide_44 (by decide) ?_
        exact xx_dret S hr hlk G (by simp [clD, ouD, mAfter, c_5, c_13, c_40]) (xL_e rfl (by simp [clD, ouD, mAfter, c_5, c_13, c_40]) rfl) dX2_afterWide_48
    · refine lv_aload_n hx hb dX2_afterWide_16 rfl (lv_at hl 0 rfl) ?_
      refine lv_iload_n hx hb dX2_afterWide_17 rfl (lv_at hl 2 rfl) ?_
      refine xx_callM (mm := m) (As := [.int t]) (rest := []) S G (by omega) hN (hC.k _) (xt_X2_light l D dA C d j m t hC (by omega) ht) (xx_cw hts q881 q1765 (se_light (hC.k _)) q785 q58 q786 rfl hu_Module_light ⟨Nat.le_of_ble_eq_true rfl, Nat.le_of_ble_eq_true rfl⟩) rfl hl.1 rfl (Nat.le_of_ble_eq_true rfl) dX2_afterWide_18 ⟨Nat.zero_le _, Nat.zero_le _⟩ (fun H locs G => ?_)
      refine W.eq (g2 := F0 mid 21 ls []) rfl ?_
      refine lv_dload_n hx hb dX2_afterWide_21 rfl (lv_at hl 1 rfl) ?_
      refine lv_dconst0 hx hb dX2_afterWide_22 ?_
      refine fx_jlle (tgt := 33) hx hb dX2_afterWide_23 dX2_afterWide_24 (by decide) (fun c_24 => ?_) (fun c_24 => ?_)
      · refine lv_ldc2d hx hb hown (hts _ q880) dX2_afterWide_33 ?_
        exact xx_dret S hr hlk G (by simp [clD, ouD, mAfter, c_5, c_13, c_24]) (xL_e rfl (by simp [clD, ouD, mAfter, c_5, c_13, c_24]) rfl) dX2_afterWide_36
      · refine lv_ldc2d hx hb hown (hts _ q879) dX2_afterWide_27 ?_
        refine lv_goto (tgt := 36) hx hb dX2_afterWide_30 (by decide) ?_
        exact xx_dret S hr hlk G (by simp [clD, ouD, mAfter, c_5, c_13, c_24]) (xL_e rfl (by simp [clD, ouD, mAfter, c_5, c_13, c_24]) rfl) dX2_afterWide_36
theorem xt_X2_afterNarrow (l : Launch) (D : va_G) (dA : Nat → ClassId) (C : tp_C) (d : md_T) (j : xj_T) (m : Nat) (v : UInt32) (t : Int32) (hC : mOK C) (hm : m < cN C) (ht : dI d 44 = t) : xC l D dA yX2_afterNarrow cX2_afterNarrow 3 (some .float) 1 [.ref (jA j (xr m 0)), .float v, .int t] C d j (some (.float (clF v))) C (mAfterF d m v) j := by
  refine xx_start (own := RX2) (by decide) rfl (Nat.le_of_ble_eq_true rfl) ?_
  intro p0 e0 s0 mid bl0 me0 co0 ls S hr hlk G hl
  have hx := S.1; have hb := S.2.1; have hml := S.2.2.1; have hown := S.2.2.2.1; have hts := S.2.2.2.2; have hN := hC.n
  have hl : lv_has ls 3 [(0, .ref (jA j (xr m 0))), (1, .float v), (2, .int t)] := hl
  refine lv_fload_n hx hb dX2_afterNarrow_0 rfl (lv_at hl 1 rfl) ?_
  refine lv_ldcf hx hb hown (hts _ q979) dX2_afterNarrow_1 ?_
  refine fy_jlgt (tgt := 14) hx hb dX2_afterNarrow_3 dX2_afterNarrow_4 (by decide) (fun c_4 => ?_) (fun c_4 => ?_)
  · refine lv_aload_n hx hb dX2_afterNarrow_14 rfl (lv_at hl 0 rfl) ?_
    refine lv_iload_n hx hb dX2_afterNarrow_15 rfl (lv_at hl 2 rfl) ?_
    refine xx_callM (mm := m) (As := [.int t]) (rest := []) S G (by omega) hN (hC.k _) (xt_X2_light l D dA C d j m t hC (by omega) ht) (xx_cw hts q881 q1765 (se_light (hC.k _)) q785 q58 q786 rfl hu_Module_light ⟨Nat.le_of_ble_eq_true rfl, Nat.le_of_ble_eq_true rfl⟩) rfl hl.1 rfl (Nat.le_of_ble_eq_true rfl) dX2_afterNarrow_16 ⟨Nat.zero_le _, Nat.zero_le _⟩ (fun H locs G => ?_)
    refine W.eq (g2 := F0 mid 19 ls []) rfl ?_
    refine lv_fload_n hx hb dX2_afterNarrow_19 rfl (lv_at hl 1 rfl) ?_
    refine lv_fconst0 hx hb dX2_afterNarrow_20 ?_
    refine fy_jlle (tgt := 30) hx hb dX2_afterNarrow_21 dX2_afterNarrow_22 (by decide) (fun c_22 => ?_) (fun c_22 => ?_)
    · refine lv_ldcf hx hb hown (hts _ q980) dX2_afterNarrow_30 ?_
      exact xx_fret S hr hlk G (by simp [clF, ouF, mAfterF, c_4, c_22]) (xL_e rfl (by simp [clF, ouF, mAfterF, c_4, c_22]) rfl) dX2_afterNarrow_32
    · refine lv_ldcf hx hb hown (hts _ q979) dX2_afterNarrow_25 ?_
      refine lv_goto (tgt := 32) hx hb dX2_afterNarrow_27 (by decide) ?_
      exact xx_fret S hr hlk G (by simp [clF, ouF, mAfterF, c_4, c_22]) (xL_e rfl (by simp [clF, ouF, mAfterF, c_4, c_22]) rfl) dX2_afterNarrow_32
  · refine lv_fload_n hx hb dX2_afterNarrow_7 rfl (lv_at hl 1 rfl) ?_
    refine lv_ldcf hx hb hown (hts _ q980) dX2_afterNarrow_8 ?_
    refine fy_jgge (tgt := 33) hx hb dX2_afterNarrow_10 dX2_afterNarrow_11 (by decide) (fun c_11 => ?_) (fun c_11 => ?_)
    · refine lv_fload_n hx hb dX2_afterNarrow_33 rfl (lv_at hl 1 rfl) ?_
      refine lv_fconst0 hx hb dX2_afterNarrow_34 ?_
      refine fy_jlne (tgt := 43) hx hb dX2_afterNarrow_35 dX2_afterNarrow_36 (by decide) (fun c_36 => ?_) (fun c_36 => ?_)
      · refine lv_fload_n hx hb dX2_afterNarrow_43 rfl (lv_at hl 1 rfl) ?_
        exact xx_fret S hr hlk G (by simp [clF, ouF, mAfterF, c_4, c_11, c_36]) (xL_e rfl (by simp [clF, ouF, mAfterF, c_4, c_11, c_36]) rfl) dX2_afterNarrow_44
      · refine lv_fconst0 hx hb dX2_afterNarrow_39 ?_
        refine lv_goto (tgt := 44) hx hb dX2_afterNarrow_40 (by decide) ?_
        exact xx_fret S hr hlk G (by simp [clF, ouF, mAfterF, c_4, c_11, c_36]) (xL_e rfl (by simp [clF, ouF, mAfterF, c_4, c_11, c_36]) rfl) dX2_afterNarrow_44
    · refine lv_aload_n hx hb dX2_afterNarrow_14 rfl (lv_at hl 0 rfl) ?_
      refine lv_iload_n hx hb dX2_afterNarrow_15 rfl (lv_at hl 2 rfl) ?_
      refine xx_callM (mm := m) (As := [.int t]) (rest := []) S G (by omega) hN (hC.k _) (xt_X2_light l D dA C d j m t hC (by omega) ht) (xx_cw hts q881 q1765 (se_light (hC.k _)) q785 q58 q786 rfl hu_Module_light ⟨Nat.le_of_ble_eq_true rfl, Nat.le_of_ble_eq_true rfl⟩) rfl hl.1 rfl (Nat.le_of_ble_eq_true rfl) dX2_afterNarrow_16 ⟨Nat.zero_le _, Nat.zero_le _⟩ (fun H locs G => ?_)
      refine W.eq (g2 := F0 mid 19 ls []) rfl ?_
      refine lv_fload_n hx hb dX2_afterNarrow_19 rfl (lv_at hl 1 rfl) ?_
      refine lv_fconst0 hx hb dX2_afterNarrow_20 ?_
      refine fy_jlle (tgt := 30) hx hb dX2_afterNarrow_21 dX2_afterNarrow_22 (by decide) (fun c_22 => ?_) (fun c_22 => ?_)
      · refine lv_ldcf hx hb hown (hts _ q980) dX2_afterNarrow_30 ?_
        exact xx_fret S hr hlk G (by simp [clF, ouF, mAfterF, c_4, c_11, c_22]) (xL_e rfl (by simp [clF, ouF, mAfterF, c_4, c_11, c_22]) rfl) dX2_afterNarrow_32
      · refine lv_ldcf hx hb hown (hts _ q979) dX2_afterNarrow_25 ?_
        refine lv_goto (tgt := 32) hx hb dX2_afterNarrow_27 (by decide) ?_
        exact xx_fret S hr hlk G (by simp [clF, ouF, mAfterF, c_4, c_11, c_22]) (xL_e rfl (by simp [clF, ouF, mAfterF, c_4, c_11, c_22]) rfl) dX2_afterNarrow_32
theorem xt_X2_wideIn (l : Launch) (D : va_G) (dA : Nat → ClassId) (C : tp_C) (d : md_T) (j : xj_T) (m : Nat) (i : Nat) {k : Nat} (hC : mOK C) (hm : m < cN C) (hi : i < 6) (hk : cF C m i = some k) : xC l D dA yX2_wideIn cX2_wideIn 2 (some .double) 0 [.ref (jA j (xr m 0)), .int (nI i)] C d j (some (.double (inD C (dAD d 19) m i))) C d j := by
  refine xx_start (own := RX2) (by decide) rfl (Nat.le_of_ble_eq_true rfl) ?_
  intro p0 e0 s0 mid bl0 me0 co0 ls S hr hlk G hl
  have hx := S.1; have hb := S.2.1; have hml := S.2.2.1; have hown := S.2.2.2.1; have hts := S.2.2.2.2; have hN := hC.n
  have hl : lv_has ls 2 [(0, .ref (jA j (xr m 0))), (1, .int (nI i))] := hl
  have hkN := hC.f hk
  refine lv_aload_n hx hb dX2_wideIn_0 rfl (lv_at hl 0 rfl) ?_
  refine xx_get11 S G (mm := m) (by omega) hN (hC.k _) 5 (by decide) q223 rfl (v := .ref (jA j (xr m 3))) rfl dX2_wideIn_1 ?_
  refine lv_iload_n hx hb dX2_wideIn_4 rfl (lv_at hl 1 rfl) ?_
  refine xx_zald S G (r := xr m 3) (xr_lt (by decide) (Nat.lt_of_lt_of_le (by omega) hN)) (xW_m (by decide) (by omega) rfl) 1 rfl (i := i) (by omega) (by decide) (v := bI (cT C m i)) rfl dX2_wideIn_5 ?_
  refine bb_eq (tgt := 22) hx hb dX2_wideIn_6 (by decide) (fun c_6 => ?_) (fun c_6 => ?_)
  · refine lv_aload_n hx hb dX2_wideIn_22 rfl (lv_at hl 0 rfl) ?_
    refine xx_get11 S G (mm := m) (by omega) hN (hC.k _) 3 (by decide) q219 rfl (v := .ref (jA j (xr m 1))) rfl dX2_wideIn_23 ?_
    refine lv_iload_n hx hb dX2_wideIn_26 rfl (lv_at hl 1 rfl) ?_
    refine xx_aald S G (r := xr m 1) (xr_lt (by decide) (Nat.lt_of_lt_of_le (by omega) hN)) (xW_m (by decide) (by omega) rfl) (i := i) (by omega) (by decide) (o := some (jA j (xr k 0))) (by show (cF C m i).map _ = _; rw [hk]; rfl) dX2_wideIn_27 ?_
    refine W.eq (g2 := F0 mid 28 ls [.ref (jA j (xr k 0))]) rfl ?_
    refine xx_get11 S G (mm := k) (by omega) hN (hC.k _) 6 (by decide) q225 rfl (v := .double (dAD d 19 k)) rfl dX2_wideIn_28 ?_
    exact xx_dret S hr hlk G (by simp [inD, sgD, hk, c_6]) rfl dX2_wideIn_31
  · refine lv_aload_n hx hb dX2_wideIn_9 rfl (lv_at hl 0 rfl) ?_
    refine xx_get11 S G (mm := m) (by omega) hN (hC.k _) 3 (by decide) q219 rfl (v := .ref (jA j (xr m 1))) rfl dX2_wideIn_10 ?_
    refine lv_iload_n hx hb dX2_wideIn_13 rfl (lv_at hl 1 rfl) ?_
    refine xx_aald S G (r := xr m 1) (xr_lt (by decide) (Nat.lt_of_lt_of_le (by omega) hN)) (xW_m (by decide) (by omega) rfl) (i := i) (by omega) (by decide) (o := some (jA j (xr k 0))) (by show (cF C m i).map _ = _; rw [hk]; rfl) dX2_wideIn_14 ?_
    refine W.eq (g2 := F0 mid 15 ls [.ref (jA j (xr k 0))]) rfl ?_
    refine xx_get11 S G (mm := k) (by omega) hN (hC.k _) 6 (by decide) q225 rfl (v := .double (dAD d 19 k)) rfl dX2_wideIn_15 ?_
    refine lv_dneg hx hb dX2_wideIn_18 ?_
    refine lv_goto (tgt := 31) hx hb dX2_wideIn_19 (by decide) ?_
    exact xx_dret S hr hlk G (by simp [inD, sgD, hk, c_6]) rfl dX2_wideIn_31
theorem xt_X2_narrowIn (l : Launch) (D : va_G) (dA : Nat → ClassId) (C : tp_C) (d : md_T) (j : xj_T) (m : Nat) (i : Nat) {k : Nat} (hC : mOK C) (hm : m < cN C) (hi : i < 6) (hk : cF C m i = some k) : xC l D dA yX2_narrowIn cX2_narrowIn 2 (some .float) 0 [.ref (jA j (xr m 0)), .int (nI i)] C d j (some (.float (inF C (dAF d 20) m i))) C d j := by
  refine xx_start (own := RX2) (by decide) rfl (Nat.le_of_ble_eq_true rfl) ?_
  intro p0 e0 s0 mid bl0 me0 co0 ls S hr hlk G hl
  have hx := S.1; have hb := S.2.1; have hml := S.2.2.1; have hown := S.2.2.2.1; have hts := S.2.2.2.2; have hN := hC.n
  have hl : lv_has ls 2 [(0, .ref (jA j (xr m 0))), (1, .int (nI i))] := hl
  have hkN := hC.f hk
  refine lv_aload_n hx hb dX2_narrowIn_0 rfl (lv_at hl 0 rfl) ?_
  refine xx_get11 S G (mm := m) (by omega) hN (hC.k _) 5 (by decide) q223 rfl (v := .ref (jA j (xr m 3))) rfl dX2_narrowIn_1 ?_
  refine lv_iload_n hx hb dX2_narrowIn_4 rfl (lv_at hl 1 rfl) ?_
  refine xx_zald S G (r := xr m 3) (xr_lt (by decide) (Nat.lt_of_lt_of_le (by omega) hN)) (xW_m (by decide) (by omega) rfl) 1 rfl (i := i) (by omega) (by decide) (v := bI (cT C m i)) rfl dX2_narrowIn_5 ?_
  refine bb_eq (tgt := 22) hx hb dX2_narrowIn_6 (by decide) (fun c_6 => ?_) (fun c_6 => ?_)
  · refine lv_aload_n hx hb dX2_narrowIn_22 rfl (lv_at hl 0 rfl) ?_
    refine xx_get11 S G (mm := m) (by omega) hN (hC.k _) 3 (by decide) q219 rfl (v := .ref (jA j (xr m 1))) rfl dX2_narrowIn_23 ?_
    refine lv_iload_n hx hb dX2_narrowIn_26 rfl (lv_at hl 1 rfl) ?_
    refine xx_aald S G (r := xr m 1) (xr_lt (by decide) (Nat.lt_of_lt_of_le (by omega) hN)) (xW_m (by decide) (by omega) rfl) (i := i) (by omega) (by decide) (o := some (jA j (xr k 0))) (by show (cF C m i).map _ = _; rw [hk]; rfl) dX2_narrowIn_27 ?_
    refine W.eq (g2 := F0 mid 28 ls [.ref (jA j (xr k 0))]) rfl ?_
    refine xx_get11 S G (mm := k) (by omega) hN (hC.k _) 7 (by decide) q227 rfl (v := .float (dAF d 20 k)) rfl dX2_narrowIn_28 ?_
    exact xx_fret S hr hlk G (by simp [inF, sgF, hk, c_6]) rfl dX2_narrowIn_31
  · refine lv_aload_n hx hb dX2_narrowIn_9 rfl (lv_at hl 0 rfl) ?_
    refine xx_get11 S G (mm := m) (by omega) hN (hC.k _) 3 (by decide) q219 rfl (v := .ref (jA j (xr m 1))) rfl dX2_narrowIn_10 ?_
    refine lv_iload_n hx hb dX2_narrowIn_13 rfl (lv_at hl 1 rfl) ?_
    refine xx_aald S G (r := xr m 1) (xr_lt (by decide) (Nat.lt_of_lt_of_le (by omega) hN)) (xW_m (by decide) (by omega) rfl) (i := i) (by omega) (by decide) (o := some (jA j (xr k 0))) (by show (cF C m i).map _ = _; rw [hk]; rfl) dX2_narrowIn_14 ?_
    refine W.eq (g2 := F0 mid 15 ls [.ref (jA j (xr k 0))]) rfl ?_
    refine xx_get11 S G (mm := k) (by omega) hN (hC.k _) 7 (by decide) q227 rfl (v := .float (dAF d 20 k)) rfl dX2_narrowIn_15 ?_
    refine lv_fneg hx hb dX2_narrowIn_18 ?_
    refine lv_goto (tgt := 31) hx hb dX2_narrowIn_19 (by decide) ?_
    exact xx_fret S hr hlk G (by simp [inF, sgF, hk, c_6]) rfl dX2_narrowIn_31
theorem xt_X2_remembers (l : Launch) (D : va_G) (dA : Nat → ClassId) (C : tp_C) (d : md_T) (j : xj_T) (m : Nat) (hC : mOK C) (hm : m < cN C) : xC l D dA yX2_remembers cX2_remembers 1 (some .boolean) 0 [.ref (jA j (xr m 0))] C d j (some (.int (bI false))) C d j := by
  refine xx_start (own := RX2) (by decide) rfl (Nat.le_of_ble_eq_true rfl) ?_
  intro p0 e0 s0 mid bl0 me0 co0 ls S hr hlk G hl
  have hx := S.1; have hb := S.2.1; have hml := S.2.2.1; have hown := S.2.2.2.1; have hts := S.2.2.2.2; have hN := hC.n
  have hl : lv_has ls 1 [(0, .ref (jA j (xr m 0)))] := hl
  refine lv_iconst (v := nI 0) hx hb dX2_remembers_0 (by decide) ?_
  exact xx_zret S hr hlk G (by first | rfl | exact bb_nar _) (bI_f (by rfl)) rfl dX2_remembers_1
theorem xt_X2_needs (l : Launch) (D : va_G) (dA : Nat → ClassId) (C : tp_C) (d : md_T) (j : xj_T) (m : Nat) (hC : mOK C) (hm : m < cN C) : xC l D dA yX2_needs cX2_needs 1 (some .int) 0 [.ref (jA j (xr m 0))] C d j (some (.int (nI 1))) C d j := by
  refine xx_start (own := RX2) (by decide) rfl (Nat.le_of_ble_eq_true rfl) ?_
  intro p0 e0 s0 mid bl0 me0 co0 ls S hr hlk G hl
  have hx := S.1; have hb := S.2.1; have hml := S.2.2.1; have hown := S.2.2.2.1; have hts := S.2.2.2.2; have hN := hC.n
  have hl : lv_has ls 1 [(0, .ref (jA j (xr m 0)))] := hl
  refine lv_iconst (v := nI 1) hx hb dX2_needs_0 (by decide) ?_
  exact xx_iret S hr hlk G rfl rfl dX2_needs_1
theorem xt_X2_take (l : Launch) (D : va_G) (dA : Nat → ClassId) (C : tp_C) (d : md_T) (j : xj_T) (m : Nat) (hC : mOK C) (hm : m < cN C) : xC l D dA yX2_take cX2_take 1 none 0 [.ref (jA j (xr m 0))] C d j none C d j := by
  refine xx_start (own := RX2) (by decide) rfl (Nat.le_of_ble_eq_true rfl) ?_
  intro p0 e0 s0 mid bl0 me0 co0 ls S hr hlk G hl
  have hx := S.1; have hb := S.2.1; have hml := S.2.2.1; have hown := S.2.2.2.1; have hts := S.2.2.2.2; have hN := hC.n
  have hl : lv_has ls 1 [(0, .ref (jA j (xr m 0)))] := hl
  exact xx_vret S hr hlk G rfl dX2_take_0
theorem xt_X2_become (l : Launch) (D : va_G) (dA : Nat → ClassId) (C : tp_C) (d : md_T) (j : xj_T) (m : Nat) (hC : mOK C) (hm : m < cN C) : xC l D dA yX2_become cX2_become 1 none 0 [.ref (jA j (xr m 0))] C d j none C d j := by
  refine xx_start (own := RX2) (by decide) rfl (Nat.le_of_ble_eq_true rfl) ?_
  intro p0 e0 s0 mid bl0 me0 co0 ls S hr hlk G hl
  have hx := S.1; have hb := S.2.1; have hml := S.2.2.1; have hown := S.2.2.2.1; have hts := S.2.2.2.2; have hN := hC.n
  have hl : lv_has ls 1 [(0, .ref (jA j (xr m 0)))] := hl
  exact xx_vret S hr hlk G rfl dX2_become_0
theorem xt_X2_wideSum (l : Launch) (D : va_G) (dA : Nat → ClassId) (C : tp_C) (d : md_T) (j : xj_T) (m : Nat) (hC : mOK C) (hm : m < cN C) (hg : ∀ k, bD 1075 (dAD d 19 k)) : xC l D dA yX2_wideSum cX2_wideSum 5 (some .double) 1 [.ref (jA j (xr m 0))] C d j (some (.double (suD C (dAD d 19) m))) C d j := by
  refine xx_start (own := RX2) (by decide) rfl (Nat.le_of_ble_eq_true rfl) ?_
  intro p0 e0 s0 mid bl0 me0 co0 ls S hr hlk G hl
  have hx := S.1; have hb := S.2.1; have hml := S.2.2.1; have hown := S.2.2.2.1; have hts := S.2.2.2.2; have hN := hC.n
  have hl : lv_has ls 5 [(0, .ref (jA j (xr m 0)))] := hl
  have L1 : ∀ (n_ i : Nat), i ≤ 6 → 6 < i + n_ → ∀ (H : Heap) (locs : List Loc) (ls : Array Slot), xG D dA (xA dA C d j) C d j s0 H locs → lv_has ls 5 [(4, .int (nI i)), (3, .int (bI (!(suA C (dAD d 19) m i).2))), (1, .double ((suA C (dAD d 19) m i).1)), (0, .ref (jA j (xr m 0)))] → (∀ (H : Heap) (locs : List Loc) (ls : Array Slot), xG D dA (xA dA C d j) C d j s0 H locs → lv_has ls 5 [(4, .int (nI 6)), (3, .int (bI (!(suA C (dAD d 19) m 6).2))), (1, .double ((suA C (dAD d 19) m 6).1)), (0, .ref (jA j (xr m 0)))] → W p0 l e0 (rm_ 1) s0 mid ([.ref (jA j (xr m 0))] : List Value).toArray bl0 me0 co0 H locs 0 0 (MQ bl0 (xQ D dA C d j (some (.double (suD C (dAD d 19) m))) C d j) ([.ref (jA j (xr m 0))] : List Value).toArray s0 0 0 (xA dA C d j)) (F0 mid 54 ls [])) → W p0 l e0 (rm_ 1) s0 mid ([.ref (jA j (xr m 0))] : List Value).toArray bl0 me0 co0 H locs 0 0 (MQ bl0 (xQ D dA C d j (some (.double (suD C (dAD d 19) m))) C d j) ([.ref (jA j (xr m 0))] : List Value).toArray s0 0 0 (xA dA C d j)) (F0 mid 7 ls []) := by
    intro n_
    induction n_ with
    | zero => intro i h1_ h2_; exact absurd h2_ (by omega)
    | succ n_ ih =>
      intro i h1_ h2_ H locs ls G hl kk
      refine lv_iload hx hb dX2_wideSum_7 (lv_at hl 0 rfl) ?_
      refine lv_bipush (v := nI 6) hx hb dX2_wideSum_9 (by decide) ?_
      refine nn_cge (tgt := 54) hx hb (by omega) (by omega) dX2_wideSum_11 (by decide) (fun c_11 => ?_) (fun c_11 => ?_)
      · have hiN : i = 6 := by omega
        subst hiN
        exact kk H locs ls G (lv_sub hl [0, 1, 2, 3] rfl)
      · refine lv_aload_n hx hb dX2_wideSum_14 rfl (lv_at hl 3 rfl) ?_
        refine xx_get11 S G (mm := m) (by omega) hN (hC.k _) 3 (by decide) q219 rfl (v := .ref (jA j (xr m 1))) rfl dX2_wideSum_15 ?_
        refine lv_iload hx hb dX2_wideSum_18 (lv_at hl 0 rfl) ?_
        rcases hf_20 : cF C m i with _ | k_20
        · refine xx_aald S G (r := xr m 1) (xr_lt (by decide) (Nat.lt_of_lt_of_le (by omega) hN)) (xW_m (by decide) (by omega) rfl) (i := i) (by omega) (by decide) (o := none) (by show (cF C m i).map _ = _; rw [hf_20]; rfl) dX2_wideSum_20 ?_
          refine W.eq (g2 := F0 mid 21 ls [.null]) rfl ?_
          refine lv_ifnullN (tgt := 48) hx hb dX2_wideSum_21 (by decide) ?_
          refine lv_iinc (v := nI (i + 1)) (lv' := [(4, .int (nI (i + 1))), (3, .int (bI (!(suA C (dAD d 19) m i).2))), (1, .double ((suA C (dAD d 19) m i).1)), (0, .ref (jA j (xr m 0)))]) hx hb dX2_wideSum_48 hl (k := 0) rfl (nI_1 _) (by decide) rfl (fun ls hl => ?_)
          refine lv_goto (tgt := 7) hx hb dX2_wideSum_51 (by decide) ?_
          exact ih (i + 1) (by omega) (by omega) H locs ls G (lv_eq (lv_sub (l' := [(4, .int (nI (i + 1))), (3, .int (bI (!(suA C (dAD d 19) m i).2))), (1, .double ((suA C (dAD d 19) m i).1)), (0, .ref (jA j (xr m 0)))]) hl [0, 1, 2, 3] rfl) (by simp [suA_s, suS, bI0, bI1, c_11, hf_20])) kk
        · have hkN_20 := hC.f hf_20
          refine xx_aald S G (r := xr m 1) (xr_lt (by decide) (Nat.lt_of_lt_of_le (by omega) hN)) (xW_m (by decide) (by omega) rfl) (i := i) (by omega) (by decide) (o := some (jA j (xr k_20 0))) (by show (cF C m i).map _ = _; rw [hf_20]; rfl) dX2_wideSum_20 ?_
          refine W.eq (g2 := F0 mid 21 ls [.ref (jA j (xr k_20 0))]) rfl ?_
          refine lv_ifnull hx hb dX2_wideSum_21 ?_
          refine lv_iload_n hx hb dX2_wideSum_24 rfl (lv_at hl 1 rfl) ?_
          refine bb_eq (tgt := 39) hx hb dX2_wideSum_25 (by decide) (fun c_25 => ?_) (fun c_25 => ?_)
          · have c_25 : (suA C (dAD d 19) m i).2 = true := by simpa using c_25
            refine lv_aload_n hx hb dX2_wideSum_39 rfl (lv_at hl 3 rfl) ?_
            refine lv_iload hx hb dX2_wideSum_40 (lv_at hl 0 rfl) ?_
            refine xx_callM (mm := m) (As := [.int (nI i)]) (rest := []) S G (by omega) hN (hC.k _) (xt_X2_wideIn l D dA C d j m i hC (by omega) (by omega) (by assumption)) (xx_cw hts q847 q1750 (se_wideIn (hC.k _)) q749 q58 q750 rfl hu_Module_wideIn ⟨Nat.le_of_ble_eq_true rfl, Nat.le_of_ble_eq_true rfl⟩) rfl hl.1 rfl (Nat.le_of_ble_eq_true rfl) dX2_wideSum_42 ⟨Nat.zero_le _, Nat.zero_le _⟩ (fun H locs G => ?_)
            refine W.eq (g2 := F0 mid 45 ls [.double (inD C (dAD d 19) m i)]) rfl ?_
            refine lv_dstore_n (lv' := [(1, .double (inD C (dAD d 19) m i)), (4, .int (nI i)), (3, .int (bI (!(suA C (dAD d 19) m i).2))), (0, .ref (jA j (xr m 0)))]) hx hb dX2_wideSum_45 rfl hl (by decide) rfl (fun ls hl => ?_)
            refine lv_iconst (v := nI 1) hx hb dX2_wideSum_46 (by decide) ?_
            refine lv_istore_n (lv' := [(3, .int (nI 1)), (1, .double (inD C (dAD d 19) m i)), (4, .int (nI i)), (0, .ref (jA j (xr m 0)))]) hx hb dX2_wideSum_47 rfl hl (by decide) rfl (fun ls hl => ?_)
            refine lv_iinc (v := nI (i + 1)) (lv' := [(4, .int (nI (i + 1))), (3, .int (nI 1)), (1, .double (inD C (dAD d 19) m i)), (0, .ref (jA j (xr m 0)))]) hx hb dX2_wideSum_48 hl (k := 2) rfl (nI_1 _) (by decide) rfl (fun ls hl => ?_)
            refine lv_goto (tgt := 7) hx hb dX2_wideSum_51 (by decide) ?_
            exact ih (i + 1) (by omega) (by omega) H locs ls G (lv_eq (lv_sub (l' := [(4, .int (nI (i + 1))), (3, .int (nI 1)), (1, .double (inD C (dAD d 19) m i)), (0, .ref (jA j (xr m 0)))]) hl [0, 1, 2, 3] rfl) (by simp [suA_s, suS, bI0, bI1, c_11, hf_20, c_25])) kk
          · have c_25 : (suA C (dAD d 19) m i).2 = false := by simpa using c_25
            refine lv_dload_n hx hb dX2_wideSum_28 rfl (lv_at hl 2 rfl) ?_
            refine lv_aload_n hx hb dX2_wideSum_29 rfl (lv_at hl 3 rfl) ?_
            refine lv_iload hx hb dX2_wideSum_30 (lv_at hl 0 rfl) ?_
            refine xx_callM (mm := m) (As := [.int (nI i)]) (rest := [.double ((suA C (dAD d 19) m i).1)]) S G (by omega) hN (hC.k _) (xt_X2_wideIn l D dA C d j m i hC (by omega) (by omega) (by assumption)) (xx_cw hts q847 q1750 (se_wideIn (hC.k _)) q749 q58 q750 rfl hu_Module_wideIn ⟨Nat.le_of_ble_eq_true rfl, Nat.le_of_ble_eq_true rfl⟩) rfl hl.1 rfl (Nat.le_of_ble_eq_true rfl) dX2_wideSum_32 ⟨Nat.zero_le _, Nat.zero_le _⟩ (fun H locs G => ?_)
            refine W.eq (g2 := F0 mid 35 ls [.double (inD C (dAD d 19) m i), .double ((suA C (dAD d 19) m i).1)]) rfl ?_
            refine lv_dadd hx hb dX2_wideSum_35 (nD_add (bD_n (suA_b hg i (by omega))) (in_b hg)) ?_
            refine lv_goto (tgt := 45) hx hb dX2_wideSum_36 (by decide) ?_
            refine lv_dstore_n (lv' := [(1, .double (FP.dadd ((suA C (dAD d 19) m i).1) (inD C (dAD d 19) m i))), (4, .int (nI i)), (3, .int (bI (!(suA C (dAD d 19) m i).2))), (0, .ref (jA j (xr m 0)))]) hx hb dX2_wideSum_45 rfl hl (by decide) rfl (fun ls hl => ?_)
            refine lv_iconst (v := nI 1) hx hb dX2_wideSum_46 (by decide) ?_
            refine lv_istore_n (lv' := [(3, .int (nI 1)), (1, .double (FP.dadd ((suA C (dAD d 19) m i).1) (inD C (dAD d 19) m i))), (4, .int (nI i)), (0, .ref (jA j (xr m 0)))]) hx hb dX2_wideSum_47 rfl hl (by decide) rfl (fun ls hl => ?_)
            refine lv_iinc (v := nI (i + 1)) (lv' := [(4, .int (nI (i + 1))), (3, .int (nI 1)), (1, .double (FP.dadd ((suA C (dAD d 19) m i).1) (inD C (dAD d 19) m i))), (0, .ref (jA j (xr m 0)))]) hx hb dX2_wideSum_48 hl (k := 2) rfl (nI_1 _) (by decide) rfl (fun ls hl => ?_)
            refine lv_goto (tgt := 7) hx hb dX2_wideSum_51 (by decide) ?_
            exact ih (i + 1) (by omega) (by omega) H locs ls G (lv_eq (lv_sub (l' := [(4, .int (nI (i + 1))), (3, .int (nI 1)), (1, .double (FP.dadd ((suA C (dAD d 19) m i).1) (inD C (dAD d 19) m i))), (0, .ref (jA j (xr m 0)))]) hl [0, 1, 2, 3] rfl) (by simp [suA_s, suS, bI0, bI1, c_11, hf_20, c_25])) kk
  refine lv_dconst0 hx hb dX2_wideSum_0 ?_
  refine lv_dstore_n (lv' := [(1, .double FP.dconst0), (0, .ref (jA j (xr m 0)))]) hx hb dX2_wideSum_1 rfl hl (by decide) rfl (fun ls hl => ?_)
  refine lv_iconst (v := nI 0) hx hb dX2_wideSum_2 (by decide) ?_
  refine lv_istore_n (lv' := [(3, .int (nI 0)), (1, .double FP.dconst0), (0, .ref (jA j (xr m 0)))]) hx hb dX2_wideSum_3 rfl hl (by decide) rfl (fun ls hl => ?_)
  refine lv_iconst (v := nI 0) hx hb dX2_wideSum_4 (by decide) ?_
  refine lv_istore (lv' := [(4, .int (nI 0)), (3, .int (nI 0)), (1, .double FP.dconst0), (0, .ref (jA j (xr m 0)))]) hx hb dX2_wideSum_5 hl (by decide) rfl (fun ls hl => ?_)
  refine L1 7 0 (by omega) (by omega) _ _ ls G (lv_eq (lv_sub (l' := [(4, .int (nI 0)), (3, .int (nI 0)), (1, .double FP.dconst0), (0, .ref (jA j (xr m 0)))]) hl [0, 1, 2, 3] rfl) (by rfl)) (fun H locs ls G hl => ?_)
  refine lv_dload_n hx hb dX2_wideSum_54 rfl (lv_at hl 2 rfl) ?_
  exact xx_dret S hr hlk G (by rfl) rfl dX2_wideSum_55
theorem xt_X2_narrowSum (l : Launch) (D : va_G) (dA : Nat → ClassId) (C : tp_C) (d : md_T) (j : xj_T) (m : Nat) (hC : mOK C) (hm : m < cN C) (hg : ∀ k, bF 1075 (dAF d 20 k)) : xC l D dA yX2_narrowSum cX2_narrowSum 4 (some .float) 1 [.ref (jA j (xr m 0))] C d j (some (.float (suF C (dAF d 20) m))) C d j := by
  refine xx_start (own := RX2) (by decide) rfl (Nat.le_of_ble_eq_true rfl) ?_
  intro p0 e0 s0 mid bl0 me0 co0 ls S hr hlk G hl
  have hx := S.1; have hb := S.2.1; have hml := S.2.2.1; have hown := S.2.2.2.1; have hts := S.2.2.2.2; have hN := hC.n
  have hl : lv_has ls 4 [(0, .ref (jA j (xr m 0)))] := hl
  have L1 : ∀ (n_ i : Nat), i ≤ 6 → 6 < i + n_ → ∀ (H : Heap) (locs : List Loc) (ls : Array Slot), xG D dA (xA dA C d j) C d j s0 H locs → lv_has ls 4 [(3, .int (nI i)), (2, .int (bI (!(suAF C (dAF d 20) m i).2))), (1, .float ((suAF C (dAF d 20) m i).1)), (0, .ref (jA j (xr m 0)))] → (∀ (H : Heap) (locs : List Loc) (ls : Array Slot), xG D dA (xA dA C d j) C d j s0 H locs → lv_has ls 4 [(3, .int (nI 6)), (2, .int (bI (!(suAF C (dAF d 20) m 6).2))), (1, .float ((suAF C (dAF d 20) m 6).1)), (0, .ref (jA j (xr m 0)))] → W p0 l e0 (rm_ 1) s0 mid ([.ref (jA j (xr m 0))] : List Value).toArray bl0 me0 co0 H locs 0 0 (MQ bl0 (xQ D dA C d j (some (.float (suF C (dAF d 20) m))) C d j) ([.ref (jA j (xr m 0))] : List Value).toArray s0 0 0 (xA dA C d j)) (F0 mid 49 ls [])) → W p0 l e0 (rm_ 1) s0 mid ([.ref (jA j (xr m 0))] : List Value).toArray bl0 me0 co0 H locs 0 0 (MQ bl0 (xQ D dA C d j (some (.float (suF C (dAF d 20) m))) C d j) ([.ref (jA j (xr m 0))] : List Value).toArray s0 0 0 (xA dA C d j)) (F0 mid 6 ls []) := by
    intro n_
    induction n_ with
    | zero => intro i h1_ h2_; exact absurd h2_ (by omega)
    | succ n_ ih =>
      intro i h1_ h2_ H locs ls G hl kk
      refine lv_iload_n hx hb dX2_narrowSum_6 rfl (lv_at hl 0 rfl) ?_
      refine lv_bipush (v := nI 6) hx hb dX2_narrowSum_7 (by decide) ?_
      refine nn_cge (tgt := 49) hx hb (by omega) (by omega) dX2_narrowSum_9 (by decide) (fun c_9 => ?_) (fun c_9 => ?_)
      · have hiN : i = 6 := by omega
        subst hiN
        exact kk H locs ls G (lv_sub hl [0, 1, 2, 3] rfl)
      · refine lv_aload_n hx hb dX2_narrowSum_12 rfl (lv_at hl 3 rfl) ?_
        refine xx_get11 S G (mm := m) (by omega) hN (hC.k _) 3 (by decide) q219 rfl (v := .ref (jA j (xr m 1))) rfl dX2_narrowSum_13 ?_
        refine lv_iload_n hx hb dX2_narrowSum_16 rfl (lv_at hl 0 rfl) ?_
        rcases hf_17 : cF C m i with _ | k_17
        · refine xx_aald S G (r := xr m 1) (xr_lt (by decide) (Nat.lt_of_lt_of_le (by omega) hN)) (xW_m (by decide) (by omega) rfl) (i := i) (by omega) (by decide) (o := none) (by show (cF C m i).map _ = _; rw [hf_17]; rfl) dX2_narrowSum_17 ?_
          refine W.eq (g2 := F0 mid 18 ls [.null]) rfl ?_
          refine lv_ifnullN (tgt := 43) hx hb dX2_narrowSum_18 (by decide) ?_
          refine lv_iinc (v := nI (i + 1)) (lv' := [(3, .int (nI (i + 1))), (2, .int (bI (!(suAF C (dAF d 20) m i).2))), (1, .float ((suAF C (dAF d 20) m i).1)), (0, .ref (jA j (xr m 0)))]) hx hb dX2_narrowSum_43 hl (k := 0) rfl (nI_1 _) (by decide) rfl (fun ls hl => ?_)
          refine lv_goto (tgt := 6) hx hb dX2_narrowSum_46 (by decide) ?_
          exact ih (i + 1) (by omega) (by omega) H locs ls G (lv_eq (lv_sub (l' := [(3, .int (nI (i + 1))), (2, .int (bI (!(suAF C (dAF d 20) m i).2))), (1, .float ((suAF C (dAF d 20) m i).1)), (0, .ref (jA j (xr m 0)))]) hl [0, 1, 2, 3] rfl) (by simp [suAF_s, suSF, bI0, bI1, c_9, hf_17])) kk
        · have hkN_17 := hC.f hf_17
          refine xx_aald S G (r := xr m 1) (xr_lt (by decide) (Nat.lt_of_lt_of_le (by omega) hN)) (xW_m (by decide) (by omega) rfl) (i := i) (by omega) (by decide) (o := some (jA j (xr k_17 0))) (by show (cF C m i).map _ = _; rw [hf_17]; rfl) dX2_narrowSum_17 ?_
          refine W.eq (g2 := F0 mid 18 ls [.ref (jA j (xr k_17 0))]) rfl ?_
          refine lv_ifnull hx hb dX2_narrowSum_18 ?_
          refine lv_iload_n hx hb dX2_narrowSum_21 rfl (lv_at hl 1 rfl) ?_
          refine bb_eq (tgt := 35) hx hb dX2_narrowSum_22 (by decide) (fun c_22 => ?_) (fun c_22 => ?_)
          · have c_22 : (suAF C (dAF d 20) m i).2 = true := by simpa using c_22
            refine lv_aload_n hx hb dX2_narrowSum_35 rfl (lv_at hl 3 rfl) ?_
            refine lv_iload_n hx hb dX2_narrowSum_36 rfl (lv_at hl 0 rfl) ?_
            refine xx_callM (mm := m) (As := [.int (nI i)]) (rest := []) S G (by omega) hN (hC.k _) (xt_X2_narrowIn l D dA C d j m i hC (by omega) (by omega) (by assumption)) (xx_cw hts q947 q1780 (se_narrowIn (hC.k _)) q892 q58 q893 rfl hu_Module_narrowIn ⟨Nat.le_of_ble_eq_true rfl, Nat.le_of_ble_eq_true rfl⟩) rfl hl.1 rfl (Nat.le_of_ble_eq_true rfl) dX2_narrowSum_37 ⟨Nat.zero_le _, Nat.zero_le _⟩ (fun H locs G => ?_)
            refine W.eq (g2 := F0 mid 40 ls [.float (inF C (dAF d 20) m i)]) rfl ?_
            refine lv_fstore_n (lv' := [(1, .float (inF C (dAF d 20) m i)), (3, .int (nI i)), (2, .int (bI (!(suAF C (dAF d 20) m i).2))), (0, .ref (jA j (xr m 0)))]) hx hb dX2_narrowSum_40 rfl hl (by decide) rfl (fun ls hl => ?_)
            refine lv_iconst (v := nI 1) hx hb dX2_narrowSum_41 (by decide) ?_
            refine lv_istore_n (lv' := [(2, .int (nI 1)), (1, .float (inF C (dAF d 20) m i)), (3, .int (nI i)), (0, .ref (jA j (xr m 0)))]) hx hb dX2_narrowSum_42 rfl hl (by decide) rfl (fun ls hl => ?_)
            refine lv_iinc (v := nI (i + 1)) (lv' := [(3, .int (nI (i + 1))), (2, .int (nI 1)), (1, .float (inF C (dAF d 20) m i)), (0, .ref (jA j (xr m 0)))]) hx hb dX2_narrowSum_43 hl (k := 2) rfl (nI_1 _) (by decide) rfl (fun ls hl => ?_)
            refine lv_goto (tgt := 6) hx hb dX2_narrowSum_46 (by decide) ?_
            exact ih (i + 1) (by omega) (by omega) H locs ls G (lv_eq (lv_sub (l' := [(3, .int (nI (i + 1))), (2, .int (nI 1)), (1, .float (inF C (dAF d 20) m i)), (0, .ref (jA j (xr m 0)))]) hl [0, 1, 2, 3] rfl) (by simp [suAF_s, suSF, bI0, bI1, c_9, hf_17, c_22])) kk
          · have c_22 : (suAF C (dAF d 20) m i).2 = false := by simpa using c_22
            refine lv_fload_n hx hb dX2_narrowSum_25 rfl (lv_at hl 2 rfl) ?_
            refine lv_aload_n hx hb dX2_narrowSum_26 rfl (lv_at hl 3 rfl) ?_
            refine lv_iload_n hx hb dX2_narrowSum_27 rfl (lv_at hl 0 rfl) ?_
            refine xx_callM (mm := m) (As := [.int (nI i)]) (rest := [.float ((suAF C (dAF d 20) m i).1)]) S G (by omega) hN (hC.k _) (xt_X2_narrowIn l D dA C d j m i hC (by omega) (by omega) (by assumption)) (xx_cw hts q947 q1780 (se_narrowIn (hC.k _)) q892 q58 q893 rfl hu_Module_narrowIn ⟨Nat.le_of_ble_eq_true rfl, Nat.le_of_ble_eq_true rfl⟩) rfl hl.1 rfl (Nat.le_of_ble_eq_true rfl) dX2_narrowSum_28 ⟨Nat.zero_le _, Nat.zero_le _⟩ (fun H locs G => ?_)
            refine W.eq (g2 := F0 mid 31 ls [.float (inF C (dAF d 20) m i), .float ((suAF C (dAF d 20) m i).1)]) rfl ?_
            refine lv_fadd hx hb dX2_narrowSum_31 (nF_add (bF_n (suAF_b hg i (by omega))) (in_bF hg)) ?_
            refine lv_goto (tgt := 40) hx hb dX2_narrowSum_32 (by decide) ?_
            refine lv_fstore_n (lv' := [(1, .float (FP.fadd ((suAF C (dAF d 20) m i).1) (inF C (dAF d 20) m i))), (3, .int (nI i)), (2, .int (bI (!(suAF C (dAF d 20) m i).2))), (0, .ref (jA j (xr m 0)))]) hx hb dX2_narrowSum_40 rfl hl (by decide) rfl (fun ls hl => ?_)
            refine lv_iconst (v := nI 1) hx hb dX2_narrowSum_41 (by decide) ?_
            refine lv_istore_n (lv' := [(2, .int (nI 1)), (1, .float (FP.fadd ((suAF C (dAF d 20) m i).1) (inF C (dAF d 20) m i))), (3, .int (nI i)), (0, .ref (jA j (xr m 0)))]) hx hb dX2_narrowSum_42 rfl hl (by decide) rfl (fun ls hl => ?_)
            refine lv_iinc (v := nI (i + 1)) (lv' := [(3, .int (nI (i + 1))), (2, .int (nI 1)), (1, .float (FP.fadd ((suAF C (dAF d 20) m i).1) (inF C (dAF d 20) m i))), (0, .ref (jA j (xr m 0)))]) hx hb dX2_narrowSum_43 hl (k := 2) rfl (nI_1 _) (by decide) rfl (fun ls hl => ?_)
            refine lv_goto (tgt := 6) hx hb dX2_narrowSum_46 (by decide) ?_
            exact ih (i + 1) (by omega) (by omega) H locs ls G (lv_eq (lv_sub (l' := [(3, .int (nI (i + 1))), (2, .int (nI 1)), (1, .float (FP.fadd ((suAF C (dAF d 20) m i).1) (inF C (dAF d 20) m i))), (0, .ref (jA j (xr m 0)))]) hl [0, 1, 2, 3] rfl) (by simp [suAF_s, suSF, bI0, bI1, c_9, hf_17, c_22])) kk
  refine lv_fconst0 hx hb dX2_narrowSum_0 ?_
  refine lv_fstore_n (lv' := [(1, .float FP.fconst0), (0, .ref (jA j (xr m 0)))]) hx hb dX2_narrowSum_1 rfl hl (by decide) rfl (fun ls hl => ?_)
  refine lv_iconst (v := nI 0) hx hb dX2_narrowSum_2 (by decide) ?_
  refine lv_istore_n (lv' := [(2, .int (nI 0)), (1, .float FP.fconst0), (0, .ref (jA j (xr m 0)))]) hx hb dX2_narrowSum_3 rfl hl (by decide) rfl (fun ls hl => ?_)
  refine lv_iconst (v := nI 0) hx hb dX2_narrowSum_4 (by decide) ?_
  refine lv_istore_n (lv' := [(3, .int (nI 0)), (2, .int (nI 0)), (1, .float FP.fconst0), (0, .ref (jA j (xr m 0)))]) hx hb dX2_narrowSum_5 rfl hl (by decide) rfl (fun ls hl => ?_)
  refine L1 7 0 (by omega) (by omega) _ _ ls G (lv_eq (lv_sub (l' := [(3, .int (nI 0)), (2, .int (nI 0)), (1, .float FP.fconst0), (0, .ref (jA j (xr m 0)))]) hl [0, 1, 2, 3] rfl) (by rfl)) (fun H locs ls G hl => ?_)
  refine lv_fload_n hx hb dX2_narrowSum_49 rfl (lv_at hl 2 rfl) ?_
  exact xx_fret S hr hlk G (by rfl) rfl dX2_narrowSum_50
