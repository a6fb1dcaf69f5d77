set_option maxRecDepth 100000
set_option maxHeartbeats 4000000
theorem dX0_setting_0 : decode cX0_setting 0 = .ok (.aload_n 0, 1) := by decide +kernel
theorem dX0_setting_1 : decode cX0_setting 1 = .ok (.iload_n 1, 1) := by decide +kernel
theorem dX0_setting_2 : decode cX0_setting 2 = .ok (.invokevirtual 138, 3) := by decide +kernel
theorem dX0_setting_5 : decode cX0_setting 5 = .ok (.ifCond .ne 6, 3) := by decide +kernel
theorem dX0_setting_8 : decode cX0_setting 8 = .ok (.bipush (-101), 2) := by decide +kernel
theorem dX0_setting_10 : decode cX0_setting 10 = .ok (.ireturn, 1) := by decide +kernel
theorem dX0_setting_11 : decode cX0_setting 11 = .ok (.aload_n 0, 1) := by decide +kernel
theorem dX0_setting_12 : decode cX0_setting 12 = .ok (.getfield 55, 3) := by decide +kernel
theorem dX0_setting_15 : decode cX0_setting 15 = .ok (.iload_n 1, 1) := by decide +kernel
theorem dX0_setting_16 : decode cX0_setting 16 = .ok (.aaload, 1) := by decide +kernel
theorem dX0_setting_17 : decode cX0_setting 17 = .ok (.getfield 151, 3) := by decide +kernel
theorem dX0_setting_20 : decode cX0_setting 20 = .ok (.lload_n 2, 1) := by decide +kernel
theorem dX0_setting_21 : decode cX0_setting 21 = .ok (.invokestatic 130, 3) := by decide +kernel
theorem dX0_setting_24 : decode cX0_setting 24 = .ok (.ifCond .ne 6, 3) := by decide +kernel
theorem dX0_setting_27 : decode cX0_setting 27 = .ok (.bipush (-102), 2) := by decide +kernel
theorem dX0_setting_29 : decode cX0_setting 29 = .ok (.ireturn, 1) := by decide +kernel
theorem dX0_setting_30 : decode cX0_setting 30 = .ok (.aload_n 0, 1) := by decide +kernel
theorem dX0_setting_31 : decode cX0_setting 31 = .ok (.getfield 88, 3) := by decide +kernel
theorem dX0_setting_34 : decode cX0_setting 34 = .ok (.ifCond .eq 6, 3) := by decide +kernel
theorem dX0_setting_37 : decode cX0_setting 37 = .ok (.bipush (-103), 2) := by decide +kernel
theorem dX0_setting_39 : decode cX0_setting 39 = .ok (.ireturn, 1) := by decide +kernel
theorem dX0_setting_40 : decode cX0_setting 40 = .ok (.aload_n 0, 1) := by decide +kernel
theorem dX0_setting_41 : decode cX0_setting 41 = .ok (.getfield 55, 3) := by decide +kernel
theorem dX0_setting_44 : decode cX0_setting 44 = .ok (.iload_n 1, 1) := by decide +kernel
theorem dX0_setting_45 : decode cX0_setting 45 = .ok (.aaload, 1) := by decide +kernel
theorem dX0_setting_46 : decode cX0_setting 46 = .ok (.lload_n 2, 1) := by decide +kernel
theorem dX0_setting_47 : decode cX0_setting 47 = .ok (.invokestatic 106, 3) := by decide +kernel
theorem dX0_setting_50 : decode cX0_setting 50 = .ok (.putfield 171, 3) := by decide +kernel
theorem dX0_setting_53 : decode cX0_setting 53 = .ok (.iconst 1, 1) := by decide +kernel
theorem dX0_setting_54 : decode cX0_setting 54 = .ok (.ireturn, 1) := by decide +kernel
theorem dX0_module_0 : decode cX0_module 0 = .ok (.iload_n 1, 1) := by decide +kernel
theorem dX0_module_1 : decode cX0_module 1 = .ok (.iconst 0, 1) := by decide +kernel
theorem dX0_module_2 : decode cX0_module 2 = .ok (.bipush 13, 2) := by decide +kernel
theorem dX0_module_4 : decode cX0_module 4 = .ok (.invokestatic 94, 3) := by decide +kernel
theorem dX0_module_7 : decode cX0_module 7 = .ok (.ifCond .eq 11, 3) := by decide +kernel
theorem dX0_module_10 : decode cX0_module 10 = .ok (.iload_n 1, 1) := by decide +kernel
theorem dX0_module_11 : decode cX0_module 11 = .ok (.lload_n 2, 1) := by decide +kernel
theorem dX0_module_12 : decode cX0_module 12 = .ok (.invokestatic 130, 3) := by decide +kernel
theorem dX0_module_15 : decode cX0_module 15 = .ok (.ifCond .ne 6, 3) := by decide +kernel
theorem dX0_module_18 : decode cX0_module 18 = .ok (.bipush (-102), 2) := by decide +kernel
theorem dX0_module_20 : decode cX0_module 20 = .ok (.ireturn, 1) := by decide +kernel
theorem dX0_module_21 : decode cX0_module 21 = .ok (.aload_n 0, 1) := by decide +kernel
theorem dX0_module_22 : decode cX0_module 22 = .ok (.getfield 88, 3) := by decide +kernel
theorem dX0_module_25 : decode cX0_module 25 = .ok (.ifCond .eq 6, 3) := by decide +kernel
theorem dX0_module_28 : decode cX0_module 28 = .ok (.bipush (-103), 2) := by decide +kernel
theorem dX0_module_30 : decode cX0_module 30 = .ok (.ireturn, 1) := by decide +kernel
theorem dX0_module_31 : decode cX0_module 31 = .ok (.aload_n 0, 1) := by decide +kernel
theorem dX0_module_32 : decode cX0_module 32 = .ok (.getfield 91, 3) := by decide +kernel
theorem dX0_module_35 : decode cX0_module 35 = .ok (.bipush 20, 2) := by decide +kernel
theorem dX0_module_37 : decode cX0_module 37 = .ok (.if_icmp .ne 6, 3) := by decide +kernel
theorem dX0_module_40 : decode cX0_module 40 = .ok (.bipush (-104), 2) := by decide +kernel
theorem dX0_module_42 : decode cX0_module 42 = .ok (.ireturn, 1) := by decide +kernel
theorem dX0_module_43 : decode cX0_module 43 = .ok (.aload_n 0, 1) := by decide +kernel
theorem dX0_module_44 : decode cX0_module 44 = .ok (.getfield 55, 3) := by decide +kernel
theorem dX0_module_47 : decode cX0_module 47 = .ok (.aload_n 0, 1) := by decide +kernel
theorem dX0_module_48 : decode cX0_module 48 = .ok (.getfield 91, 3) := by decide +kernel
theorem dX0_module_51 : decode cX0_module 51 = .ok (.iload_n 1, 1) := by decide +kernel
theorem dX0_module_52 : decode cX0_module 52 = .ok (.lload_n 2, 1) := by decide +kernel
theorem dX0_module_53 : decode cX0_module 53 = .ok (.invokestatic 106, 3) := by decide +kernel
theorem dX0_module_56 : decode cX0_module 56 = .ok (.invokestatic 134, 3) := by decide +kernel
theorem dX0_module_59 : decode cX0_module 59 = .ok (.aastore, 1) := by decide +kernel
theorem dX0_module_60 : decode cX0_module 60 = .ok (.aload_n 0, 1) := by decide +kernel
theorem dX0_module_61 : decode cX0_module 61 = .ok (.dup, 1) := by decide +kernel
theorem dX0_module_62 : decode cX0_module 62 = .ok (.getfield 91, 3) := by decide +kernel
theorem dX0_module_65 : decode cX0_module 65 = .ok (.iconst 1, 1) := by decide +kernel
theorem dX0_module_66 : decode cX0_module 66 = .ok (.iadd, 1) := by decide +kernel
theorem dX0_module_67 : decode cX0_module 67 = .ok (.putfield 91, 3) := by decide +kernel
theorem dX0_module_70 : decode cX0_module 70 = .ok (.aload_n 0, 1) := by decide +kernel
theorem dX0_module_71 : decode cX0_module 71 = .ok (.getfield 91, 3) := by decide +kernel
theorem dX0_module_74 : decode cX0_module 74 = .ok (.iconst 1, 1) := by decide +kernel
theorem dX0_module_75 : decode cX0_module 75 = .ok (.isub, 1) := by decide +kernel
theorem dX0_module_76 : decode cX0_module 76 = .ok (.ireturn, 1) := by decide +kernel
theorem dX0_point_0 : decode cX0_point 0 = .ok (.aload_n 0, 1) := by decide +kernel
theorem dX0_point_1 : decode cX0_point 1 = .ok (.iload_n 1, 1) := by decide +kernel
theorem dX0_point_2 : decode cX0_point 2 = .ok (.invokevirtual 138, 3) := by decide +kernel
theorem dX0_point_5 : decode cX0_point 5 = .ok (.ifCond .ne 6, 3) := by decide +kernel
theorem dX0_point_8 : decode cX0_point 8 = .ok (.bipush (-101), 2) := by decide +kernel
theorem dX0_point_10 : decode cX0_point 10 = .ok (.ireturn, 1) := by decide +kernel
theorem dX0_point_11 : decode cX0_point 11 = .ok (.aload_n 0, 1) := by decide +kernel
theorem dX0_point_12 : decode cX0_point 12 = .ok (.getfield 55, 3) := by decide +kernel
theorem dX0_point_15 : decode cX0_point 15 = .ok (.iload_n 1, 1) := by decide +kernel
theorem dX0_point_16 : decode cX0_point 16 = .ok (.aaload, 1) := by decide +kernel
theorem dX0_point_17 : decode cX0_point 17 = .ok (.getfield 151, 3) := by decide +kernel
theorem dX0_point_20 : decode cX0_point 20 = .ok (.bipush 7, 2) := by decide +kernel
theorem dX0_point_22 : decode cX0_point 22 = .ok (.if_icmp .ne 30, 3) := by decide +kernel
theorem dX0_point_25 : decode cX0_point 25 = .ok (.lload_n 2, 1) := by decide +kernel
theorem dX0_point_26 : decode cX0_point 26 = .ok (.ldc2_w 154, 3) := by decide +kernel
theorem dX0_point_29 : decode cX0_point 29 = .ok (.ldc2_w 126, 3) := by decide +kernel
theorem dX0_point_32 : decode cX0_point 32 = .ok (.invokestatic 114, 3) := by decide +kernel
theorem dX0_point_35 : decode cX0_point 35 = .ok (.ifCond .eq 17, 3) := by decide +kernel
theorem dX0_point_38 : decode cX0_point 38 = .ok (.lload 4, 2) := by decide +kernel
theorem dX0_point_40 : decode cX0_point 40 = .ok (.ldc2_w 154, 3) := by decide +kernel
theorem dX0_point_43 : decode cX0_point 43 = .ok (.ldc2_w 126, 3) := by decide +kernel
theorem dX0_point_46 : decode cX0_point 46 = .ok (.invokestatic 114, 3) := by decide +kernel
theorem dX0_point_49 : decode cX0_point 49 = .ok (.ifCond .ne 6, 3) := by decide +kernel
theorem dX0_point_52 : decode cX0_point 52 = .ok (.bipush (-102), 2) := by decide +kernel
theorem dX0_point_54 : decode cX0_point 54 = .ok (.ireturn, 1) := by decide +kernel
theorem dX0_point_55 : decode cX0_point 55 = .ok (.aload_n 0, 1) := by decide +kernel
theorem dX0_point_56 : decode cX0_point 56 = .ok (.getfield 55, 3) := by decide +kernel
theorem dX0_point_59 : decode cX0_point 59 = .ok (.iload_n 1, 1) := by decide +kernel
theorem dX0_point_60 : decode cX0_point 60 = .ok (.aaload, 1) := by decide +kernel
theorem dX0_point_61 : decode cX0_point 61 = .ok (.checkcast 25, 3) := by decide +kernel
theorem dX0_point_64 : decode cX0_point 64 = .ok (.astore 6, 2) := by decide +kernel
theorem dX0_point_66 : decode cX0_point 66 = .ok (.lload_n 2, 1) := by decide +kernel
theorem dX0_point_67 : decode cX0_point 67 = .ok (.invokestatic 106, 3) := by decide +kernel
theorem dX0_point_70 : decode cX0_point 70 = .ok (.dstore 7, 2) := by decide +kernel
theorem dX0_point_72 : decode cX0_point 72 = .ok (.aload 6, 2) := by decide +kernel
theorem dX0_point_74 : decode cX0_point 74 = .ok (.getfield 156, 3) := by decide +kernel
theorem dX0_point_77 : decode cX0_point 77 = .ok (.ifCond .le 27, 3) := by decide +kernel
theorem dX0_point_80 : decode cX0_point 80 = .ok (.dload 7, 2) := by decide +kernel
theorem dX0_point_82 : decode cX0_point 82 = .ok (.d2f, 1) := by decide +kernel
theorem dX0_point_83 : decode cX0_point 83 = .ok (.aload 6, 2) := by decide +kernel
theorem dX0_point_85 : decode cX0_point 85 = .ok (.getfield 157, 3) := by decide +kernel
theorem dX0_point_88 : decode cX0_point 88 = .ok (.aload 6, 2) := by decide +kernel
theorem dX0_point_90 : decode cX0_point 90 = .ok (.getfield 156, 3) := by decide +kernel
theorem dX0_point_93 : decode cX0_point 93 = .ok (.iconst 1, 1) := by decide +kernel
theorem dX0_point_94 : decode cX0_point 94 = .ok (.isub, 1) := by decide +kernel
theorem dX0_point_95 : decode cX0_point 95 = .ok (.daload, 1) := by decide +kernel
theorem dX0_point_96 : decode cX0_point 96 = .ok (.d2f, 1) := by decide +kernel
theorem dX0_point_97 : decode cX0_point 97 = .ok (.fcmp .g, 1) := by decide +kernel
theorem dX0_point_98 : decode cX0_point 98 = .ok (.ifCond .gt 6, 3) := by decide +kernel
theorem dX0_point_101 : decode cX0_point 101 = .ok (.bipush (-102), 2) := by decide +kernel
theorem dX0_point_103 : decode cX0_point 103 = .ok (.ireturn, 1) := by decide +kernel
theorem dX0_point_104 : decode cX0_point 104 = .ok (.aload_n 0, 1) := by decide +kernel
theorem dX0_point_105 : decode cX0_point 105 = .ok (.getfield 88, 3) := by decide +kernel
theorem dX0_point_108 : decode cX0_point 108 = .ok (.ifCond .eq 6, 3) := by decide +kernel
theorem dX0_point_111 : decode cX0_point 111 = .ok (.bipush (-103), 2) := by decide +kernel
theorem dX0_point_113 : decode cX0_point 113 = .ok (.ireturn, 1) := by decide +kernel
theorem dX0_point_114 : decode cX0_point 114 = .ok (.aload 6, 2) := by decide +kernel
theorem dX0_point_116 : decode cX0_point 116 = .ok (.getfield 156, 3) := by decide +kernel
theorem dX0_point_119 : decode cX0_point 119 = .ok (.bipush 8, 2) := by decide +kernel
theorem dX0_point_121 : decode cX0_point 121 = .ok (.if_icmp .ne 6, 3) := by decide +kernel
theorem dX0_point_124 : decode cX0_point 124 = .ok (.bipush (-104), 2) := by decide +kernel
theorem dX0_point_126 : decode cX0_point 126 = .ok (.ireturn, 1) := by decide +kernel
theorem dX0_point_127 : decode cX0_point 127 = .ok (.aload 6, 2) := by decide +kernel
theorem dX0_point_129 : decode cX0_point 129 = .ok (.getfield 157, 3) := by decide +kernel
theorem dX0_point_132 : decode cX0_point 132 = .ok (.aload 6, 2) := by decide +kernel
theorem dX0_point_134 : decode cX0_point 134 = .ok (.getfield 156, 3) := by decide +kernel
theorem dX0_point_137 : decode cX0_point 137 = .ok (.dload 7, 2) := by decide +kernel
theorem dX0_point_139 : decode cX0_point 139 = .ok (.dastore, 1) := by decide +kernel
theorem dX0_point_140 : decode cX0_point 140 = .ok (.aload 6, 2) := by decide +kernel
theorem dX0_point_142 : decode cX0_point 142 = .ok (.getfield 160, 3) := by decide +kernel
theorem dX0_point_145 : decode cX0_point 145 = .ok (.aload 6, 2) := by decide +kernel
theorem dX0_point_147 : decode cX0_point 147 = .ok (.getfield 156, 3) := by decide +kernel
theorem dX0_point_150 : decode cX0_point 150 = .ok (.lload 4, 2) := by decide +kernel
theorem dX0_point_152 : decode cX0_point 152 = .ok (.invokestatic 106, 3) := by decide +kernel
theorem dX0_point_155 : decode cX0_point 155 = .ok (.dastore, 1) := by decide +kernel
theorem dX0_point_156 : decode cX0_point 156 = .ok (.aload 6, 2) := by decide +kernel
theorem dX0_point_158 : decode cX0_point 158 = .ok (.dup, 1) := by decide +kernel
theorem dX0_point_159 : decode cX0_point 159 = .ok (.getfield 156, 3) := by decide +kernel
theorem dX0_point_162 : decode cX0_point 162 = .ok (.iconst 1, 1) := by decide +kernel
theorem dX0_point_163 : decode cX0_point 163 = .ok (.iadd, 1) := by decide +kernel
theorem dX0_point_164 : decode cX0_point 164 = .ok (.putfield 156, 3) := by decide +kernel
theorem dX0_point_167 : decode cX0_point 167 = .ok (.aload 6, 2) := by decide +kernel
theorem dX0_point_169 : decode cX0_point 169 = .ok (.getfield 156, 3) := by decide +kernel
theorem dX0_point_172 : decode cX0_point 172 = .ok (.ireturn, 1) := by decide +kernel
theorem hd_X0_isSetting : yX0_isSetting.cls ≠ "java/lang/invoke/MethodHandle" ∧ yX0_isSetting.cls ≠ "java/lang/invoke/VarHandle" ∧ (parseMethodDescriptor yX0_isSetting.desc).map (fun d => d.parameters.length) = some 2 := by decide +kernel
theorem hd_X0_newModule : yX0_newModule.cls ≠ "java/lang/invoke/MethodHandle" ∧ yX0_newModule.cls ≠ "java/lang/invoke/VarHandle" ∧ (parseMethodDescriptor yX0_newModule.desc).map (fun d => d.parameters.length) = some 2 := by decide +kernel
theorem fy_leg {a b : UInt32} (ha : fF a) (hb : fF b) : fy_gt a b = !fy_le a b := by
  rw [fy_gt_z ha hb, fy_le_z ha hb]
  by_cases h : zF a ≤ zF b
  · rw [decide_eq_true h, decide_eq_false (by omega)]; rfl
  · rw [decide_eq_false h, decide_eq_true (by omega)]; rfl
theorem sm_b {b : Int64} (h : smB b = true) : bD 1075 b.toUInt64 := by
  unfold smB at h
  rw [Bool.and_eq_true] at h
  obtain ⟨a1, a2, a3⟩ := wi_fin fD_m15 fD_15 h.2
  rw [bD_z a1]
  rw [zD_m15] at a2; rw [zD_15] at a3
  have := fl_3
  generalize 3 * 2 ^ 1073 = V at *
  generalize 2 ^ 1075 = V2 at *
  omega
theorem pt_t {C : tp_C} {u : Nat} {x : Int64} (hV : vOK C) (hx : smB x = true) (h : fy_le (FP.d2f x.toUInt64) (FP.d2f (cX C u (cP C u - 1))) = false) : ptU C u x = true := by
  have a := sm_b hx
  have b := hV.x u (cP C u - 1)
  have g : fy_gt (FP.d2f x.toUInt64) (FP.d2f (cX C u (cP C u - 1))) = true := by rw [fy_leg (bF_f (bF_d2f a)) (bF_f (bF_d2f b)), h]; rfl
  unfold ptU
  rw [g, d2f_gt a b g]
  simp
theorem pt_f {C : tp_C} {u : Nat} {x : Int64} (hV : vOK C) (hx : smB x = true) (h0 : ¬ cP C u = 0) (h : fy_le (FP.d2f x.toUInt64) (FP.d2f (cX C u (cP C u - 1))) = true) : ptU C u x = false := by
  have a := sm_b hx
  have b := hV.x u (cP C u - 1)
  have g : fy_gt (FP.d2f x.toUInt64) (FP.d2f (cX C u (cP C u - 1))) = false := by rw [fy_leg (bF_f (bF_d2f a)) (bF_f (bF_d2f b)), h]; rfl
  unfold ptU
  rw [g, decide_eq_false h0]
  simp
theorem pt_0 {C : tp_C} {u : Nat} {x : Int64} (h0 : cP C u = 0) : ptU C u x = true := by unfold ptU; rw [decide_eq_true h0]; rfl
theorem cmb_1 {dA : Nat → ClassId} {C : tp_C} {d : md_T} {j : xj_T} {w' : wr_F} {N : Nat} : cmb (xW dA C d j) w' N 1 = some (jA j 1, e_Q (dA 5) 20 (fun m => if m < cN C then some (jA j (xr m 0)) else none)) := by
  unfold cmb; rw [if_neg (by unfold xr; omega)]; exact xW_p (by decide) rfl
theorem cmb_0 {dA : Nat → ClassId} {C : tp_C} {d : md_T} {j : xj_T} {w' : wr_F} {N : Nat} : cmb (xW dA C d j) w' N 0 = some (jA j 0, .inr (0, xPs C d j)) := by
  unfold cmb; rw [if_neg (by unfold xr; omega)]; exact xW_p (by decide) rfl
theorem cmb_N {dA : Nat → ClassId} {w : wr_F} {k : Nat} {s : UInt64} {ad : Nat → Nat} {N : Nat} : cmb w (nmW dA k s ad) N (xr N 0) = some (ad 10, .inr (k + 2, xFs (nmC k s) nmd (nmj ad) 0)) := by
  unfold cmb; rw [if_pos (by omega), show xr N 0 - 6 * N = xr 0 0 by unfold xr; omega]
  show (if 10 ≤ xr 0 0 ∧ xr 0 0 < 16 then xW dA (nmC k s) nmd (nmj ad) (xr 0 0) else none) = _
  rw [if_pos (by decide), xW_m (m := 0) (i := 0) (by decide) (show 0 < cN (nmC k s) from Nat.zero_lt_one) rfl]; rfl
theorem nwJ_0 (j : xj_T) (N : Nat) (ad : Nat → Nat) {r : Nat} (h : r < 10) : jA (nwJ j N ad) r = jA j r := if_neg (by unfold xr; omega)
/-- what the panel is behind a new module -/
def nmP (C : tp_C) (d : md_T) (j : xj_T) (k : Int32) (s : Int64) (o : Option Value) (C' : tp_C) (d' : md_T) (j' : xj_T) : Prop := o = some (.int (mdR C k s)) ∧ C' = mdC C k s ∧ d' = d ∧ ((C' = C ∧ j' = j) ∨ (mdB k s = true ∧ cM C = 0 ∧ cN C < 20 ∧ C' = nwC C (ixN k) s.toUInt64 ∧ ∃ ad, j' = nwJ j (cN C) ad))
theorem xPs_l (C : tp_C) (d : md_T) (j : xj_T) : (xPs C d j).length = 17 := by simp [xPs]
theorem xt_X0_setting (l : Launch) (D : va_G) (dA : Nat → ClassId) (C : tp_C) (d : md_T) (j : xj_T) (m : Int32) (v : Int64) (hC : mOK C) : xR l D dA yX0_setting cX0_setting 4 (some .int) { frames := 4, cells := 0, slots := 0, locals := 1130 } [.ref (jA j 0), .int m, .long v] C d j (fun o C' d' j' => o = some (.int (seR C m v)) ∧ C' = seC C m v ∧ d' = d ∧ j' = j) := by
  refine xx_startR (own := RX0) (by decide) rfl (Nat.le_of_ble_eq_true rfl) ?_
  intro p0 e0 s0 mid bl0 me0 co0 ls S hr hlk G hl
  have hx := S.1; have hb := S.2.1; have hml := S.2.2.1; have hown := S.2.2.2.1; have hts := S.2.2.2.2; have hN := hC.n
  have hA : ∀ q, s0.heap.size ≤ q → xB (xA dA C d j) s0.heap.size q := fun q h => Or.inr h
  have hl : lv_has ls 4 [(0, .ref (jA j 0)), (1, .int m), (2, .long v)] := hl
  have hMo := hC.mo
  have hZ := hC.z
  refine lv_aload_n hx hb dX0_setting_0 rfl (lv_at hl 0 rfl) ?_
  refine lv_iload_n hx hb dX0_setting_1 rfl (lv_at hl 1 rfl) ?_
  refine xx_callP (As := [.int m]) (rest := []) S G (xt_X0_isModule l D dA C d j m hC) q575 q577 qs0 q578 hd_X0_isModule ⟨Nat.le_of_ble_eq_true rfl, Nat.le_of_ble_eq_true rfl⟩ rfl hl.1 rfl (Nat.le_of_ble_eq_true rfl) dX0_setting_2 ⟨(show 0 ≤ 0 by omega), (show 0 ≤ 0 by omega)⟩ (fun H locs G => ?_)
  refine W.eq (g2 := F0 mid 5 ls [.int (bI (inB m (nI 0) (nI (cN C) - nI 1)))]) rfl ?_
  refine bb_ne (tgt := 11) hx hb dX0_setting_5 (by decide) (fun c_5 => ?_) (fun c_5 => ?_)
  · obtain ⟨u, hu, rfl⟩ := im_nat c_5 hN
    have ij_u : ixN (nI u) = u := ixN_nI (by omega)
    have hk14 := hC.k u
    refine lv_aload_n hx hb dX0_setting_11 rfl (lv_at hl 0 rfl) ?_
    refine xx_getP S G 0 (by decide) q89 rfl (v := .ref (jA j 1)) rfl dX0_setting_12 ?_
    refine lv_iload_n hx hb dX0_setting_15 rfl (lv_at hl 1 rfl) ?_
    refine xx_aald S G (r := 1) (by decide) (xW_p (by decide) rfl) (i := u) (by omega) (by decide) (o := some (jA j (xr u 0))) (if_pos (by omega)) dX0_setting_16 ?_
    refine W.eq (g2 := F0 mid 17 ls [.ref (jA j (xr u 0))]) rfl ?_
    refine xx_get11 S G (mm := u) (by omega) hN (hC.k _) 0 (by decide) q203 rfl (v := .int (nI (cK C u))) rfl dX0_setting_17 ?_
    refine lv_lload_n hx hb dX0_setting_20 rfl (lv_at hl 2 rfl) ?_
    refine sR_call (As := [.int (nI (cK C u)), .long v]) (rest := []) S (st_X0_isSetting l (cK C u) v (by omega)) q152 q153 q52 q154 hd_X0_isSetting ⟨Nat.le_of_ble_eq_true rfl, Nat.le_of_ble_eq_true rfl⟩ rfl hl.1 rfl (Nat.le_of_ble_eq_true rfl) dX0_setting_21 ⟨(show 0 ≤ 0 by omega), (show 0 ≤ 0 by omega)⟩ ?_
    refine W.eq (g2 := F0 mid 24 ls [.int (bI (nbB v && stB (cK C u) v.toUInt64))]) rfl ?_
    refine bb_ne (tgt := 30) hx hb dX0_setting_24 (by decide) (fun c_24 => ?_) (fun c_24 => ?_)
    · refine lv_aload_n hx hb dX0_setting_30 rfl (lv_at hl 0 rfl) ?_
      refine xx_getP S G 2 (by decide) q91 rfl (v := .int (nI (cM C))) rfl dX0_setting_31 ?_
      refine nz_eq (tgt := 40) hx hb (by omega) dX0_setting_34 (by decide) (fun c_34 => ?_) (fun c_34 => ?_)
      · refine lv_aload_n hx hb dX0_setting_40 rfl (lv_at hl 0 rfl) ?_
        refine xx_getP S G 0 (by decide) q89 rfl (v := .ref (jA j 1)) rfl dX0_setting_41 ?_
        refine lv_iload_n hx hb dX0_setting_44 rfl (lv_at hl 1 rfl) ?_
        refine xx_aald S G (r := 1) (by decide) (xW_p (by decide) rfl) (i := u) (by omega) (by decide) (o := some (jA j (xr u 0))) (if_pos (by omega)) dX0_setting_45 ?_
        refine W.eq (g2 := F0 mid 46 ls [.ref (jA j (xr u 0))]) rfl ?_
        refine lv_lload_n hx hb dX0_setting_46 rfl (lv_at hl 2 rfl) ?_
        refine vn_l2d hx hb (hml.trans hl.1.symm) hown (hts _ q164) (hts _ q166) (hts _ q165) (hts _ q55) (nb_sn (nb_n ((Bool.and_eq_true _ _).mp c_24).1)) (Nat.le_of_ble_eq_true rfl) (Nat.le_of_ble_eq_true rfl) dX0_setting_47 ?_
        refine xx_put11 S G (mm := u) (by omega) hN (hC.k _) 1 (by decide) q213 rfl rfl rfl rfl (xs_setting (by omega)) dX0_setting_50 (fun H locs G => ?_)
        refine lv_iconst (v := nI 1) hx hb dX0_setting_53 (by decide) ?_
        exact xx_iretN S hr hlk G (show 0 ≤ 0 by omega) (show 0 ≤ 0 by omega) ⟨by simp [seR, seB, imB, c_5, ij_u, c_24, c_34] <;> rfl, by simp [seC, seB, imB, c_5, ij_u, c_24, c_34] <;> rfl, rfl, rfl⟩ dX0_setting_54
      · refine lv_bipush (v := (-103)) hx hb dX0_setting_37 (by decide) ?_
        exact xx_iretN S hr hlk G (show 0 ≤ 0 by omega) (show 0 ≤ 0 by omega) ⟨by simp [seR, seB, imB, c_5, ij_u, c_24, c_34] <;> rfl, by simp [seC, seB, imB, c_5, ij_u, c_24, c_34] <;> rfl, rfl, rfl⟩ dX0_setting_39
    · refine lv_bipush (v := (-102)) hx hb dX0_setting_27 (by decide) ?_
      exact xx_iretN S hr hlk G (show 0 ≤ 0 by omega) (show 0 ≤ 0 by omega) ⟨by simp [seR, seB, imB, c_5, ij_u, c_24] <;> rfl, by simp [seC, seB, imB, c_5, ij_u, c_24] <;> rfl, rfl, rfl⟩ dX0_setting_29
  · refine lv_bipush (v := (-101)) hx hb dX0_setting_8 (by decide) ?_
    exact xx_iretN S hr hlk G (show 0 ≤ 0 by omega) (show 0 ≤ 0 by omega) ⟨by simp [seR, seB, imB, c_5] <;> rfl, by simp [seC, seB, imB, c_5] <;> rfl, rfl, rfl⟩ dX0_setting_10
theorem xt_X0_module (l : Launch) (D : va_G) (dA : Nat → ClassId) (C : tp_C) (d : md_T) (j : xj_T) (k : Int32) (s : Int64) (hC : mOK C) (hfC : fdC C) (hfD : fdD C d) : xR l D dA yX0_module cX0_module 4 (some .int) { frames := 5, cells := 6, slots := 52, locals := 1130 } [.ref (jA j 0), .int k, .long s] C d j (nmP C d j k s) := by
  refine xx_startR (own := RX0) (by decide) rfl (Nat.le_of_ble_eq_true rfl) ?_
  intro p0 e0 s0 mid bl0 me0 co0 ls S hr hlk G hl
  have hx := S.1; have hb := S.2.1; have hml := S.2.2.1; have hown := S.2.2.2.1; have hts := S.2.2.2.2; have hN := hC.n
  have hA : ∀ q, s0.heap.size ≤ q → xB (xA dA C d j) s0.heap.size q := fun q h => Or.inr h
  have hl : lv_has ls 4 [(0, .ref (jA j 0)), (1, .int k), (2, .long s)] := hl
  have hMo := hC.mo
  have hZ := hC.z
  refine lv_iload_n hx hb dX0_module_0 rfl (lv_at hl 1 rfl) ?_
  refine lv_iconst (v := nI 0) hx hb dX0_module_1 (by decide) ?_
  refine lv_bipush (v := nI 13) hx hb dX0_module_2 (by decide) ?_
  refine sC_call (As := [.int k, .int (nI 0), .int (nI 13)]) (rest := []) S (st_X0_isIn l k (nI 0) (nI 13)) q149 q150 q52 q151 hd_X0_isIn ⟨Nat.le_of_ble_eq_true rfl, Nat.le_of_ble_eq_true rfl⟩ rfl hl.1 rfl (Nat.le_of_ble_eq_true rfl) dX0_module_4 ⟨(show 0 ≤ 6 by omega), (show 0 ≤ 52 by omega)⟩ ?_
  refine W.eq (g2 := F0 mid 7 ls [.int (bI (inB k (nI 0) (nI 13)))]) rfl ?_
  refine bb_eq (tgt := 18) hx hb dX0_module_7 (by decide) (fun c_7 => ?_) (fun c_7 => ?_)
  · refine lv_bipush (v := (-102)) hx hb dX0_module_18 (by decide) ?_
    exact xx_iretN S hr hlk G (show 0 ≤ 6 by omega) (show 0 ≤ 52 by omega) ⟨by simp [mdR, mdB, c_7] <;> rfl, by simp [mdC, mdB, c_7] <;> rfl, rfl, Or.inl ⟨rfl, rfl⟩⟩ dX0_module_20
  · obtain ⟨k1, -, hk1, rfl⟩ := in_nat c_7 (by decide) (by decide)
    have ij_k1 : ixN (nI k1) = k1 := ixN_nI (by omega)
    refine lv_iload_n hx hb dX0_module_10 rfl (lv_at hl 1 rfl) ?_
    refine lv_lload_n hx hb dX0_module_11 rfl (lv_at hl 2 rfl) ?_
    refine sR_call (As := [.int (nI k1), .long s]) (rest := []) S (st_X0_isSetting l k1 s (by omega)) q152 q153 q52 q154 hd_X0_isSetting ⟨Nat.le_of_ble_eq_true rfl, Nat.le_of_ble_eq_true rfl⟩ rfl hl.1 rfl (Nat.le_of_ble_eq_true rfl) dX0_module_12 ⟨(show 0 ≤ 6 by omega), (show 0 ≤ 52 by omega)⟩ ?_
    refine W.eq (g2 := F0 mid 15 ls [.int (bI (nbB s && stB k1 s.toUInt64))]) rfl ?_
    refine bb_ne (tgt := 21) hx hb dX0_module_15 (by decide) (fun c_15 => ?_) (fun c_15 => ?_)
    · refine lv_aload_n hx hb dX0_module_21 rfl (lv_at hl 0 rfl) ?_
      refine xx_getP S G 2 (by decide) q91 rfl (v := .int (nI (cM C))) rfl dX0_module_22 ?_
      refine nz_eq (tgt := 31) hx hb (by omega) dX0_module_25 (by decide) (fun c_25 => ?_) (fun c_25 => ?_)
      · refine lv_aload_n hx hb dX0_module_31 rfl (lv_at hl 0 rfl) ?_
        refine xx_getP S G 1 (by decide) q90 rfl (v := .int (nI (cN C))) rfl dX0_module_32 ?_
        refine lv_bipush (v := nI 20) hx hb dX0_module_35 (by decide) ?_
        refine nn_cne (tgt := 43) hx hb (by omega) (by omega) dX0_module_37 (by decide) (fun c_37 => ?_) (fun c_37 => ?_)
        · refine lv_aload_n hx hb dX0_module_43 rfl (lv_at hl 0 rfl) ?_
          refine xx_getP S G 0 (by decide) q89 rfl (v := .ref (jA j 1)) rfl dX0_module_44 ?_
          refine lv_aload_n hx hb dX0_module_47 rfl (lv_at hl 0 rfl) ?_
          refine xx_getP S G 1 (by decide) q90 rfl (v := .int (nI (cN C))) rfl dX0_module_48 ?_
          refine lv_iload_n hx hb dX0_module_51 rfl (lv_at hl 1 rfl) ?_
          refine lv_lload_n hx hb dX0_module_52 rfl (lv_at hl 2 rfl) ?_
          refine vn_l2d hx hb (hml.trans hl.1.symm) hown (hts _ q164) (hts _ q166) (hts _ q165) (hts _ q55) (nb_sn (nb_n ((Bool.and_eq_true _ _).mp c_15).1)) (Nat.le_of_ble_eq_true rfl) (Nat.le_of_ble_eq_true rfl) dX0_module_53 ?_
          refine ww_callSN (As := [.int (nI k1), .double ((s).toUInt64)]) (rest := [.int (nI (cN C)), .ref (jA j 1)]) S (xG_w G) hA (ct_X0_newModule l D dA k1 ((s).toUInt64) (by omega)) q189 q190 q52 q191 hd_X0_newModule ⟨Nat.le_of_ble_eq_true rfl, Nat.le_of_ble_eq_true rfl⟩ rfl hl.1 rfl (Nat.le_of_ble_eq_true rfl) dX0_module_56 ⟨(show 0 + 6 ≤ 6 by omega), (show 0 + 52 ≤ 52 by omega)⟩ (fun o_ w_ H locs hp G G1 hlt hge => ?_)
          obtain ⟨ad, rfl, rfl⟩ := hp
          have hN20 : cN C < 20 := by omega
          have G := cmb_G hN20 G G1 hlt hge
          refine W.eq (g2 := F0 mid 59 ls [.ref (ad 10), .int (nI (cN C)), .ref (jA j 1)]) rfl ?_
          refine ww_aast S G (r := 1) (by decide) cmb_1 (rv := xr (cN C) 0) (by unfold xr; omega) cmb_N (by omega) (i := cN C) hN20 (by decide) dX0_module_59 (fun H locs G => ?_)
          refine lv_aload_n hx hb dX0_module_60 rfl (lv_at hl 0 rfl) ?_
          refine lv_dup hx hb dX0_module_61 rfl ?_
          refine oo_get S G (ci := 0) (Cl := RX0) (T := TX0) (N := 17) rfl in_X0 (r := 0) (by decide) ((wr_s_ne (by decide)).trans cmb_0) 1 (by decide) (ref := RX0) q90 (fun x h => h) (v := .int (nI (cN C))) (xPs_at (by decide) rfl) dX0_module_62 ?_
          refine lv_iconst (v := nI 1) hx hb dX0_module_65 (by decide) ?_
          refine nn_add hx hb dX0_module_66 ?_
          refine oo_put S G (ci := 0) (Cl := RX0) (T := TX0) (N := 17) rfl in_X0 tyX0 tyX0_ok nmX0 (r := 0) (by decide) ((wr_s_ne (by decide)).trans cmb_0) (xPs_l _ _ _) 1 (by decide) (ref := RX0) q90 (fun x h => h) (Or.inl rfl) rfl rfl dX0_module_67 (fun H locs G => ?_)
          have G : xG D dA (xB (xA dA C d j) s0.heap.size) (nwC C k1 ((s).toUInt64)) d (nwJ j (cN C) ad) s0 H locs := wG_x (xs_new hC hfC hfD (by omega) hN20) G
          have hA1 := nwJ_0 j (cN C) ad (r := 0) (by decide)
          rw [← hA1] at hl
          refine lv_aload_n hx hb dX0_module_70 rfl (lv_at hl 0 rfl) ?_
          refine xx_getP (j := (nwJ j (cN C) ad)) S G 1 (by decide) q90 rfl (v := .int (nI (cN C + 1))) rfl dX0_module_71 ?_
          refine lv_iconst (v := nI 1) hx hb dX0_module_74 (by decide) ?_
          refine nn_sub hx hb (by omega) dX0_module_75 ?_
          exact xx_iretN S hr hlk G (show 0 + 6 ≤ 6 by omega) (show 0 + 52 ≤ 52 by omega) ⟨by simp [mdR, mdB, c_7, ij_k1, c_15, c_25, c_37] <;> rfl, by simp [mdC, mdB, c_7, ij_k1, c_15, c_25, c_37] <;> rfl, rfl, Or.inr ⟨by simp [mdB, c_7, ij_k1, c_15, c_25, c_37], by omega, hN20, by rw [ij_k1], ad, rfl⟩⟩ dX0_module_76
        · refine lv_bipush (v := (-104)) hx hb dX0_module_40 (by decide) ?_
          exact xx_iretN S hr hlk G (show 0 ≤ 6 by omega) (show 0 ≤ 52 by omega) ⟨by simp [mdR, mdB, c_7, ij_k1, c_15, c_25, c_37] <;> rfl, by simp [mdC, mdB, c_7, ij_k1, c_15, c_25, c_37] <;> rfl, rfl, Or.inl ⟨rfl, rfl⟩⟩ dX0_module_42
      · refine lv_bipush (v := (-103)) hx hb dX0_module_28 (by decide) ?_
        exact xx_iretN S hr hlk G (show 0 ≤ 6 by omega) (show 0 ≤ 52 by omega) ⟨by simp [mdR, mdB, c_7, ij_k1, c_15, c_25] <;> rfl, by simp [mdC, mdB, c_7, ij_k1, c_15, c_25] <;> rfl, rfl, Or.inl ⟨rfl, rfl⟩⟩ dX0_module_30
    · refine lv_bipush (v := (-102)) hx hb dX0_module_18 (by decide) ?_
      exact xx_iretN S hr hlk G (show 0 ≤ 6 by omega) (show 0 ≤ 52 by omega) ⟨by simp [mdR, mdB, c_7, ij_k1, c_15] <;> rfl, by simp [mdC, mdB, c_7, ij_k1, c_15] <;> rfl, rfl, Or.inl ⟨rfl, rfl⟩⟩ dX0_module_20
theorem xt_X0_point (l : Launch) (D : va_G) (dA : Nat → ClassId) (C : tp_C) (d : md_T) (j : xj_T) (m : Int32) (x : Int64) (y : Int64) (hC : mOK C) (hV : vOK C) : xC l D dA yX0_point cX0_point 9 (some .int) 2 [.ref (jA j 0), .int m, .long x, .long y] C d j (some (.int (ptR C m x y))) (ptC C m x y) d j := by
  refine xx_start (own := RX0) (by decide) rfl (Nat.le_of_ble_eq_true rfl) ?_
  intro p0 e0 s0 mid bl0 me0 co0 ls S hr hlk G hl
  have hx := S.1; have hb := S.2.1; have hml := S.2.2.1; have hown := S.2.2.2.1; have hts := S.2.2.2.2; have hN := hC.n
  have hl : lv_has ls 9 [(0, .ref (jA j 0)), (1, .int m), (2, .long x), (4, .long y)] := hl
  have hMo := hC.mo
  have hZ := hC.z
  refine lv_aload_n hx hb dX0_point_0 rfl (lv_at hl 0 rfl) ?_
  refine lv_iload_n hx hb dX0_point_1 rfl (lv_at hl 1 rfl) ?_
  refine xx_callP (As := [.int m]) (rest := []) S G (xt_X0_isModule l D dA C d j m hC) q575 q577 qs0 q578 hd_X0_isModule ⟨Nat.le_of_ble_eq_true rfl, Nat.le_of_ble_eq_true rfl⟩ rfl hl.1 rfl (Nat.le_of_ble_eq_true rfl) dX0_point_2 ⟨Nat.zero_le _, Nat.zero_le _⟩ (fun H locs G => ?_)
  refine W.eq (g2 := F0 mid 5 ls [.int (bI (inB m (nI 0) (nI (cN C) - nI 1)))]) rfl ?_
  refine bb_ne (tgt := 11) hx hb dX0_point_5 (by decide) (fun c_5 => ?_) (fun c_5 => ?_)
  · obtain ⟨u, hu, rfl⟩ := im_nat c_5 hN
    have ij_u : ixN (nI u) = u := ixN_nI (by omega)
    have hk14 := hC.k u
    have hp8 := hC.p u
    refine lv_aload_n hx hb dX0_point_11 rfl (lv_at hl 0 rfl) ?_
    refine xx_getP S G 0 (by decide) q89 rfl (v := .ref (jA j 1)) rfl dX0_point_12 ?_
    refine lv_iload_n hx hb dX0_point_15 rfl (lv_at hl 1 rfl) ?_
    refine xx_aald S G (r := 1) (by decide) (xW_p (by decide) rfl) (i := u) (by omega) (by decide) (o := some (jA j (xr u 0))) (if_pos (by omega)) dX0_point_16 ?_
    refine W.eq (g2 := F0 mid 17 ls [.ref (jA j (xr u 0))]) rfl ?_
    refine xx_get11 S G (mm := u) (by omega) hN (hC.k _) 0 (by decide) q203 rfl (v := .int (nI (cK C u))) rfl dX0_point_17 ?_
    refine lv_bipush (v := nI 7) hx hb dX0_point_20 (by decide) ?_
    refine nn_cne (tgt := 52) hx hb (by omega) (by omega) dX0_point_22 (by decide) (fun c_22 => ?_) (fun c_22 => ?_)
    · refine lv_bipush (v := (-102)) hx hb dX0_point_52 (by decide) ?_
      exact xx_iret S hr hlk G (by simp [ptR, ptC, ptB, smB, imB, c_5, ij_u, c_22] <;> rfl) (xL_e (by simp [ptR, ptC, ptB, smB, imB, c_5, ij_u, c_22] <;> rfl) rfl rfl) dX0_point_54
    · refine lv_lload_n hx hb dX0_point_25 rfl (lv_at hl 2 rfl) ?_
      refine lv_ldc2d hx hb hown (hts _ q583) dX0_point_26 ?_
      refine lv_ldc2d hx hb hown (hts _ q187) dX0_point_29 ?_
      refine sC_call (As := [.long x, .double 13832806255468478464, .double 4609434218613702656]) (rest := []) S (st_X0_isWithin l x 13832806255468478464 4609434218613702656) q156 q157 q52 q158 hd_X0_isWithin ⟨Nat.le_of_ble_eq_true rfl, Nat.le_of_ble_eq_true rfl⟩ rfl hl.1 rfl (Nat.le_of_ble_eq_true rfl) dX0_point_32 ⟨Nat.zero_le _, Nat.zero_le _⟩ ?_
      refine W.eq (g2 := F0 mid 35 ls [.int (bI (nbB x && wiB x.toUInt64 13832806255468478464 4609434218613702656))]) rfl ?_
      refine bb_eq (tgt := 52) hx hb dX0_point_35 (by decide) (fun c_35 => ?_) (fun c_35 => ?_)
      · refine lv_bipush (v := (-102)) hx hb dX0_point_52 (by decide) ?_
        exact xx_iret S hr hlk G (by simp [ptR, ptC, ptB, smB, imB, c_5, ij_u, c_22, c_35] <;> rfl) (xL_e (by simp [ptR, ptC, ptB, smB, imB, c_5, ij_u, c_22, c_35] <;> rfl) rfl rfl) dX0_point_54
      · refine lv_lload hx hb dX0_point_38 (lv_at hl 3 rfl) ?_
        refine lv_ldc2d hx hb hown (hts _ q583) dX0_point_40 ?_
        refine lv_ldc2d hx hb hown (hts _ q187) dX0_point_43 ?_
        refine sC_call (As := [.long y, .double 13832806255468478464, .double 4609434218613702656]) (rest := []) S (st_X0_isWithin l y 13832806255468478464 4609434218613702656) q156 q157 q52 q158 hd_X0_isWithin ⟨Nat.le_of_ble_eq_true rfl, Nat.le_of_ble_eq_true rfl⟩ rfl hl.1 rfl (Nat.le_of_ble_eq_true rfl) dX0_point_46 ⟨Nat.zero_le _, Nat.zero_le _⟩ ?_
        refine W.eq (g2 := F0 mid 49 ls [.int (bI (nbB y && wiB y.toUInt64 13832806255468478464 4609434218613702656))]) rfl ?_
        refine bb_ne (tgt := 55) hx hb dX0_point_49 (by decide) (fun c_49 => ?_) (fun c_49 => ?_)
        · refine lv_aload_n hx hb dX0_point_55 rfl (lv_at hl 0 rfl) ?_
          refine xx_getP S G 0 (by decide) q89 rfl (v := .ref (jA j 1)) rfl dX0_point_56 ?_
          refine lv_iload_n hx hb dX0_point_59 rfl (lv_at hl 1 rfl) ?_
          refine xx_aald S G (r := 1) (by decide) (xW_p (by decide) rfl) (i := u) (by omega) (by decide) (o := some (jA j (xr u 0))) (if_pos hu) dX0_point_60 ?_
          refine W.eq (g2 := F0 mid 61 ls [.ref (jA j (xr u 0))]) rfl ?_
          refine xx_cast S G (mm := u) hu hN (hC.k _) (by rw [c_22]; exact q414) dX0_point_61 ?_
          refine lv_astore (lv' := [(6, .ref (jA j (xr u 0))), (0, .ref (jA j 0)), (1, .int (nI u)), (2, .long x), (4, .long y)]) hx hb dX0_point_64 hl (by decide) rfl (fun ls hl => ?_)
          refine lv_lload_n hx hb dX0_point_66 rfl (lv_at hl 3 rfl) ?_
          refine vn_l2d hx hb (hml.trans hl.1.symm) hown (hts _ q164) (hts _ q166) (hts _ q165) (hts _ q55) (nb_sn (nb_n (sm_nb c_35))) (Nat.le_of_ble_eq_true rfl) (Nat.le_of_ble_eq_true rfl) dX0_point_67 ?_
          refine lv_dstore (lv' := [(7, .double ((x).toUInt64)), (6, .ref (jA j (xr u 0))), (0, .ref (jA j 0)), (1, .int (nI u)), (2, .long x), (4, .long y)]) hx hb dX0_point_70 hl (by decide) rfl (fun ls hl => ?_)
          refine lv_aload hx hb dX0_point_72 (lv_at hl 1 rfl) ?_
          refine xx_getM S G (mm := u) (ref := "TwinPanel$Table") hu hN (hC.k _) 13 (by rw [c_22]; decide) (by rw [c_22]; exact hts _ q425) (by rw [c_22]; exact fun x h => h) (v := .int (nI (cP C u))) (xV_7_13 c_22) dX0_point_74 ?_
          refine nz_le (tgt := 104) hx hb (by omega) dX0_point_77 (by decide) (fun c_77 => ?_) (fun c_77 => ?_)
          · have cU : ptU C u x = true := pt_0 (by omega)
            refine lv_aload_n hx hb dX0_point_104 rfl (lv_at hl 2 rfl) ?_
            refine xx_getP S G 2 (by decide) q91 rfl (v := .int (nI (cM C))) rfl dX0_point_105 ?_
            refine nz_eq (tgt := 114) hx hb (by omega) dX0_point_108 (by decide) (fun c_108 => ?_) (fun c_108 => ?_)
            · refine lv_aload hx hb dX0_point_114 (lv_at hl 1 rfl) ?_
              refine xx_getM S G (mm := u) (ref := "TwinPanel$Table") hu hN (hC.k _) 13 (by rw [c_22]; decide) (by rw [c_22]; exact hts _ q425) (by rw [c_22]; exact fun x h => h) (v := .int (nI (cP C u))) (xV_7_13 c_22) dX0_point_116 ?_
              refine lv_bipush (v := nI 8) hx hb dX0_point_119 (by decide) ?_
              refine nn_cne (tgt := 127) hx hb (by omega) (by omega) dX0_point_121 (by decide) (fun c_121 => ?_) (fun c_121 => ?_)
              · refine lv_aload hx hb dX0_point_127 (lv_at hl 1 rfl) ?_
                refine xx_getM S G (mm := u) (ref := "TwinPanel$Table") hu hN (hC.k _) 11 (by rw [c_22]; decide) (by rw [c_22]; exact hts _ q421) (by rw [c_22]; exact fun x h => h) (v := .ref (jA j (xr u 4))) (xV_7_11 c_22) dX0_point_129 ?_
                refine lv_aload hx hb dX0_point_132 (lv_at hl 1 rfl) ?_
                refine xx_getM S G (mm := u) (ref := "TwinPanel$Table") hu hN (hC.k _) 13 (by rw [c_22]; decide) (by rw [c_22]; exact hts _ q425) (by rw [c_22]; exact fun x h => h) (v := .int (nI (cP C u))) (xV_7_13 c_22) dX0_point_134 ?_
                refine lv_dload hx hb dX0_point_137 (lv_at hl 0 rfl) ?_
                refine xx_dast S G (r := xr u 4) (xr_lt (by decide) (Nat.lt_of_lt_of_le hu hN)) (xW_m (by decide) hu (xME_7_4 c_22)) 2 rfl (i := cP C u) (by omega) (by decide) (xs_tx c_22 hu) dX0_point_139 (fun H locs G => ?_)
                refine lv_aload hx hb dX0_point_140 (lv_at hl 1 rfl) ?_
                refine xx_getM S G (mm := u) (ref := "TwinPanel$Table") hu hN (hC.k _) 12 (by rw [(show cK (wX C (up2 (cX C) u (cP C u) ((x).toUInt64))) u = 7 from c_22)]; decide) (by rw [(show cK (wX C (up2 (cX C) u (cP C u) ((x).toUInt64))) u = 7 from c_22)]; exact hts _ q423) (by rw [(show cK (wX C (up2 (cX C) u (cP C u) ((x).toUInt64))) u = 7 from c_22)]; exact fun x h => h) (v := .ref (jA j (xr u 5))) (xV_7_12 (show cK (wX C (up2 (cX C) u (cP C u) ((x).toUInt64))) u = 7 from c_22)) dX0_point_142 ?_
                refine lv_aload hx hb dX0_point_145 (lv_at hl 1 rfl) ?_
                refine xx_getM S G (mm := u) (ref := "TwinPanel$Table") hu hN (hC.k _) 13 (by rw [(show cK (wX C (up2 (cX C) u (cP C u) ((x).toUInt64))) u = 7 from c_22)]; decide) (by rw [(show cK (wX C (up2 (cX C) u (cP C u) ((x).toUInt64))) u = 7 from c_22)]; exact hts _ q425) (by rw [(show cK (wX C (up2 (cX C) u (cP C u) ((x).toUInt64))) u = 7 from c_22)]; exact fun x h => h) (v := .int (nI (cP C u))) (xV_7_13 (show cK (wX C (up2 (cX C) u (cP C u) ((x).toUInt64))) u = 7 from c_22)) dX0_point_147 ?_
                refine lv_lload hx hb dX0_point_150 (lv_at hl 5 rfl) ?_
                refine vn_l2d hx hb (hml.trans hl.1.symm) hown (hts _ q164) (hts _ q166) (hts _ q165) (hts _ q55) (nb_sn (nb_n (sm_nb c_49))) (Nat.le_of_ble_eq_true rfl) (Nat.le_of_ble_eq_true rfl) dX0_point_152 ?_
                refine xx_dast S G (r := xr u 5) (xr_lt (by decide) (Nat.lt_of_lt_of_le hu hN)) (xW_m (by decide) hu (xME_7_5 (show cK (wX C (up2 (cX C) u (cP C u) ((x).toUInt64))) u = 7 from c_22))) 2 rfl (i := cP C u) (by omega) (by decide) (xs_ty (show cK (wX C (up2 (cX C) u (cP C u) ((x).toUInt64))) u = 7 from c_22) hu) dX0_point_155 (fun H locs G => ?_)
                refine lv_aload hx hb dX0_point_156 (lv_at hl 1 rfl) ?_
                refine lv_dup hx hb dX0_point_158 rfl ?_
                refine xx_getM S G (mm := u) (ref := "TwinPanel$Table") hu hN (hC.k _) 13 (by rw [(show cK (wY (wX C (up2 (cX C) u (cP C u) ((x).toUInt64))) (up2 (cY (wX C (up2 (cX C) u (cP C u) ((x).toUInt64)))) u (cP C u) ((y).toUInt64))) u = 7 from c_22)]; decide) (by rw [(show cK (wY (wX C (up2 (cX C) u (cP C u) ((x).toUInt64))) (up2 (cY (wX C (up2 (cX C) u (cP C u) ((x).toUInt64)))) u (cP C u) ((y).toUInt64))) u = 7 from c_22)]; exact hts _ q425) (by rw [(show cK (wY (wX C (up2 (cX C) u (cP C u) ((x).toUInt64))) (up2 (cY (wX C (up2 (cX C) u (cP C u) ((x).toUInt64)))) u (cP C u) ((y).toUInt64))) u = 7 from c_22)]; exact fun x h => h) (v := .int (nI (cP C u))) (xV_7_13 (show cK (wY (wX C (up2 (cX C) u (cP C u) ((x).toUInt64))) (up2 (cY (wX C (up2 (cX C) u (cP C u) ((x).toUInt64)))) u (cP C u) ((y).toUInt64))) u = 7 from c_22)) dX0_point_159 ?_
                refine lv_iconst (v := nI 1) hx hb dX0_point_162 (by decide) ?_
                refine nn_add hx hb dX0_point_163 ?_
                refine xx_putM S G (mm := u) (ref := "TwinPanel$Table") hu hN (hC.k _) 13 (by rw [(show cK (wY (wX C (up2 (cX C) u (cP C u) ((x).toUInt64))) (up2 (cY (wX C (up2 (cX C) u (cP C u) ((x).toUInt64)))) u (cP C u) ((y).toUInt64))) u = 7 from c_22)]; decide) (by rw [(show cK (wY (wX C (up2 (cX C) u (cP C u) ((x).toUInt64))) (up2 (cY (wX C (up2 (cX C) u (cP C u) ((x).toUInt64)))) u (cP C u) ((y).toUInt64))) u = 7 from c_22)]; exact hts _ q425) (by rw [(show cK (wY (wX C (up2 (cX C) u (cP C u) ((x).toUInt64))) (up2 (cY (wX C (up2 (cX C) u (cP C u) ((x).toUInt64)))) u (cP C u) ((y).toUInt64))) u = 7 from c_22)]; exact fun x h => h) (by rw [(show cK (wY (wX C (up2 (cX C) u (cP C u) ((x).toUInt64))) (up2 (cY (wX C (up2 (cX C) u (cP C u) ((x).toUInt64)))) u (cP C u) ((y).toUInt64))) u = 7 from c_22)]; rfl) (by rw [(show cK (wY (wX C (up2 (cX C) u (cP C u) ((x).toUInt64))) (up2 (cY (wX C (up2 (cX C) u (cP C u) ((x).toUInt64)))) u (cP C u) ((y).toUInt64))) u = 7 from c_22)]; rfl) (by rw [(show cK (wY (wX C (up2 (cX C) u (cP C u) ((x).toUInt64))) (up2 (cY (wX C (up2 (cX C) u (cP C u) ((x).toUInt64)))) u (cP C u) ((y).toUInt64))) u = 7 from c_22)]; rfl) (xs_many (show cK (wY (wX C (up2 (cX C) u (cP C u) ((x).toUInt64))) (up2 (cY (wX C (up2 (cX C) u (cP C u) ((x).toUInt64)))) u (cP C u) ((y).toUInt64))) u = 7 from c_22) hu) dX0_point_164 (fun H locs G => ?_)
                refine lv_aload hx hb dX0_point_167 (lv_at hl 1 rfl) ?_
                refine xx_getM S G (mm := u) (ref := "TwinPanel$Table") hu hN (hC.k _) 13 (by rw [(show cK (wP (wY (wX C (up2 (cX C) u (cP C u) ((x).toUInt64))) (up2 (cY (wX C (up2 (cX C) u (cP C u) ((x).toUInt64)))) u (cP C u) ((y).toUInt64))) (vf_upd (cP (wY (wX C (up2 (cX C) u (cP C u) ((x).toUInt64))) (up2 (cY (wX C (up2 (cX C) u (cP C u) ((x).toUInt64)))) u (cP C u) ((y).toUInt64)))) u (cP C u + 1))) u = 7 from c_22)]; decide) (by rw [(show cK (wP (wY (wX C (up2 (cX C) u (cP C u) ((x).toUInt64))) (up2 (cY (wX C (up2 (cX C) u (cP C u) ((x).toUInt64)))) u (cP C u) ((y).toUInt64))) (vf_upd (cP (wY (wX C (up2 (cX C) u (cP C u) ((x).toUInt64))) (up2 (cY (wX C (up2 (cX C) u (cP C u) ((x).toUInt64)))) u (cP C u) ((y).toUInt64)))) u (cP C u + 1))) u = 7 from c_22)]; exact hts _ q425) (by rw [(show cK (wP (wY (wX C (up2 (cX C) u (cP C u) ((x).toUInt64))) (up2 (cY (wX C (up2 (cX C) u (cP C u) ((x).toUInt64)))) u (cP C u) ((y).toUInt64))) (vf_upd (cP (wY (wX C (up2 (cX C) u (cP C u) ((x).toUInt64))) (up2 (cY (wX C (up2 (cX C) u (cP C u) ((x).toUInt64)))) u (cP C u) ((y).toUInt64)))) u (cP C u + 1))) u = 7 from c_22)]; exact fun x h => h) (v := .int (nI (cP C u + 1))) ((xV_7_13 (show cK (wP (wY (wX C (up2 (cX C) u (cP C u) ((x).toUInt64))) (up2 (cY (wX C (up2 (cX C) u (cP C u) ((x).toUInt64)))) u (cP C u) ((y).toUInt64))) (vf_upd (cP (wY (wX C (up2 (cX C) u (cP C u) ((x).toUInt64))) (up2 (cY (wX C (up2 (cX C) u (cP C u) ((x).toUInt64)))) u (cP C u) ((y).toUInt64)))) u (cP C u + 1))) u = 7 from c_22)).trans (congrArg (fun z => Value.int (nI z)) (vf_at _ _ _))) dX0_point_169 ?_
                exact xx_iret S hr hlk G (by simp [ptR, ptC, ptB, smB, imB, c_5, ij_u, c_22, c_35, c_49, cU, c_108, c_121] <;> rfl) (xL_e (by simp [ptR, ptC, ptB, smB, imB, c_5, ij_u, c_22, c_35, c_49, cU, c_108, c_121] <;> rfl) rfl rfl) dX0_point_172
              · refine lv_bipush (v := (-104)) hx hb dX0_point_124 (by decide) ?_
                exact xx_iret S hr hlk G (by simp [ptR, ptC, ptB, smB, imB, c_5, ij_u, c_22, c_35, c_49, cU, c_108, c_121] <;> rfl) (xL_e (by simp [ptR, ptC, ptB, smB, imB, c_5, ij_u, c_22, c_35, c_49, cU, c_108, c_121] <;> rfl) rfl rfl) dX0_point_126
            · refine lv_bipush (v := (-103)) hx hb dX0_point_111 (by decide) ?_
              exact xx_iret S hr hlk G (by simp [ptR, ptC, ptB, smB, imB, c_5, ij_u, c_22, c_35, c_49, cU, c_108] <;> rfl) (xL_e (by simp [ptR, ptC, ptB, smB, imB, c_5, ij_u, c_22, c_35, c_49, cU, c_108] <;> rfl) rfl rfl) dX0_point_113
          · refine lv_dload hx hb dX0_point_80 (lv_at hl 0 rfl) ?_
            refine lv_d2f hx hb dX0_point_82 (nF_d2f (nb_n (sm_nb c_35))) ?_
            refine lv_aload hx hb dX0_point_83 (lv_at hl 1 rfl) ?_
            refine xx_getM S G (mm := u) (ref := "TwinPanel$Table") hu hN (hC.k _) 11 (by rw [c_22]; decide) (by rw [c_22]; exact hts _ q421) (by rw [c_22]; exact fun x h => h) (v := .ref (jA j (xr u 4))) (xV_7_11 c_22) dX0_point_85 ?_
            refine lv_aload hx hb dX0_point_88 (lv_at hl 1 rfl) ?_
            refine xx_getM S G (mm := u) (ref := "TwinPanel$Table") hu hN (hC.k _) 13 (by rw [c_22]; decide) (by rw [c_22]; exact hts _ q425) (by rw [c_22]; exact fun x h => h) (v := .int (nI (cP C u))) (xV_7_13 c_22) dX0_point_90 ?_
            refine lv_iconst (v := nI 1) hx hb dX0_point_93 (by decide) ?_
            refine nn_sub hx hb (by omega) dX0_point_94 ?_
            refine xx_dald S G (r := xr u 4) (xr_lt (by decide) (Nat.lt_of_lt_of_le hu hN)) (xW_m (by decide) hu (xME_7_4 c_22)) 2 rfl (i := cP C u - 1) (by omega) (by decide) (v := cX C u (cP C u - 1)) rfl dX0_point_95 ?_
            refine lv_d2f hx hb dX0_point_96 (nF_d2f (bD_n (hV.x u _))) ?_
            refine fy_jggt (tgt := 104) hx hb dX0_point_97 dX0_point_98 (by decide) (fun c_98 => ?_) (fun c_98 => ?_)
            · have cU := pt_t hV c_35 c_98
              refine lv_aload_n hx hb dX0_point_104 rfl (lv_at hl 2 rfl) ?_
              refine xx_getP S G 2 (by decide) q91 rfl (v := .int (nI (cM C))) rfl dX0_point_105 ?_
              refine nz_eq (tgt := 114) hx hb (by omega) dX0_point_108 (by decide) (fun c_108 => ?_) (fun c_108 => ?_)
              · refine lv_aload hx hb dX0_point_114 (lv_at hl 1 rfl) ?_
                refine xx_getM S G (mm := u) (ref := "TwinPanel$Table") hu hN (hC.k _) 13 (by rw [c_22]; decide) (by rw [c_22]; exact hts _ q425) (by rw [c_22]; exact fun x h => h) (v := .int (nI (cP C u))) (xV_7_13 c_22) dX0_point_116 ?_
                refine lv_bipush (v := nI 8) hx hb dX0_point_119 (by decide) ?_
                refine nn_cne (tgt := 127) hx hb (by omega) (by omega) dX0_point_121 (by decide) (fun c_121 => ?_) (fun c_121 => ?_)
                · refine lv_aload hx hb dX0_point_127 (lv_at hl 1 rfl) ?_
                  refine xx_getM S G (mm := u) (ref := "TwinPanel$Table") hu hN (hC.k _) 11 (by rw [c_22]; decide) (by rw [c_22]; exact hts _ q421) (by rw [c_22]; exact fun x h => h) (v := .ref (jA j (xr u 4))) (xV_7_11 c_22) dX0_point_129 ?_
                  refine lv_aload hx hb dX0_point_132 (lv_at hl 1 rfl) ?_
                  refine xx_getM S G (mm := u) (ref := "TwinPanel$Table") hu hN (hC.k _) 13 (by rw [c_22]; decide) (by rw [c_22]; exact hts _ q425) (by rw [c_22]; exact fun x h => h) (v := .int (nI (cP C u))) (xV_7_13 c_22) dX0_point_134 ?_
                  refine lv_dload hx hb dX0_point_137 (lv_at hl 0 rfl) ?_
                  refine xx_dast S G (r := xr u 4) (xr_lt (by decide) (Nat.lt_of_lt_of_le hu hN)) (xW_m (by decide) hu (xME_7_4 c_22)) 2 rfl (i := cP C u) (by omega) (by decide) (xs_tx c_22 hu) dX0_point_139 (fun H locs G => ?_)
                  refine lv_aload hx hb dX0_point_140 (lv_at hl 1 rfl) ?_
                  refine xx_getM S G (mm := u) (ref := "TwinPanel$Table") hu hN (hC.k _) 12 (by rw [(show cK (wX C (up2 (cX C) u (cP C u) ((x).toUInt64))) u = 7 from c_22)]; decide) (by rw [(show cK (wX C (up2 (cX C) u (cP C u) ((x).toUInt64))) u = 7 from c_22)]; exact hts _ q423) (by rw [(show cK (wX C (up2 (cX C) u (cP C u) ((x).toUInt64))) u = 7 from c_22)]; exact fun x h => h) (v := .ref (jA j (xr u 5))) (xV_7_12 (show cK (wX C (up2 (cX C) u (cP C u) ((x).toUInt64))) u = 7 from c_22)) dX0_point_142 ?_
                  refine lv_aload hx hb dX0_point_145 (lv_at hl 1 rfl) ?_
                  refine xx_getM S G (mm := u) (ref := "TwinPanel$Table") hu hN (hC.k _) 13 (by rw [(show cK (wX C (up2 (cX C) u (cP C u) ((x).toUInt64))) u = 7 from c_22)]; decide) (by rw [(show cK (wX C (up2 (cX C) u (cP C u) ((x).toUInt64))) u = 7 from c_22)]; exact hts _ q425) (by rw [(show cK (wX C (up2 (cX C) u (cP C u) ((x).toUInt64))) u = 7 from c_22)]; exact fun x h => h) (v := .int (nI (cP C u))) (xV_7_13 (show cK (wX C (up2 (cX C) u (cP C u) ((x).toUInt64))) u = 7 from c_22)) dX0_point_147 ?_
                  refine lv_lload hx hb dX0_point_150 (lv_at hl 5 rfl) ?_
                  refine vn_l2d hx hb (hml.trans hl.1.symm) hown (hts _ q164) (hts _ q166) (hts _ q165) (hts _ q55) (nb_sn (nb_n (sm_nb c_49))) (Nat.le_of_ble_eq_true rfl) (Nat.le_of_ble_eq_true rfl) dX0_point_152 ?_
                  refine xx_dast S G (r := xr u 5) (xr_lt (by decide) (Nat.lt_of_lt_of_le hu hN)) (xW_m (by decide) hu (xME_7_5 (show cK (wX C (up2 (cX C) u (cP C u) ((x).toUInt64))) u = 7 from c_22))) 2 rfl (i := cP C u) (by omega) (by decide) (xs_ty (show cK (wX C (up2 (cX C) u (cP C u) ((x).toUInt64))) u = 7 from c_22) hu) dX0_point_155 (fun H locs G => ?_)
                  refine lv_aload hx hb dX0_point_156 (lv_at hl 1 rfl) ?_
                  refine lv_dup hx hb dX0_point_158 rfl ?_
                  refine xx_getM S G (mm := u) (ref := "TwinPanel$Table") hu hN (hC.k _) 13 (by rw [(show cK (wY (wX C (up2 (cX C) u (cP C u) ((x).toUInt64))) (up2 (cY (wX C (up2 (cX C) u (cP C u) ((x).toUInt64)))) u (cP C u) ((y).toUInt64))) u = 7 from c_22)]; decide) (by rw [(show cK (wY (wX C (up2 (cX C) u (cP C u) ((x).toUInt64))) (up2 (cY (wX C (up2 (cX C) u (cP C u) ((x).toUInt64)))) u (cP C u) ((y).toUInt64))) u = 7 from c_22)]; exact hts _ q425) (by rw [(show cK (wY (wX C (up2 (cX C) u (cP C u) ((x).toUInt64))) (up2 (cY (wX C (up2 (cX C) u (cP C u) ((x).toUInt64)))) u (cP C u) ((y).toUInt64))) u = 7 from c_22)]; exact fun x h => h) (v := .int (nI (cP C u))) (xV_7_13 (show cK (wY (wX C (up2 (cX C) u (cP C u) ((x).toUInt64))) (up2 (cY (wX C (up2 (cX C) u (cP C u) ((x).toUInt64)))) u (cP C u) ((y).toUInt64))) u = 7 from c_22)) dX0_point_159 ?_
                  refine lv_iconst (v := nI 1) hx hb dX0_point_162 (by decide) ?_
                  refine nn_add hx hb dX0_point_163 ?_
                  refine xx_putM S G (mm := u) (ref := "TwinPanel$Table") hu hN (hC.k _) 13 (by rw [(show cK (wY (wX C (up2 (cX C) u (cP C u) ((x).toUInt64))) (up2 (cY (wX C (up2 (cX C) u (cP C u) ((x).toUInt64)))) u (cP C u) ((y).toUInt64))) u = 7 from c_22)]; decide) (by rw [(show cK (wY (wX C (up2 (cX C) u (cP C u) ((x).toUInt64))) (up2 (cY (wX C (up2 (cX C) u (cP C u) ((x).toUInt64)))) u (cP C u) ((y).toUInt64))) u = 7 from c_22)]; exact hts _ q425) (by rw [(show cK (wY (wX C (up2 (cX C) u (cP C u) ((x).toUInt64))) (up2 (cY (wX C (up2 (cX C) u (cP C u) ((x).toUInt64)))) u (cP C u) ((y).toUInt64))) u = 7 from c_22)]; exact fun x h => h) (by rw [(show cK (wY (wX C (up2 (cX C) u (cP C u) ((x).toUInt64))) (up2 (cY (wX C (up2 (cX C) u (cP C u) ((x).toUInt64)))) u (cP C u) ((y).toUInt64))) u = 7 from c_22)]; rfl) (by rw [(show cK (wY (wX C (up2 (cX C) u (cP C u) ((x).toUInt64))) (up2 (cY (wX C (up2 (cX C) u (cP C u) ((x).toUInt64)))) u (cP C u) ((y).toUInt64))) u = 7 from c_22)]; rfl) (by rw [(show cK (wY (wX C (up2 (cX C) u (cP C u) ((x).toUInt64))) (up2 (cY (wX C (up2 (cX C) u (cP C u) ((x).toUInt64)))) u (cP C u) ((y).toUInt64))) u = 7 from c_22)]; rfl) (xs_many (show cK (wY (wX C (up2 (cX C) u (cP C u) ((x).toUInt64))) (up2 (cY (wX C (up2 (cX C) u (cP C u) ((x).toUInt64)))) u (cP C u) ((y).toUInt64))) u = 7 from c_22) hu) dX0_point_164 (fun H locs G => ?_)
                  refine lv_aload hx hb dX0_point_167 (lv_at hl 1 rfl) ?_
                  refine xx_getM S G (mm := u) (ref := "TwinPanel$Table") hu hN (hC.k _) 13 (by rw [(show cK (wP (wY (wX C (up2 (cX C) u (cP C u) ((x).toUInt64))) (up2 (cY (wX C (up2 (cX C) u (cP C u) ((x).toUInt64)))) u (cP C u) ((y).toUInt64))) (vf_upd (cP (wY (wX C (up2 (cX C) u (cP C u) ((x).toUInt64))) (up2 (cY (wX C (up2 (cX C) u (cP C u) ((x).toUInt64)))) u (cP C u) ((y).toUInt64)))) u (cP C u + 1))) u = 7 from c_22)]; decide) (by rw [(show cK (wP (wY (wX C (up2 (cX C) u (cP C u) ((x).toUInt64))) (up2 (cY (wX C (up2 (cX C) u (cP C u) ((x).toUInt64)))) u (cP C u) ((y).toUInt64))) (vf_upd (cP (wY (wX C (up2 (cX C) u (cP C u) ((x).toUInt64))) (up2 (cY (wX C (up2 (cX C) u (cP C u) ((x).toUInt64)))) u (cP C u) ((y).toUInt64)))) u (cP C u + 1))) u = 7 from c_22)]; exact hts _ q425) (by rw [(show cK (wP (wY (wX C (up2 (cX C) u (cP C u) ((x).toUInt64))) (up2 (cY (wX C (up2 (cX C) u (cP C u) ((x).toUInt64)))) u (cP C u) ((y).toUInt64))) (vf_upd (cP (wY (wX C (up2 (cX C) u (cP C u) ((x).toUInt64))) (up2 (cY (wX C (up2 (cX C) u (cP C u) ((x).toUInt64)))) u (cP C u) ((y).toUInt64)))) u (cP C u + 1))) u = 7 from c_22)]; exact fun x h => h) (v := .int (nI (cP C u + 1))) ((xV_7_13 (show cK (wP (wY (wX C (up2 (cX C) u (cP C u) ((x).toUInt64))) (up2 (cY (wX C (up2 (cX C) u (cP C u) ((x).toUInt64)))) u (cP C u) ((y).toUInt64))) (vf_upd (cP (wY (wX C (up2 (cX C) u (cP C u) ((x).toUInt64))) (up2 (cY (wX C (up2 (cX C) u (cP C u) ((x).toUInt64)))) u (cP C u) ((y).toUInt64)))) u (cP C u + 1))) u = 7 from c_22)).trans (congrArg (fun z => Value.int (nI z)) (vf_at _ _ _))) dX0_point_169 ?_
                  exact xx_iret S hr hlk G (by simp [ptR, ptC, ptB, smB, imB, c_5, ij_u, c_22, c_35, c_49, c_77, cU, c_108, c_121] <;> rfl) (xL_e (by simp [ptR, ptC, ptB, smB, imB, c_5, ij_u, c_22, c_35, c_49, c_77, cU, c_108, c_121] <;> rfl) rfl rfl) dX0_point_172
                · refine lv_bipush (v := (-104)) hx hb dX0_point_124 (by decide) ?_
                  exact xx_iret S hr hlk G (by simp [ptR, ptC, ptB, smB, imB, c_5, ij_u, c_22, c_35, c_49, c_77, cU, c_108, c_121] <;> rfl) (xL_e (by simp [ptR, ptC, ptB, smB, imB, c_5, ij_u, c_22, c_35, c_49, c_77, cU, c_108, c_121] <;> rfl) rfl rfl) dX0_point_126
              · refine lv_bipush (v := (-103)) hx hb dX0_point_111 (by decide) ?_
                exact xx_iret S hr hlk G (by simp [ptR, ptC, ptB, smB, imB, c_5, ij_u, c_22, c_35, c_49, c_77, cU, c_108] <;> rfl) (xL_e (by simp [ptR, ptC, ptB, smB, imB, c_5, ij_u, c_22, c_35, c_49, c_77, cU, c_108] <;> rfl) rfl rfl) dX0_point_113
            · have cU := pt_f hV c_35 (by omega) c_98
              refine lv_bipush (v := (-102)) hx hb dX0_point_101 (by decide) ?_
              exact xx_iret S hr hlk G (by simp [ptR, ptC, ptB, smB, imB, c_5, ij_u, c_22, c_35, c_49, c_77, cU] <;> rfl) (xL_e (by simp [ptR, ptC, ptB, smB, imB, c_5, ij_u, c_22, c_35, c_49, c_77, cU] <;> rfl) rfl rfl) dX0_point_103
        · refine lv_bipush (v := (-102)) hx hb dX0_point_52 (by decide) ?_
          exact xx_iret S hr hlk G (by simp [ptR, ptC, ptB, smB, imB, c_5, ij_u, c_22, c_35, c_49] <;> rfl) (xL_e (by simp [ptR, ptC, ptB, smB, imB, c_5, ij_u, c_22, c_35, c_49] <;> rfl) rfl rfl) dX0_point_54
  · refine lv_bipush (v := (-101)) hx hb dX0_point_8 (by decide) ?_
    exact xx_iret S hr hlk G (by simp [ptR, ptC, ptB, smB, imB, c_5] <;> rfl) (xL_e (by simp [ptR, ptC, ptB, smB, imB, c_5] <;> rfl) rfl rfl) dX0_point_10
