set_option maxRecDepth 100000
set_option maxHeartbeats 4000000
theorem dX0_rates_0 : decode cX0_rates 0 = .ok (.iconst 0, 1) := by decide +kernel
theorem dX0_rates_1 : decode cX0_rates 1 = .ok (.istore_n 2, 1) := by decide +kernel
theorem dX0_rates_2 : decode cX0_rates 2 = .ok (.iload_n 2, 1) := by decide +kernel
theorem dX0_rates_3 : decode cX0_rates 3 = .ok (.aload_n 0, 1) := by decide +kernel
theorem dX0_rates_4 : decode cX0_rates 4 = .ok (.getfield 91, 3) := by decide +kernel
theorem dX0_rates_7 : decode cX0_rates 7 = .ok (.if_icmp .ge 35, 3) := by decide +kernel
theorem dX0_rates_10 : decode cX0_rates 10 = .ok (.aload_n 0, 1) := by decide +kernel
theorem dX0_rates_11 : decode cX0_rates 11 = .ok (.getfield 55, 3) := by decide +kernel
theorem dX0_rates_14 : decode cX0_rates 14 = .ok (.iload_n 2, 1) := by decide +kernel
theorem dX0_rates_15 : decode cX0_rates 15 = .ok (.aaload, 1) := by decide +kernel
theorem dX0_rates_16 : decode cX0_rates 16 = .ok (.getfield 151, 3) := by decide +kernel
theorem dX0_rates_19 : decode cX0_rates 19 = .ok (.iconst 2, 1) := by decide +kernel
theorem dX0_rates_20 : decode cX0_rates 20 = .ok (.if_icmp .ne 16, 3) := by decide +kernel
theorem dX0_rates_23 : decode cX0_rates 23 = .ok (.aload_n 0, 1) := by decide +kernel
theorem dX0_rates_24 : decode cX0_rates 24 = .ok (.getfield 55, 3) := by decide +kernel
theorem dX0_rates_27 : decode cX0_rates 27 = .ok (.iload_n 2, 1) := by decide +kernel
theorem dX0_rates_28 : decode cX0_rates 28 = .ok (.aaload, 1) := by decide +kernel
theorem dX0_rates_29 : decode cX0_rates 29 = .ok (.checkcast 10, 3) := by decide +kernel
theorem dX0_rates_32 : decode cX0_rates 32 = .ok (.iload_n 1, 1) := by decide +kernel
theorem dX0_rates_33 : decode cX0_rates 33 = .ok (.invokevirtual 218, 3) := by decide +kernel
theorem dX0_rates_36 : decode cX0_rates 36 = .ok (.iinc 2 1, 3) := by decide +kernel
theorem dX0_rates_39 : decode cX0_rates 39 = .ok (.goto (-37), 3) := by decide +kernel
theorem dX0_rates_42 : decode cX0_rates 42 = .ok (.return_, 1) := by decide +kernel
theorem dX0_stage_0 : decode cX0_stage 0 = .ok (.iconst 0, 1) := by decide +kernel
theorem dX0_stage_1 : decode cX0_stage 1 = .ok (.istore 4, 2) := by decide +kernel
theorem dX0_stage_3 : decode cX0_stage 3 = .ok (.iload 4, 2) := by decide +kernel
theorem dX0_stage_5 : decode cX0_stage 5 = .ok (.aload_n 0, 1) := by decide +kernel
theorem dX0_stage_6 : decode cX0_stage 6 = .ok (.getfield 91, 3) := by decide +kernel
theorem dX0_stage_9 : decode cX0_stage 9 = .ok (.if_icmp .ge 44, 3) := by decide +kernel
theorem dX0_stage_12 : decode cX0_stage 12 = .ok (.aload_n 0, 1) := by decide +kernel
theorem dX0_stage_13 : decode cX0_stage 13 = .ok (.getfield 55, 3) := by decide +kernel
theorem dX0_stage_16 : decode cX0_stage 16 = .ok (.iload 4, 2) := by decide +kernel
theorem dX0_stage_18 : decode cX0_stage 18 = .ok (.aaload, 1) := by decide +kernel
theorem dX0_stage_19 : decode cX0_stage 19 = .ok (.getfield 151, 3) := by decide +kernel
theorem dX0_stage_22 : decode cX0_stage 22 = .ok (.iconst 2, 1) := by decide +kernel
theorem dX0_stage_23 : decode cX0_stage 23 = .ok (.if_icmp .ne 24, 3) := by decide +kernel
theorem dX0_stage_26 : decode cX0_stage 26 = .ok (.aload_n 0, 1) := by decide +kernel
theorem dX0_stage_27 : decode cX0_stage 27 = .ok (.getfield 55, 3) := by decide +kernel
theorem dX0_stage_30 : decode cX0_stage 30 = .ok (.iload 4, 2) := by decide +kernel
theorem dX0_stage_32 : decode cX0_stage 32 = .ok (.aaload, 1) := by decide +kernel
theorem dX0_stage_33 : decode cX0_stage 33 = .ok (.checkcast 10, 3) := by decide +kernel
theorem dX0_stage_36 : decode cX0_stage 36 = .ok (.iload_n 1, 1) := by decide +kernel
theorem dX0_stage_37 : decode cX0_stage 37 = .ok (.dload_n 2, 1) := by decide +kernel
theorem dX0_stage_38 : decode cX0_stage 38 = .ok (.aload_n 0, 1) := by decide +kernel
theorem dX0_stage_39 : decode cX0_stage 39 = .ok (.getfield 208, 3) := by decide +kernel
theorem dX0_stage_42 : decode cX0_stage 42 = .ok (.iconst 1, 1) := by decide +kernel
theorem dX0_stage_43 : decode cX0_stage 43 = .ok (.iadd, 1) := by decide +kernel
theorem dX0_stage_44 : decode cX0_stage 44 = .ok (.invokevirtual 221, 3) := by decide +kernel
theorem dX0_stage_47 : decode cX0_stage 47 = .ok (.iinc 4 1, 3) := by decide +kernel
theorem dX0_stage_50 : decode cX0_stage 50 = .ok (.goto (-47), 3) := by decide +kernel
theorem dX0_stage_53 : decode cX0_stage 53 = .ok (.aload_n 0, 1) := by decide +kernel
theorem dX0_stage_54 : decode cX0_stage 54 = .ok (.aload_n 0, 1) := by decide +kernel
theorem dX0_stage_55 : decode cX0_stage 55 = .ok (.getfield 208, 3) := by decide +kernel
theorem dX0_stage_58 : decode cX0_stage 58 = .ok (.iconst 1, 1) := by decide +kernel
theorem dX0_stage_59 : decode cX0_stage 59 = .ok (.iadd, 1) := by decide +kernel
theorem dX0_stage_60 : decode cX0_stage 60 = .ok (.invokevirtual 214, 3) := by decide +kernel
theorem dX0_stage_63 : decode cX0_stage 63 = .ok (.return_, 1) := by decide +kernel
theorem dX0_length_0 : decode cX0_length 0 = .ok (.dconst 1, 1) := by decide +kernel
theorem dX0_length_1 : decode cX0_length 1 = .ok (.dstore_n 1, 1) := by decide +kernel
theorem dX0_length_2 : decode cX0_length 2 = .ok (.iconst 0, 1) := by decide +kernel
theorem dX0_length_3 : decode cX0_length 3 = .ok (.istore_n 3, 1) := by decide +kernel
theorem dX0_length_4 : decode cX0_length 4 = .ok (.iload_n 3, 1) := by decide +kernel
theorem dX0_length_5 : decode cX0_length 5 = .ok (.iload_n 0, 1) := by decide +kernel
theorem dX0_length_6 : decode cX0_length 6 = .ok (.if_icmp .ge 15, 3) := by decide +kernel
theorem dX0_length_9 : decode cX0_length 9 = .ok (.dload_n 1, 1) := by decide +kernel
theorem dX0_length_10 : decode cX0_length 10 = .ok (.ldc2_w 237, 3) := by decide +kernel
theorem dX0_length_13 : decode cX0_length 13 = .ok (.ddiv, 1) := by decide +kernel
theorem dX0_length_14 : decode cX0_length 14 = .ok (.dstore_n 1, 1) := by decide +kernel
theorem dX0_length_15 : decode cX0_length 15 = .ok (.iinc 3 1, 3) := by decide +kernel
theorem dX0_length_18 : decode cX0_length 18 = .ok (.goto (-14), 3) := by decide +kernel
theorem dX0_length_21 : decode cX0_length 21 = .ok (.dload_n 1, 1) := by decide +kernel
theorem dX0_length_22 : decode cX0_length 22 = .ok (.dreturn, 1) := by decide +kernel
theorem hd_X0_read : yX0_read.cls = RX0 ∧ yX0_read.cls ≠ "java/lang/invoke/MethodHandle" ∧ yX0_read.cls ≠ "java/lang/invoke/VarHandle" ∧ (parseMethodDescriptor yX0_read.desc).map (fun d => d.parameters.length) = some 1 := by decide +kernel
theorem hd_X6_go : yX6_go.cls = RX6 ∧ yX6_go.cls ≠ "java/lang/invoke/MethodHandle" ∧ yX6_go.cls ≠ "java/lang/invoke/VarHandle" ∧ (parseMethodDescriptor yX6_go.desc).map (fun d => d.parameters.length) = some 3 := by decide +kernel
theorem hd_X6_rate : yX6_rate.cls = RX6 ∧ yX6_rate.cls ≠ "java/lang/invoke/MethodHandle" ∧ yX6_rate.cls ≠ "java/lang/invoke/VarHandle" ∧ (parseMethodDescriptor yX6_rate.desc).map (fun d => d.parameters.length) = some 1 := by decide +kernel
theorem hu_Module_become : "TwinPanel$Module" ≠ "java/lang/invoke/MethodHandle" ∧ "TwinPanel$Module" ≠ "java/lang/invoke/VarHandle" ∧ (parseMethodDescriptor "()V").map (fun d => d.parameters.length) = some 0 := by decide +kernel
theorem hu_Module_take : "TwinPanel$Module" ≠ "java/lang/invoke/MethodHandle" ∧ "TwinPanel$Module" ≠ "java/lang/invoke/VarHandle" ∧ (parseMethodDescriptor "()V").map (fun d => d.parameters.length) = some 0 := by decide +kernel
section TD_take
variable {p : Program} {l : Launch} {e : Env} {R : Room} {s : State} {m : MethodId} {args : Array Value} {below : List Frame} {meth : Method} {c : Code} {H : Heap} {locs : List Loc} {cells slots : Nat} {Q : State → Prop}
variable {cc : ByteArray} {pc nL : Nat} {ls : Array Slot} {rest : List Value} {D : va_G} {dA : Nat → ClassId} {A : Nat → Prop} {C : tp_C} {d : md_T} {j : xj_T}
theorem xo_take (S : CallFix p m c cc nL s args lw_all RX0) (G : xG D dA A C d j s H locs) {mm : Nat} (hC : mOK C) (hm : mm < cN C) (hI : okM C mm) (hR : 2 ≤ R.frames ∧ 96 ≤ R.locals) (hf : cells ≤ R.cells ∧ slots ≤ R.slots) (hsz : ls.size = nL) (hW : (rest.map fun v => v.category).sum ≤ 8) (hdg : decode cc pc = .ok (.invokevirtual 225, 3))
    (kk : ∀ (H1 : Heap) (locs1 : List Loc), xG D dA A C d (tkJ C d mm j) s H1 locs1 → W p l e R s m args below meth c H1 locs1 cells slots Q (F0 m (pc + 3) ls (rest))) : W p l e R s m args below meth c H locs cells slots Q (F0 m pc ls (.ref (jA j (xr mm 0)) :: rest)) := by
  have hN := hC.n; have hts := S.2.2.2.2; have hk14 := hC.k mm
  have hr : ∀ a L, a ≤ 1 → L ≤ 20 → a + 1 ≤ R.frames ∧ 8 + (L + 11) + 48 * a ≤ R.locals := fun a L h1 h2 => ⟨by omega, by omega⟩
  rcases (show cK C mm = 0 ∨ cK C mm = 1 ∨ cK C mm = 2 ∨ cK C mm = 3 ∨ cK C mm = 4 ∨ cK C mm = 5 ∨ cK C mm = 6 ∨ cK C mm = 7 ∨ cK C mm = 8 ∨ cK C mm = 9 ∨ cK C mm = 10 ∨ cK C mm = 11 ∨ cK C mm = 12 ∨ cK C mm = 13 by omega) with h_ | h_ | h_ | h_ | h_ | h_ | h_ | h_ | h_ | h_ | h_ | h_ | h_ | h_
  · exact xx_callM (mm := mm) (As := []) (rest := rest) S G hm hN (hC.k _) (xt_X2_take l D dA C d j mm hC hm) (xx_cw hts q1030 q1032 (by rw [h_]; exact q1051) q1031 q58 q1063 rfl hu_Module_take (hr _ _ (by decide) (by decide))) rfl hsz rfl hW hdg hf (fun H1 locs1 G1 => kk H1 locs1 (xG_d (xL_e rfl rfl (by simp [tkJ, h_])) G1))
  · exact xx_callM (mm := mm) (As := []) (rest := rest) S G hm hN (hC.k _) (xt_X2_take l D dA C d j mm hC hm) (xx_cw hts q1030 q1032 (by rw [h_]; exact q1062) q1031 q58 q1063 rfl hu_Module_take (hr _ _ (by decide) (by decide))) rfl hsz rfl hW hdg hf (fun H1 locs1 G1 => kk H1 locs1 (xG_d (xL_e rfl rfl (by simp [tkJ, h_])) G1))
  · exact xx_callM (mm := mm) (As := []) (rest := rest) S G hm hN (hC.k _) (xt_X2_take l D dA C d j mm hC hm) (xx_cw hts q1030 q1032 (by rw [h_]; exact q1043) q1031 q58 q1063 rfl hu_Module_take (hr _ _ (by decide) (by decide))) rfl hsz rfl hW hdg hf (fun H1 locs1 G1 => kk H1 locs1 (xG_d (xL_e rfl rfl (by simp [tkJ, h_])) G1))
  · exact xx_callM (mm := mm) (As := []) (rest := rest) S G hm hN (hC.k _) (xt_X7_take l D dA C d j mm hC hm h_ hI) (xx_cwO hts q1030 q1032 q1031 (by rw [h_]; exact q1053) q1054 q63 q1055 q1063 hu_Module_take (hr _ _ (by decide) (by decide))) rfl hsz rfl hW hdg hf (fun H1 locs1 G1 => kk H1 locs1 (xG_d (xL_e rfl rfl (by simp [tkJ, h_])) G1))
  · exact xx_callM (mm := mm) (As := []) (rest := rest) S G hm hN (hC.k _) (xt_X2_take l D dA C d j mm hC hm) (xx_cw hts q1030 q1032 (by rw [h_]; exact q1047) q1031 q58 q1063 rfl hu_Module_take (hr _ _ (by decide) (by decide))) rfl hsz rfl hW hdg hf (fun H1 locs1 G1 => kk H1 locs1 (xG_d (xL_e rfl rfl (by simp [tkJ, h_])) G1))
  · exact xx_callM (mm := mm) (As := []) (rest := rest) S G hm hN (hC.k _) (xt_X2_take l D dA C d j mm hC hm) (xx_cw hts q1030 q1032 (by rw [h_]; exact q1048) q1031 q58 q1063 rfl hu_Module_take (hr _ _ (by decide) (by decide))) rfl hsz rfl hW hdg hf (fun H1 locs1 G1 => kk H1 locs1 (xG_d (xL_e rfl rfl (by simp [tkJ, h_])) G1))
  · exact xx_callM (mm := mm) (As := []) (rest := rest) S G hm hN (hC.k _) (xt_X2_take l D dA C d j mm hC hm) (xx_cw hts q1030 q1032 (by rw [h_]; exact q1050) q1031 q58 q1063 rfl hu_Module_take (hr _ _ (by decide) (by decide))) rfl hsz rfl hW hdg hf (fun H1 locs1 G1 => kk H1 locs1 (xG_d (xL_e rfl rfl (by simp [tkJ, h_])) G1))
  · exact xx_callM (mm := mm) (As := []) (rest := rest) S G hm hN (hC.k _) (xt_X2_take l D dA C d j mm hC hm) (xx_cw hts q1030 q1032 (by rw [h_]; exact q1052) q1031 q58 q1063 rfl hu_Module_take (hr _ _ (by decide) (by decide))) rfl hsz rfl hW hdg hf (fun H1 locs1 G1 => kk H1 locs1 (xG_d (xL_e rfl rfl (by simp [tkJ, h_])) G1))
  · exact xx_callM (mm := mm) (As := []) (rest := rest) S G hm hN (hC.k _) (xt_X2_take l D dA C d j mm hC hm) (xx_cw hts q1030 q1032 (by rw [h_]; exact q1033) q1031 q58 q1063 rfl hu_Module_take (hr _ _ (by decide) (by decide))) rfl hsz rfl hW hdg hf (fun H1 locs1 G1 => kk H1 locs1 (xG_d (xL_e rfl rfl (by simp [tkJ, h_])) G1))
  · exact xx_callM (mm := mm) (As := []) (rest := rest) S G hm hN (hC.k _) (xt_X2_take l D dA C d j mm hC hm) (xx_cw hts q1030 q1032 (by rw [h_]; exact q1049) q1031 q58 q1063 rfl hu_Module_take (hr _ _ (by decide) (by decide))) rfl hsz rfl hW hdg hf (fun H1 locs1 G1 => kk H1 locs1 (xG_d (xL_e rfl rfl (by simp [tkJ, h_])) G1))
  · exact xx_callM (mm := mm) (As := []) (rest := rest) S G hm hN (hC.k _) (xt_X2_take l D dA C d j mm hC hm) (xx_cw hts q1030 q1032 (by rw [h_]; exact q1046) q1031 q58 q1063 rfl hu_Module_take (hr _ _ (by decide) (by decide))) rfl hsz rfl hW hdg hf (fun H1 locs1 G1 => kk H1 locs1 (xG_d (xL_e rfl rfl (by simp [tkJ, h_])) G1))
  · exact xx_callM (mm := mm) (As := []) (rest := rest) S G hm hN (hC.k _) (xt_X15_take l D dA C d j mm hC hm h_ hI) (xx_cwO hts q1030 q1032 q1031 (by rw [h_]; exact q1034) q1035 q71 q1036 q1063 hu_Module_take (hr _ _ (by decide) (by decide))) rfl hsz rfl hW hdg hf (fun H1 locs1 G1 => kk H1 locs1 (xG_d (xL_e rfl rfl (by simp [tkJ, h_])) G1))
  · exact xx_callM (mm := mm) (As := []) (rest := rest) S G hm hN (hC.k _) (xt_X2_take l D dA C d j mm hC hm) (xx_cw hts q1030 q1032 (by rw [h_]; exact q1044) q1031 q58 q1063 rfl hu_Module_take (hr _ _ (by decide) (by decide))) rfl hsz rfl hW hdg hf (fun H1 locs1 G1 => kk H1 locs1 (xG_d (xL_e rfl rfl (by simp [tkJ, h_])) G1))
  · exact xx_callM (mm := mm) (As := []) (rest := rest) S G hm hN (hC.k _) (xt_X2_take l D dA C d j mm hC hm) (xx_cw hts q1030 q1032 (by rw [h_]; exact q1045) q1031 q58 q1063 rfl hu_Module_take (hr _ _ (by decide) (by decide))) rfl hsz rfl hW hdg hf (fun H1 locs1 G1 => kk H1 locs1 (xG_d (xL_e rfl rfl (by simp [tkJ, h_])) G1))
end TD_take
section TD_become
variable {p : Program} {l : Launch} {e : Env} {R : Room} {s : State} {m : MethodId} {args : Array Value} {below : List Frame} {meth : Method} {c : Code} {H : Heap} {locs : List Loc} {cells slots : Nat} {Q : State → Prop}
variable {cc : ByteArray} {pc nL : Nat} {ls : Array Slot} {rest : List Value} {D : va_G} {dA : Nat → ClassId} {A : Nat → Prop} {C : tp_C} {d : md_T} {j : xj_T}
theorem xo_become (S : CallFix p m c cc nL s args lw_all RX0) (G : xG D dA A C d j s H locs) {mm : Nat} (hC : mOK C) (hm : mm < cN C) (hn : cK C mm = 3 ∨ cK C mm = 11 → jWn j mm = dAD d 54 mm ∧ jNn j mm = dAF d 55 mm) (hd : cK C mm = 11 → jDn j mm = some (dlN C mm) ∧ 1 ≤ dlN C mm ∧ dlN C mm ≤ 16) (hDn : dnOK j) (hR : 2 ≤ R.frames ∧ 96 ≤ R.locals) (hf : cells ≤ R.cells ∧ slots ≤ R.slots) (hsz : ls.size = nL) (hW : (rest.map fun v => v.category).sum ≤ 8) (hdg : decode cc pc = .ok (.invokevirtual 246, 3))
    (kk : ∀ (H1 : Heap) (locs1 : List Loc), xG D dA A C (otS C mm d) (bcJ C mm (otS C mm d) j) s H1 locs1 → W p l e R s m args below meth c H1 locs1 cells slots Q (F0 m (pc + 3) ls (rest))) : W p l e R s m args below meth c H locs cells slots Q (F0 m pc ls (.ref (jA j (xr mm 0)) :: rest)) := by
  have hN := hC.n; have hts := S.2.2.2.2; have hk14 := hC.k mm
  have hr : ∀ a L, a ≤ 1 → L ≤ 20 → a + 1 ≤ R.frames ∧ 8 + (L + 11) + 48 * a ≤ R.locals := fun a L h1 h2 => ⟨by omega, by omega⟩
  rcases (show cK C mm = 0 ∨ cK C mm = 1 ∨ cK C mm = 2 ∨ cK C mm = 3 ∨ cK C mm = 4 ∨ cK C mm = 5 ∨ cK C mm = 6 ∨ cK C mm = 7 ∨ cK C mm = 8 ∨ cK C mm = 9 ∨ cK C mm = 10 ∨ cK C mm = 11 ∨ cK C mm = 12 ∨ cK C mm = 13 by omega) with h_ | h_ | h_ | h_ | h_ | h_ | h_ | h_ | h_ | h_ | h_ | h_ | h_ | h_
  · exact xx_callM (mm := mm) (As := []) (rest := rest) S G hm hN (hC.k _) (xt_X2_become l D dA C d j mm hC hm) (xx_cw hts q1109 q1111 (by rw [h_]; exact q1132) q1110 q58 q1138 rfl hu_Module_become (hr _ _ (by decide) (by decide))) rfl hsz rfl hW hdg hf (fun H1 locs1 G1 => kk H1 locs1 (xG_d (xL_e rfl (by simp [otS, h_]) (by simp [bcJ, h_])) G1))
  · exact xx_callM (mm := mm) (As := []) (rest := rest) S G hm hN (hC.k _) (xt_X2_become l D dA C d j mm hC hm) (xx_cw hts q1109 q1111 (by rw [h_]; exact q1137) q1110 q58 q1138 rfl hu_Module_become (hr _ _ (by decide) (by decide))) rfl hsz rfl hW hdg hf (fun H1 locs1 G1 => kk H1 locs1 (xG_d (xL_e rfl (by simp [otS, h_]) (by simp [bcJ, h_])) G1))
  · exact xx_callM (mm := mm) (As := []) (rest := rest) S G hm hN (hC.k _) (xt_X2_become l D dA C d j mm hC hm) (xx_cw hts q1109 q1111 (by rw [h_]; exact q1119) q1110 q58 q1138 rfl hu_Module_become (hr _ _ (by decide) (by decide))) rfl hsz rfl hW hdg hf (fun H1 locs1 G1 => kk H1 locs1 (xG_d (xL_e rfl (by simp [otS, h_]) (by simp [bcJ, h_])) G1))
  · exact xx_callM (mm := mm) (As := []) (rest := rest) S G hm hN (hC.k _) (xt_X7_become l D dA C d j mm hC hm h_) (xx_cwO hts q1109 q1111 q1110 (by rw [h_]; exact q1134) q1135 q63 q1136 q1138 hu_Module_become (hr _ _ (by decide) (by decide))) rfl hsz rfl hW hdg hf (fun H1 locs1 G1 => kk H1 locs1 (xG_d (xL_e rfl (by rw [(hn (Or.inl h_)).1, (hn (Or.inl h_)).2]; simp [otS, h_]) (by simp [bcJ, h_])) G1))
  · exact xx_callM (mm := mm) (As := []) (rest := rest) S G hm hN (hC.k _) (xt_X2_become l D dA C d j mm hC hm) (xx_cw hts q1109 q1111 (by rw [h_]; exact q1128) q1110 q58 q1138 rfl hu_Module_become (hr _ _ (by decide) (by decide))) rfl hsz rfl hW hdg hf (fun H1 locs1 G1 => kk H1 locs1 (xG_d (xL_e rfl (by simp [otS, h_]) (by simp [bcJ, h_])) G1))
  · exact xx_callM (mm := mm) (As := []) (rest := rest) S G hm hN (hC.k _) (xt_X2_become l D dA C d j mm hC hm) (xx_cw hts q1109 q1111 (by rw [h_]; exact q1129) q1110 q58 q1138 rfl hu_Module_become (hr _ _ (by decide) (by decide))) rfl hsz rfl hW hdg hf (fun H1 locs1 G1 => kk H1 locs1 (xG_d (xL_e rfl (by simp [otS, h_]) (by simp [bcJ, h_])) G1))
  · exact xx_callM (mm := mm) (As := []) (rest := rest) S G hm hN (hC.k _) (xt_X2_become l D dA C d j mm hC hm) (xx_cw hts q1109 q1111 (by rw [h_]; exact q1131) q1110 q58 q1138 rfl hu_Module_become (hr _ _ (by decide) (by decide))) rfl hsz rfl hW hdg hf (fun H1 locs1 G1 => kk H1 locs1 (xG_d (xL_e rfl (by simp [otS, h_]) (by simp [bcJ, h_])) G1))
  · exact xx_callM (mm := mm) (As := []) (rest := rest) S G hm hN (hC.k _) (xt_X2_become l D dA C d j mm hC hm) (xx_cw hts q1109 q1111 (by rw [h_]; exact q1133) q1110 q58 q1138 rfl hu_Module_become (hr _ _ (by decide) (by decide))) rfl hsz rfl hW hdg hf (fun H1 locs1 G1 => kk H1 locs1 (xG_d (xL_e rfl (by simp [otS, h_]) (by simp [bcJ, h_])) G1))
  · exact xx_callM (mm := mm) (As := []) (rest := rest) S G hm hN (hC.k _) (xt_X2_become l D dA C d j mm hC hm) (xx_cw hts q1109 q1111 (by rw [h_]; exact q1112) q1110 q58 q1138 rfl hu_Module_become (hr _ _ (by decide) (by decide))) rfl hsz rfl hW hdg hf (fun H1 locs1 G1 => kk H1 locs1 (xG_d (xL_e rfl (by simp [otS, h_]) (by simp [bcJ, h_])) G1))
  · exact xx_callM (mm := mm) (As := []) (rest := rest) S G hm hN (hC.k _) (xt_X2_become l D dA C d j mm hC hm) (xx_cw hts q1109 q1111 (by rw [h_]; exact q1130) q1110 q58 q1138 rfl hu_Module_become (hr _ _ (by decide) (by decide))) rfl hsz rfl hW hdg hf (fun H1 locs1 G1 => kk H1 locs1 (xG_d (xL_e rfl (by simp [otS, h_]) (by simp [bcJ, h_])) G1))
  · exact xx_callM (mm := mm) (As := []) (rest := rest) S G hm hN (hC.k _) (xt_X2_become l D dA C d j mm hC hm) (xx_cw hts q1109 q1111 (by rw [h_]; exact q1127) q1110 q58 q1138 rfl hu_Module_become (hr _ _ (by decide) (by decide))) rfl hsz rfl hW hdg hf (fun H1 locs1 G1 => kk H1 locs1 (xG_d (xL_e rfl (by simp [otS, h_]) (by simp [bcJ, h_])) G1))
  · exact xx_callM (mm := mm) (As := []) (rest := rest) S G hm hN (hC.k _) (xt_X15_become l D dA C d j mm hC hm h_ (hd h_).1 (hd h_).2.1 (hd h_).2.2 hDn) (xx_cwO hts q1109 q1111 q1110 (by rw [h_]; exact q1113) q1114 q71 q1115 q1138 hu_Module_become (hr _ _ (by decide) (by decide))) rfl hsz rfl hW hdg hf (fun H1 locs1 G1 => kk H1 locs1 (xG_d (xL_e rfl (by rw [(hn (Or.inr h_)).1, (hn (Or.inr h_)).2]; simp [otS, h_]) (by rw [(hn (Or.inr h_)).1, (hn (Or.inr h_)).2]; simp [bcJ, otS, h_])) G1))
  · exact xx_callM (mm := mm) (As := []) (rest := rest) S G hm hN (hC.k _) (xt_X2_become l D dA C d j mm hC hm) (xx_cw hts q1109 q1111 (by rw [h_]; exact q1120) q1110 q58 q1138 rfl hu_Module_become (hr _ _ (by decide) (by decide))) rfl hsz rfl hW hdg hf (fun H1 locs1 G1 => kk H1 locs1 (xG_d (xL_e rfl (by simp [otS, h_]) (by simp [bcJ, h_])) G1))
  · exact xx_callM (mm := mm) (As := []) (rest := rest) S G hm hN (hC.k _) (xt_X17_become l D dA C d j mm hC hm h_) (xx_cwO hts q1109 q1111 q1110 (by rw [h_]; exact q1121) q1122 q73 q1123 q1138 hu_Module_become (hr _ _ (by decide) (by decide))) rfl hsz rfl hW hdg hf (fun H1 locs1 G1 => kk H1 locs1 (xG_d (xL_e rfl (by simp [otS, h_]) (by simp [bcJ, h_])) G1))
end TD_become
theorem xt_X0_rates (l : Launch) (D : va_G) (dA : Nat → ClassId) (C : tp_C) (d : md_T) (j : xj_T) (i : Nat) (hC : mOK C) (hi : i < 4) (hR : rOK d) : xC l D dA yX0_rates cX0_rates 3 none 3 [.ref (jA j 0), .int (nI i)] C d j none C d (rtJ C d i j (cN C)) := by
  refine xx_start (own := RX0) (by decide) rfl (Nat.le_of_ble_eq_true rfl) ?_
  intro p0 e0 s0 mid bl0 me0 co0 ls S hr hlk G hl
  have hx := S.1; have hb := S.2.1; have hml := S.2.2.1; have hown := S.2.2.2.1; have hts := S.2.2.2.2; have hN := hC.n
  have hl : lv_has ls 3 [(0, .ref (jA j 0)), (1, .int (nI i))] := hl
  have L1 : ∀ (n_ m : Nat), m ≤ cN C → cN C < m + n_ → ∀ (H : Heap) (locs : List Loc) (ls : Array Slot), xG D dA (xA dA C d j) C d (rtJ C d i j m) s0 H locs → lv_has ls 3 [(2, .int (nI m)), (1, .int (nI i)), (0, .ref (jA j 0))] → (∀ (H : Heap) (locs : List Loc) (ls : Array Slot), xG D dA (xA dA C d j) C d (rtJ C d i j (cN C)) s0 H locs → lv_has ls 3 [(2, .int (nI (cN C))), (1, .int (nI i)), (0, .ref (jA j 0))] → W p0 l e0 (rm_ 3) s0 mid ([.ref (jA j 0), .int (nI i)] : List Value).toArray bl0 me0 co0 H locs 0 0 (MQ bl0 (xQ D dA C d j none C d (rtJ C d i j (cN C))) ([.ref (jA j 0), .int (nI i)] : List Value).toArray s0 0 0 (xA dA C d j)) (F0 mid 42 ls [])) → W p0 l e0 (rm_ 3) s0 mid ([.ref (jA j 0), .int (nI i)] : List Value).toArray bl0 me0 co0 H locs 0 0 (MQ bl0 (xQ D dA C d j none C d (rtJ C d i j (cN C))) ([.ref (jA j 0), .int (nI i)] : List Value).toArray s0 0 0 (xA dA C d j)) (F0 mid 2 ls []) := by
    intro n_
    induction n_ with
    | zero => intro m h1_ h2_; exact absurd h2_ (by omega)
    | succ n_ ih =>
      intro m h1_ h2_ H locs ls G hl kk
      have hk14 := hC.k m
      refine lv_iload_n hx hb dX0_rates_2 rfl (lv_at hl 0 rfl) ?_
      refine lv_aload_n hx hb dX0_rates_3 rfl (lv_at hl 2 rfl) ?_
      refine xx_getP (j := (rtJ C d i j m)) S G 1 (by decide) q90 rfl (v := .int (nI (cN C))) rfl dX0_rates_4 ?_
      refine nn_cge (tgt := 42) hx hb (by omega) (by omega) dX0_rates_7 (by decide) (fun c_7 => ?_) (fun c_7 => ?_)
      · have hiN : m = cN C := by omega
        subst hiN
        exact kk H locs ls G (lv_sub hl [0, 1, 2] rfl)
      · refine lv_aload_n hx hb dX0_rates_10 rfl (lv_at hl 2 rfl) ?_
        refine xx_getP (j := (rtJ C d i j m)) S G 0 (by decide) q89 rfl (v := .ref (jA j 1)) rfl dX0_rates_11 ?_
        refine lv_iload_n hx hb dX0_rates_14 rfl (lv_at hl 0 rfl) ?_
        refine xx_aald (j := (rtJ C d i j m)) S G (r := 1) (by decide) (xW_p (by decide) rfl) (i := m) (by omega) (by decide) (o := some (jA j (xr m 0))) (if_pos (by omega)) dX0_rates_15 ?_
        refine W.eq (g2 := F0 mid 16 ls [.ref (jA j (xr m 0))]) rfl ?_
        refine xx_get11 (j := (rtJ C d i j m)) S G (mm := m) (by omega) hN (hC.k _) 0 (by decide) q203 rfl (v := .int (nI (cK C m))) rfl dX0_rates_16 ?_
        refine lv_iconst (v := nI 2) hx hb dX0_rates_19 (by decide) ?_
        refine nn_cne (tgt := 36) hx hb (by omega) (by omega) dX0_rates_20 (by decide) (fun c_20 => ?_) (fun c_20 => ?_)
        · refine lv_iinc (v := nI (m + 1)) (lv' := [(2, .int (nI (m + 1))), (1, .int (nI i)), (0, .ref (jA j 0))]) hx hb dX0_rates_36 hl (k := 0) rfl (nI_1 _) (by decide) rfl (fun ls hl => ?_)
          refine lv_goto (tgt := 2) hx hb dX0_rates_39 (by decide) ?_
          exact ih (m + 1) (by omega) (by omega) H locs ls (xG_d (by exact xL_e rfl rfl (rtJ_n C d i j m c_20)) G) (lv_sub hl [0, 1, 2] rfl) kk
        · refine lv_aload_n hx hb dX0_rates_23 rfl (lv_at hl 2 rfl) ?_
          refine xx_getP (j := (rtJ C d i j m)) S G 0 (by decide) q89 rfl (v := .ref (jA j 1)) rfl dX0_rates_24 ?_
          refine lv_iload_n hx hb dX0_rates_27 rfl (lv_at hl 0 rfl) ?_
          refine xx_aald (j := (rtJ C d i j m)) S G (r := 1) (by decide) (xW_p (by decide) rfl) (i := m) (by omega) (by decide) (o := some (jA j (xr m 0))) (if_pos (by omega)) dX0_rates_28 ?_
          refine W.eq (g2 := F0 mid 29 ls [.ref (jA j (xr m 0))]) rfl ?_
          refine xx_cast (j := (rtJ C d i j m)) S G (mm := m) (by omega) hN (hC.k _) (by rw [c_20]; exact q275) dX0_rates_29 ?_
          refine lv_iload_n hx hb dX0_rates_32 rfl (lv_at hl 1 rfl) ?_
          refine xx_callK (j := (rtJ C d i j m)) (mm := m) (As := [.int (nI i)]) (rest := []) S G (by omega) hN c_20 (by decide) (xt_X6_rate l D dA C d (rtJ C d i j m) m i hC (by omega) c_20 (by omega) hR) q1072 q1073 q1074 q62 q1075 hd_X6_rate ⟨Nat.le_of_ble_eq_true rfl, Nat.le_of_ble_eq_true rfl⟩ rfl hl.1 rfl (Nat.le_of_ble_eq_true rfl) dX0_rates_33 ⟨Nat.zero_le _, Nat.zero_le _⟩ (fun H locs G => ?_)
          refine W.eq (g2 := F0 mid 36 ls []) rfl ?_
          refine lv_iinc (v := nI (m + 1)) (lv' := [(2, .int (nI (m + 1))), (1, .int (nI i)), (0, .ref (jA j 0))]) hx hb dX0_rates_36 hl (k := 0) rfl (nI_1 _) (by decide) rfl (fun ls hl => ?_)
          refine lv_goto (tgt := 2) hx hb dX0_rates_39 (by decide) ?_
          exact ih (m + 1) (by omega) (by omega) H locs ls (xG_d (by exact xL_e rfl rfl (rtJ_2 C d i j m c_20)) G) (lv_sub hl [0, 1, 2] rfl) kk
  refine lv_iconst (v := nI 0) hx hb dX0_rates_0 (by decide) ?_
  refine lv_istore_n (lv' := [(2, .int (nI 0)), (0, .ref (jA j 0)), (1, .int (nI i))]) hx hb dX0_rates_1 rfl hl (by decide) rfl (fun ls hl => ?_)
  refine L1 (cN C + 1) 0 (by omega) (by omega) _ _ ls (xG_d (by exact xL_e rfl rfl (rtJ_0 C d i j)) G) (lv_sub hl [0, 2, 1] rfl) (fun H locs ls G hl => ?_)
  exact xx_vret S hr hlk G rfl dX0_rates_42
theorem xt_X0_stage (l : Launch) (D : va_G) (dA : Nat → ClassId) (C : tp_C) (d : md_T) (j : xj_T) (i : Nat) (t : UInt64) (hC : mOK C) (hi : i < 4) (hV : vOK C) (hR : rOK d) (hA : aOK C) (hJ : jOK C d j) (hO : orOK C (dAI d 10) j) (hF : tiF C d j) (hRt : tiR C d j i 56 57) (hG : grOK C j) (hq : qOK d) (ht : tOK t) (h44 : dI d 44 = dI d 12 + nI 1) : xC l D dA yX0_stage cX0_stage 5 none 8 [.ref (jA j 0), .int (nI i), .double t] C d j none C (raD C (sgA C t d)) j := by
  refine xx_start (own := RX0) (by decide) rfl (Nat.le_of_ble_eq_true rfl) ?_
  intro p0 e0 s0 mid bl0 me0 co0 ls S hr hlk G hl
  have hx := S.1; have hb := S.2.1; have hml := S.2.2.1; have hown := S.2.2.2.1; have hts := S.2.2.2.2; have hN := hC.n
  have hl : lv_has ls 5 [(0, .ref (jA j 0)), (1, .int (nI i)), (2, .double t)] := hl
  have L1 : ∀ (n_ m : Nat), m ≤ cN C → cN C < m + n_ → ∀ (H : Heap) (locs : List Loc) (ls : Array Slot), xG D dA (xA dA C d j) C (sgN C t m d) j s0 H locs → lv_has ls 5 [(4, .int (nI m)), (1, .int (nI i)), (2, .double t), (0, .ref (jA j 0))] → (∀ (H : Heap) (locs : List Loc) (ls : Array Slot), xG D dA (xA dA C d j) C (sgN C t (cN C) d) j s0 H locs → lv_has ls 5 [(4, .int (nI (cN C))), (1, .int (nI i)), (2, .double t), (0, .ref (jA j 0))] → W p0 l e0 (rm_ 8) s0 mid ([.ref (jA j 0), .int (nI i), .double t] : List Value).toArray bl0 me0 co0 H locs 0 0 (MQ bl0 (xQ D dA C d j none C (raD C (sgA C t d)) j) ([.ref (jA j 0), .int (nI i), .double t] : List Value).toArray s0 0 0 (xA dA C d j)) (F0 mid 53 ls [])) → W p0 l e0 (rm_ 8) s0 mid ([.ref (jA j 0), .int (nI i), .double t] : List Value).toArray bl0 me0 co0 H locs 0 0 (MQ bl0 (xQ D dA C d j none C (raD C (sgA C t d)) j) ([.ref (jA j 0), .int (nI i), .double t] : List Value).toArray s0 0 0 (xA dA C d j)) (F0 mid 3 ls []) := by
    intro n_
    induction n_ with
    | zero => intro m h1_ h2_; exact absurd h2_ (by omega)
    | succ n_ ih =>
      intro m h1_ h2_ H locs ls G hl kk
      have hk14 := hC.k m
      refine lv_iload hx hb dX0_stage_3 (lv_at hl 0 rfl) ?_
      refine lv_aload_n hx hb dX0_stage_5 rfl (lv_at hl 3 rfl) ?_
      refine xx_getP S G 1 (by decide) q90 rfl (v := .int (nI (cN C))) rfl dX0_stage_6 ?_
      refine nn_cge (tgt := 53) hx hb (by omega) (by omega) dX0_stage_9 (by decide) (fun c_9 => ?_) (fun c_9 => ?_)
      · have hiN : m = cN C := by omega
        subst hiN
        exact kk H locs ls G (lv_sub hl [0, 1, 2, 3] rfl)
      · refine lv_aload_n hx hb dX0_stage_12 rfl (lv_at hl 3 rfl) ?_
        refine xx_getP S G 0 (by decide) q89 rfl (v := .ref (jA j 1)) rfl dX0_stage_13 ?_
        refine lv_iload hx hb dX0_stage_16 (lv_at hl 0 rfl) ?_
        refine xx_aald S G (r := 1) (by decide) (xW_p (by decide) rfl) (i := m) (by omega) (by decide) (o := some (jA j (xr m 0))) (if_pos (by omega)) dX0_stage_18 ?_
        refine W.eq (g2 := F0 mid 19 ls [.ref (jA j (xr m 0))]) rfl ?_
        refine xx_get11 S G (mm := m) (by omega) hN (hC.k _) 0 (by decide) q203 rfl (v := .int (nI (cK C m))) rfl dX0_stage_19 ?_
        refine lv_iconst (v := nI 2) hx hb dX0_stage_22 (by decide) ?_
        refine nn_cne (tgt := 47) hx hb (by omega) (by omega) dX0_stage_23 (by decide) (fun c_23 => ?_) (fun c_23 => ?_)
        · refine lv_iinc (v := nI (m + 1)) (lv' := [(4, .int (nI (m + 1))), (1, .int (nI i)), (2, .double t), (0, .ref (jA j 0))]) hx hb dX0_stage_47 hl (k := 0) rfl (nI_1 _) (by decide) rfl (fun ls hl => ?_)
          refine lv_goto (tgt := 3) hx hb dX0_stage_50 (by decide) ?_
          exact ih (m + 1) (by omega) (by omega) H locs ls (xG_d (xL_e rfl (by exact (if_neg c_23).symm) rfl) G) (lv_sub hl [0, 1, 2, 3] rfl) kk
        · refine lv_aload_n hx hb dX0_stage_26 rfl (lv_at hl 3 rfl) ?_
          refine xx_getP S G 0 (by decide) q89 rfl (v := .ref (jA j 1)) rfl dX0_stage_27 ?_
          refine lv_iload hx hb dX0_stage_30 (lv_at hl 0 rfl) ?_
          refine xx_aald S G (r := 1) (by decide) (xW_p (by decide) rfl) (i := m) (by omega) (by decide) (o := some (jA j (xr m 0))) (if_pos (by omega)) dX0_stage_32 ?_
          refine W.eq (g2 := F0 mid 33 ls [.ref (jA j (xr m 0))]) rfl ?_
          refine xx_cast S G (mm := m) (by omega) hN (hC.k _) (by rw [c_23]; exact q275) dX0_stage_33 ?_
          refine lv_iload_n hx hb dX0_stage_36 rfl (lv_at hl 1 rfl) ?_
          refine lv_dload_n hx hb dX0_stage_37 rfl (lv_at hl 2 rfl) ?_
          refine lv_aload_n hx hb dX0_stage_38 rfl (lv_at hl 3 rfl) ?_
          refine xx_getP S G 5 (by decide) q94 rfl (v := .int (dI d 12)) (by show Value.int (dI (sgN C t m d) 12) = _; rw [sgN_dI]) dX0_stage_39 ?_
          refine lv_iconst (v := nI 1) hx hb dX0_stage_42 (by decide) ?_
          refine lv_iadd hx hb dX0_stage_43 ?_
          refine xx_callK (mm := m) (As := [.int (nI i), .double t, .int ((dI d 12) + (nI 1))]) (rest := []) S G (by omega) hN c_23 (by decide) (xt_X6_go l D dA C (sgN C t m d) j m i t ((dI d 12) + (nI 1)) hC (by omega) c_23 (by omega) (hG m (by omega) c_23) ht (by rw [sgN_dI]; exact h44)) q1086 q1087 q1088 q62 q1089 hd_X6_go ⟨Nat.le_of_ble_eq_true rfl, Nat.le_of_ble_eq_true rfl⟩ rfl hl.1 rfl (Nat.le_of_ble_eq_true rfl) dX0_stage_44 ⟨Nat.zero_le _, Nat.zero_le _⟩ (fun H locs G => ?_)
          refine W.eq (g2 := F0 mid 47 ls []) rfl ?_
          refine lv_iinc (v := nI (m + 1)) (lv' := [(4, .int (nI (m + 1))), (1, .int (nI i)), (2, .double t), (0, .ref (jA j 0))]) hx hb dX0_stage_47 hl (k := 0) rfl (nI_1 _) (by decide) rfl (fun ls hl => ?_)
          refine lv_goto (tgt := 3) hx hb dX0_stage_50 (by decide) ?_
          exact ih (m + 1) (by omega) (by omega) H locs ls (xG_d (xL_e rfl (by exact gb_sg c_23 (by unfold sgV; rw [sgN_D (by decide), sgN_D (by decide), ← (hF m (by omega) c_23).1, ← (hRt m (by omega) c_23).1]) (by unfold sgW; rw [sgN_F (by decide), sgN_F (by decide), ← (hF m (by omega) c_23).2, ← (hRt m (by omega) c_23).2])) rfl) G) (lv_sub hl [0, 1, 2, 3] rfl) kk
  refine lv_iconst (v := nI 0) hx hb dX0_stage_0 (by decide) ?_
  refine lv_istore (lv' := [(4, .int (nI 0)), (0, .ref (jA j 0)), (1, .int (nI i)), (2, .double t)]) hx hb dX0_stage_1 hl (by decide) rfl (fun ls hl => ?_)
  refine L1 (cN C + 1) 0 (by omega) (by omega) _ _ ls (xG_d (xL_e rfl (by rfl) rfl) G) (lv_sub hl [0, 2, 3, 1] rfl) (fun H locs ls G hl => ?_)
  refine lv_aload_n hx hb dX0_stage_53 rfl (lv_at hl 3 rfl) ?_
  refine lv_aload_n hx hb dX0_stage_54 rfl (lv_at hl 3 rfl) ?_
  refine xx_getP S G 5 (by decide) q94 rfl (v := .int (dI d 12)) (by show Value.int (dI (sgN C t (cN C) d) 12) = _; rw [sgN_dI]) dX0_stage_55 ?_
  refine lv_iconst (v := nI 1) hx hb dX0_stage_58 (by decide) ?_
  refine lv_iadd hx hb dX0_stage_59 ?_
  refine xx_callP (As := [.int ((dI d 12) + (nI 1))]) (rest := []) S G (xt_X0_read l D dA C (sgN C t (cN C) d) j ((dI d 12) + (nI 1)) hC hV (sgN_ok ht hq hR (cN C)).1 hA (by rw [sgN_dI]; exact h44) (jOK_mv (sgN_D (by decide)) (sgN_F (by decide)) (fun _ _ => rfl) (fun _ _ => rfl) hJ) (by rw [sgN_A (by decide)]; exact hO)) q717 q719 qs7 q720 hd_X0_read ⟨Nat.le_of_ble_eq_true rfl, Nat.le_of_ble_eq_true rfl⟩ rfl hl.1 rfl (Nat.le_of_ble_eq_true rfl) dX0_stage_60 ⟨Nat.zero_le _, Nat.zero_le _⟩ (fun H locs G => ?_)
  refine W.eq (g2 := F0 mid 63 ls []) rfl ?_
  exact xx_vret S hr hlk G (xL_e rfl (by rfl) rfl) dX0_stage_63
theorem xt_X0_length (l : Launch) (D : va_G) (dA : Nat → ClassId) (C : tp_C) (d : md_T) (j : xj_T) (k : Nat) (hC : mOK C) (hk : k < 23) : xC l D dA yX0_length cX0_length 4 (some .double) 0 [.int (nI k)] C d j (some (.double (hvT k))) C d j := by
  refine xx_start (own := RX0) (by decide) rfl (Nat.le_of_ble_eq_true rfl) ?_
  intro p0 e0 s0 mid bl0 me0 co0 ls S hr hlk G hl
  have hx := S.1; have hb := S.2.1; have hml := S.2.2.1; have hown := S.2.2.2.1; have hts := S.2.2.2.2; have hN := hC.n
  have hl : lv_has ls 4 [(0, .int (nI k))] := hl
  have L1 : ∀ (n_ i : Nat), i ≤ k → k < i + n_ → ∀ (H : Heap) (locs : List Loc) (ls : Array Slot), xG D dA (xA dA C d j) C d j s0 H locs → lv_has ls 4 [(3, .int (nI i)), (1, .double (hvT i)), (0, .int (nI k))] → (∀ (H : Heap) (locs : List Loc) (ls : Array Slot), xG D dA (xA dA C d j) C d j s0 H locs → lv_has ls 4 [(3, .int (nI k)), (1, .double (hvT k)), (0, .int (nI k))] → W p0 l e0 (rm_ 0) s0 mid ([.int (nI k)] : List Value).toArray bl0 me0 co0 H locs 0 0 (MQ bl0 (xQ D dA C d j (some (.double (hvT k))) C d j) ([.int (nI k)] : List Value).toArray s0 0 0 (xA dA C d j)) (F0 mid 21 ls [])) → W p0 l e0 (rm_ 0) s0 mid ([.int (nI k)] : List Value).toArray bl0 me0 co0 H locs 0 0 (MQ bl0 (xQ D dA C d j (some (.double (hvT k))) C d j) ([.int (nI k)] : List Value).toArray s0 0 0 (xA dA C d j)) (F0 mid 4 ls []) := by
    intro n_
    induction n_ with
    | zero => intro i h1_ h2_; exact absurd h2_ (by omega)
    | succ n_ ih =>
      intro i h1_ h2_ H locs ls G hl kk
      refine lv_iload_n hx hb dX0_length_4 rfl (lv_at hl 0 rfl) ?_
      refine lv_iload_n hx hb dX0_length_5 rfl (lv_at hl 2 rfl) ?_
      refine nn_cge (tgt := 21) hx hb (by omega) (by omega) dX0_length_6 (by decide) (fun c_6 => ?_) (fun c_6 => ?_)
      · have hiN : i = k := by omega
        subst hiN
        exact kk H locs ls G (lv_sub hl [0, 1, 2] rfl)
      · refine lv_dload_n hx hb dX0_length_9 rfl (lv_at hl 1 rfl) ?_
        refine lv_ldc2d hx hb hown (hts _ q1021) dX0_length_10 ?_
        refine lv_ddiv hx hb dX0_length_13 (hv_n (k := i + 1) (by omega)) ?_
        refine lv_dstore_n (lv' := [(1, .double (FP.ddiv (hvT i) 4611686018427387904)), (3, .int (nI i)), (0, .int (nI k))]) hx hb dX0_length_14 rfl hl (by decide) rfl (fun ls hl => ?_)
        refine lv_iinc (v := nI (i + 1)) (lv' := [(3, .int (nI (i + 1))), (1, .double (FP.ddiv (hvT i) 4611686018427387904)), (0, .int (nI k))]) hx hb dX0_length_15 hl (k := 1) rfl (nI_1 _) (by decide) rfl (fun ls hl => ?_)
        refine lv_goto (tgt := 4) hx hb dX0_length_18 (by decide) ?_
        exact ih (i + 1) (by omega) (by omega) H locs ls G (lv_eq (lv_sub (l' := [(3, .int (nI (i + 1))), (1, .double (FP.ddiv (hvT i) 4611686018427387904)), (0, .int (nI k))]) hl [0, 1, 2] rfl) (by rfl)) kk
  refine lv_dconst1 hx hb dX0_length_0 ?_
  refine lv_dstore_n (lv' := [(1, .double FP.dconst1), (0, .int (nI k))]) hx hb dX0_length_1 rfl hl (by decide) rfl (fun ls hl => ?_)
  refine lv_iconst (v := nI 0) hx hb dX0_length_2 (by decide) ?_
  refine lv_istore_n (lv' := [(3, .int (nI 0)), (1, .double FP.dconst1), (0, .int (nI k))]) hx hb dX0_length_3 rfl hl (by decide) rfl (fun ls hl => ?_)
  refine L1 (k + 1) 0 (by omega) (by omega) _ _ ls G (lv_eq (lv_sub (l' := [(3, .int (nI 0)), (1, .double FP.dconst1), (0, .int (nI k))]) hl [0, 1, 2] rfl) (by rfl)) (fun H locs ls G hl => ?_)
  refine lv_dload_n hx hb dX0_length_21 rfl (lv_at hl 1 rfl) ?_
  exact xx_dret S hr hlk G rfl rfl dX0_length_22
theorem sgN_dI0 : True := trivial
