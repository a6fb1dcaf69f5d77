set_option maxRecDepth 100000
set_option maxHeartbeats 4000000
theorem dX2_begin_0 : decode cX2_begin 0 = .ok (.aload_n 0, 1) := by decide +kernel
theorem dX2_begin_1 : decode cX2_begin 1 = .ok (.iconst (-1), 1) := by decide +kernel
theorem dX2_begin_2 : decode cX2_begin 2 = .ok (.putfield 23, 3) := by decide +kernel
theorem dX2_begin_5 : decode cX2_begin 5 = .ok (.aload_n 0, 1) := by decide +kernel
theorem dX2_begin_6 : decode cX2_begin 6 = .ok (.dconst 0, 1) := by decide +kernel
theorem dX2_begin_7 : decode cX2_begin 7 = .ok (.putfield 73, 3) := by decide +kernel
theorem dX2_begin_10 : decode cX2_begin 10 = .ok (.return_, 1) := by decide +kernel
theorem dX5_begin_0 : decode cX5_begin 0 = .ok (.aload_n 0, 1) := by decide +kernel
theorem dX5_begin_1 : decode cX5_begin 1 = .ok (.invokespecial 17, 3) := by decide +kernel
theorem dX5_begin_4 : decode cX5_begin 4 = .ok (.aload_n 0, 1) := by decide +kernel
theorem dX5_begin_5 : decode cX5_begin 5 = .ok (.aload_n 0, 1) := by decide +kernel
theorem dX5_begin_6 : decode cX5_begin 6 = .ok (.getfield 21, 3) := by decide +kernel
theorem dX5_begin_9 : decode cX5_begin 9 = .ok (.putfield 7, 3) := by decide +kernel
theorem dX5_begin_12 : decode cX5_begin 12 = .ok (.aload_n 0, 1) := by decide +kernel
theorem dX5_begin_13 : decode cX5_begin 13 = .ok (.aload_n 0, 1) := by decide +kernel
theorem dX5_begin_14 : decode cX5_begin 14 = .ok (.getfield 21, 3) := by decide +kernel
theorem dX5_begin_17 : decode cX5_begin 17 = .ok (.d2f, 1) := by decide +kernel
theorem dX5_begin_18 : decode cX5_begin 18 = .ok (.putfield 13, 3) := by decide +kernel
theorem dX5_begin_21 : decode cX5_begin 21 = .ok (.return_, 1) := by decide +kernel
theorem dX17_begin_0 : decode cX17_begin 0 = .ok (.aload_n 0, 1) := by decide +kernel
theorem dX17_begin_1 : decode cX17_begin 1 = .ok (.invokespecial 7, 3) := by decide +kernel
theorem dX17_begin_4 : decode cX17_begin 4 = .ok (.aload_n 0, 1) := by decide +kernel
theorem dX17_begin_5 : decode cX17_begin 5 = .ok (.aload_n 0, 1) := by decide +kernel
theorem dX17_begin_6 : decode cX17_begin 6 = .ok (.getfield 11, 3) := by decide +kernel
theorem dX17_begin_9 : decode cX17_begin 9 = .ok (.d2i, 1) := by decide +kernel
theorem dX17_begin_10 : decode cX17_begin 10 = .ok (.putfield 17, 3) := by decide +kernel
theorem dX17_begin_13 : decode cX17_begin 13 = .ok (.return_, 1) := by decide +kernel
theorem dX15_become_0 : decode cX15_become 0 = .ok (.aload_n 0, 1) := by decide +kernel
theorem dX15_become_1 : decode cX15_become 1 = .ok (.getfield 17, 3) := by decide +kernel
theorem dX15_become_4 : decode cX15_become 4 = .ok (.arraylength, 1) := by decide +kernel
theorem dX15_become_5 : decode cX15_become 5 = .ok (.istore_n 1, 1) := by decide +kernel
theorem dX15_become_6 : decode cX15_become 6 = .ok (.aload_n 0, 1) := by decide +kernel
theorem dX15_become_7 : decode cX15_become 7 = .ok (.getfield 17, 3) := by decide +kernel
theorem dX15_become_10 : decode cX15_become 10 = .ok (.iconst 1, 1) := by decide +kernel
theorem dX15_become_11 : decode cX15_become 11 = .ok (.aload_n 0, 1) := by decide +kernel
theorem dX15_become_12 : decode cX15_become 12 = .ok (.getfield 17, 3) := by decide +kernel
theorem dX15_become_15 : decode cX15_become 15 = .ok (.iconst 0, 1) := by decide +kernel
theorem dX15_become_16 : decode cX15_become 16 = .ok (.iload_n 1, 1) := by decide +kernel
theorem dX15_become_17 : decode cX15_become 17 = .ok (.iconst 1, 1) := by decide +kernel
theorem dX15_become_18 : decode cX15_become 18 = .ok (.isub, 1) := by decide +kernel
theorem dX15_become_19 : decode cX15_become 19 = .ok (.invokestatic 43, 3) := by decide +kernel
theorem dX15_become_22 : decode cX15_become 22 = .ok (.aload_n 0, 1) := by decide +kernel
theorem dX15_become_23 : decode cX15_become 23 = .ok (.getfield 21, 3) := by decide +kernel
theorem dX15_become_26 : decode cX15_become 26 = .ok (.iconst 1, 1) := by decide +kernel
theorem dX15_become_27 : decode cX15_become 27 = .ok (.aload_n 0, 1) := by decide +kernel
theorem dX15_become_28 : decode cX15_become 28 = .ok (.getfield 21, 3) := by decide +kernel
theorem dX15_become_31 : decode cX15_become 31 = .ok (.iconst 0, 1) := by decide +kernel
theorem dX15_become_32 : decode cX15_become 32 = .ok (.iload_n 1, 1) := by decide +kernel
theorem dX15_become_33 : decode cX15_become 33 = .ok (.iconst 1, 1) := by decide +kernel
theorem dX15_become_34 : decode cX15_become 34 = .ok (.isub, 1) := by decide +kernel
theorem dX15_become_35 : decode cX15_become 35 = .ok (.invokestatic 43, 3) := by decide +kernel
theorem dX15_become_38 : decode cX15_become 38 = .ok (.aload_n 0, 1) := by decide +kernel
theorem dX15_become_39 : decode cX15_become 39 = .ok (.getfield 17, 3) := by decide +kernel
theorem dX15_become_42 : decode cX15_become 42 = .ok (.iload_n 1, 1) := by decide +kernel
theorem dX15_become_43 : decode cX15_become 43 = .ok (.iconst 1, 1) := by decide +kernel
theorem dX15_become_44 : decode cX15_become 44 = .ok (.isub, 1) := by decide +kernel
theorem dX15_become_45 : decode cX15_become 45 = .ok (.aload_n 0, 1) := by decide +kernel
theorem dX15_become_46 : decode cX15_become 46 = .ok (.getfield 32, 3) := by decide +kernel
theorem dX15_become_49 : decode cX15_become 49 = .ok (.dastore, 1) := by decide +kernel
theorem dX15_become_50 : decode cX15_become 50 = .ok (.aload_n 0, 1) := by decide +kernel
theorem dX15_become_51 : decode cX15_become 51 = .ok (.getfield 21, 3) := by decide +kernel
theorem dX15_become_54 : decode cX15_become 54 = .ok (.iload_n 1, 1) := by decide +kernel
theorem dX15_become_55 : decode cX15_become 55 = .ok (.iconst 1, 1) := by decide +kernel
theorem dX15_become_56 : decode cX15_become 56 = .ok (.isub, 1) := by decide +kernel
theorem dX15_become_57 : decode cX15_become 57 = .ok (.aload_n 0, 1) := by decide +kernel
theorem dX15_become_58 : decode cX15_become 58 = .ok (.getfield 39, 3) := by decide +kernel
theorem dX15_become_61 : decode cX15_become 61 = .ok (.fastore, 1) := by decide +kernel
theorem dX15_become_62 : decode cX15_become 62 = .ok (.aload_n 0, 1) := by decide +kernel
theorem dX15_become_63 : decode cX15_become 63 = .ok (.aload_n 0, 1) := by decide +kernel
theorem dX15_become_64 : decode cX15_become 64 = .ok (.getfield 17, 3) := by decide +kernel
theorem dX15_become_67 : decode cX15_become 67 = .ok (.iconst 0, 1) := by decide +kernel
theorem dX15_become_68 : decode cX15_become 68 = .ok (.daload, 1) := by decide +kernel
theorem dX15_become_69 : decode cX15_become 69 = .ok (.putfield 49, 3) := by decide +kernel
theorem dX15_become_72 : decode cX15_become 72 = .ok (.aload_n 0, 1) := by decide +kernel
theorem dX15_become_73 : decode cX15_become 73 = .ok (.aload_n 0, 1) := by decide +kernel
theorem dX15_become_74 : decode cX15_become 74 = .ok (.getfield 21, 3) := by decide +kernel
theorem dX15_become_77 : decode cX15_become 77 = .ok (.iconst 0, 1) := by decide +kernel
theorem dX15_become_78 : decode cX15_become 78 = .ok (.faload, 1) := by decide +kernel
theorem dX15_become_79 : decode cX15_become 79 = .ok (.putfield 52, 3) := by decide +kernel
theorem dX15_become_82 : decode cX15_become 82 = .ok (.return_, 1) := by decide +kernel
theorem hsu_X2_begin : yX2_begin.name ≠ "<init>" ∧ (parseMethodDescriptor yX2_begin.desc).map (fun d => d.parameters.length) = some 0 := by decide +kernel
theorem hsu_X5_begin : yX5_begin.name ≠ "<init>" ∧ (parseMethodDescriptor yX5_begin.desc).map (fun d => d.parameters.length) = some 0 := by decide +kernel
theorem xt_X2_begin (l : Launch) (D : va_G) (dA : Nat → ClassId) (C : tp_C) (d : md_T) (j : xj_T) (m : Nat) (hC : mOK C) (hm : m < cN C) : xC l D dA yX2_begin cX2_begin 1 none 0 [.ref (jA j (xr m 0))] C d j none C (uAD (uAI d 24 m (-1)) 25 m FP.dconst0) j := by
  refine xx_start (own := RX2) (by decide) rfl (Nat.le_of_ble_eq_true rfl) ?_
  intro p0 e0 s0 mid bl0 me0 co0 ls S hr hlk G hl
  have hx := S.1; have hb := S.2.1; have hml := S.2.2.1; have hown := S.2.2.2.1; have hts := S.2.2.2.2; have hN := hC.n
  have hl : lv_has ls 1 [(0, .ref (jA j (xr m 0)))] := hl
  refine lv_aload_n hx hb dX2_begin_0 rfl (lv_at hl 0 rfl) ?_
  refine lv_iconst (v := (-1)) hx hb dX2_begin_1 (by decide) ?_
  refine xx_put11 S G (mm := m) (by omega) hN (hC.k _) 8 (by decide) q229 rfl rfl rfl rfl (xs_lamp (by omega)) dX2_begin_2 (fun H locs G => ?_)
  refine lv_aload_n hx hb dX2_begin_5 rfl (lv_at hl 0 rfl) ?_
  refine lv_dconst0 hx hb dX2_begin_6 ?_
  refine xx_put11 S G (mm := m) (by omega) hN (hC.k _) 9 (by decide) q231 rfl rfl rfl rfl (xs_apart (by omega)) dX2_begin_7 (fun H locs G => ?_)
  exact xx_vret S hr hlk G rfl dX2_begin_10
theorem xt_X5_begin_2 (l : Launch) (D : va_G) (dA : Nat → ClassId) (C : tp_C) (d : md_T) (j : xj_T) (m : Nat) (hC : mOK C) (hm : m < cN C) (hk : cK C m = 2) (hV : vOK C) : xC l D dA yX5_begin cX5_begin 1 none 1 [.ref (jA j (xr m 0))] C d j none C (uAF (uAD (uAD (uAI d 24 m (-1)) 25 m FP.dconst0) 17 m (cB C m)) 18 m (FP.d2f (cB C m))) j := by
  refine xx_start (own := RX5) (by decide) rfl (Nat.le_of_ble_eq_true rfl) ?_
  intro p0 e0 s0 mid bl0 me0 co0 ls S hr hlk G hl
  have hx := S.1; have hb := S.2.1; have hml := S.2.2.1; have hown := S.2.2.2.1; have hts := S.2.2.2.2; have hN := hC.n
  have hl : lv_has ls 1 [(0, .ref (jA j (xr m 0)))] := hl
  refine lv_aload_n hx hb dX5_begin_0 rfl (lv_at hl 0 rfl) ?_
  refine xx_callSU (mm := m) (As := []) (rest := []) S G (by omega) hN (hC.k _) (xt_X2_begin l D dA C d j m hC (by omega)) q699 q691 q700 q690 q58 q716 hsu_X2_begin ⟨Nat.le_of_ble_eq_true rfl, Nat.le_of_ble_eq_true rfl⟩ rfl hl.1 rfl (Nat.le_of_ble_eq_true rfl) dX5_begin_1 ⟨Nat.zero_le _, Nat.zero_le _⟩ (fun H locs G => ?_)
  refine W.eq (g2 := F0 mid 4 ls []) rfl ?_
  refine lv_aload_n hx hb dX5_begin_4 rfl (lv_at hl 0 rfl) ?_
  refine lv_aload_n hx hb dX5_begin_5 rfl (lv_at hl 0 rfl) ?_
  refine xx_getM S G (mm := m) (ref := "TwinPanel$Keeper") (by omega) hN (hC.k _) 2 (by rw [hk]; decide) (by rw [hk]; exact hts _ q216) (by rw [hk]; exact fun x h => u_same (hts _ q217) x h) (v := .double (cB C m)) rfl dX5_begin_6 ?_
  refine xx_putM S G (mm := m) (ref := "TwinPanel$Keeper") (by omega) hN (hC.k _) 11 (by rw [hk]; decide) (by rw [hk]; exact hts _ q291) (by rw [hk]; exact fun x h => h) (by rw [hk]; rfl) (by rw [hk]; rfl) (by rw [hk]; rfl) (xs_state (by simp [hk]) (by omega)) dX5_begin_9 (fun H locs G => ?_)
  refine lv_aload_n hx hb dX5_begin_12 rfl (lv_at hl 0 rfl) ?_
  refine lv_aload_n hx hb dX5_begin_13 rfl (lv_at hl 0 rfl) ?_
  refine xx_getM S G (mm := m) (ref := "TwinPanel$Keeper") (by omega) hN (hC.k _) 2 (by rw [hk]; decide) (by rw [hk]; exact hts _ q216) (by rw [hk]; exact fun x h => u_same (hts _ q217) x h) (v := .double (cB C m)) rfl dX5_begin_14 ?_
  refine lv_d2f hx hb dX5_begin_17 (nF_d2f (bD_n (hV.b m))) ?_
  refine xx_putM S G (mm := m) (ref := "TwinPanel$Keeper") (by omega) hN (hC.k _) 12 (by rw [hk]; decide) (by rw [hk]; exact hts _ q302) (by rw [hk]; exact fun x h => h) (by rw [hk]; rfl) (by rw [hk]; rfl) (by rw [hk]; rfl) (xs_stateF (by simp [hk]) (by omega)) dX5_begin_18 (fun H locs G => ?_)
  exact xx_vret S hr hlk G rfl dX5_begin_21
theorem xt_X5_begin_3 (l : Launch) (D : va_G) (dA : Nat → ClassId) (C : tp_C) (d : md_T) (j : xj_T) (m : Nat) (hC : mOK C) (hm : m < cN C) (hk : cK C m = 3) (hV : vOK C) : xC l D dA yX5_begin cX5_begin 1 none 1 [.ref (jA j (xr m 0))] C d j none C (uAF (uAD (uAD (uAI d 24 m (-1)) 25 m FP.dconst0) 17 m (cB C m)) 18 m (FP.d2f (cB C m))) j := by
  refine xx_start (own := RX5) (by decide) rfl (Nat.le_of_ble_eq_true rfl) ?_
  intro p0 e0 s0 mid bl0 me0 co0 ls S hr hlk G hl
  have hx := S.1; have hb := S.2.1; have hml := S.2.2.1; have hown := S.2.2.2.1; have hts := S.2.2.2.2; have hN := hC.n
  have hl : lv_has ls 1 [(0, .ref (jA j (xr m 0)))] := hl
  refine lv_aload_n hx hb dX5_begin_0 rfl (lv_at hl 0 rfl) ?_
  refine xx_callSU (mm := m) (As := []) (rest := []) S G (by omega) hN (hC.k _) (xt_X2_begin l D dA C d j m hC (by omega)) q699 q691 q700 q690 q58 q716 hsu_X2_begin ⟨Nat.le_of_ble_eq_true rfl, Nat.le_of_ble_eq_true rfl⟩ rfl hl.1 rfl (Nat.le_of_ble_eq_true rfl) dX5_begin_1 ⟨Nat.zero_le _, Nat.zero_le _⟩ (fun H locs G => ?_)
  refine W.eq (g2 := F0 mid 4 ls []) rfl ?_
  refine lv_aload_n hx hb dX5_begin_4 rfl (lv_at hl 0 rfl) ?_
  refine lv_aload_n hx hb dX5_begin_5 rfl (lv_at hl 0 rfl) ?_
  refine xx_getM S G (mm := m) (ref := "TwinPanel$Keeper") (by omega) hN (hC.k _) 2 (by rw [hk]; decide) (by rw [hk]; exact hts _ q216) (by rw [hk]; exact fun x h => u_same (hts _ q217) x h) (v := .double (cB C m)) rfl dX5_begin_6 ?_
  refine xx_putM S G (mm := m) (ref := "TwinPanel$Keeper") (by omega) hN (hC.k _) 11 (by rw [hk]; decide) (by rw [hk]; exact hts _ q291) (by rw [hk]; exact fun x h => h) (by rw [hk]; rfl) (by rw [hk]; rfl) (by rw [hk]; rfl) (xs_state (by simp [hk]) (by omega)) dX5_begin_9 (fun H locs G => ?_)
  refine lv_aload_n hx hb dX5_begin_12 rfl (lv_at hl 0 rfl) ?_
  refine lv_aload_n hx hb dX5_begin_13 rfl (lv_at hl 0 rfl) ?_
  refine xx_getM S G (mm := m) (ref := "TwinPanel$Keeper") (by omega) hN (hC.k _) 2 (by rw [hk]; decide) (by rw [hk]; exact hts _ q216) (by rw [hk]; exact fun x h => u_same (hts _ q217) x h) (v := .double (cB C m)) rfl dX5_begin_14 ?_
  refine lv_d2f hx hb dX5_begin_17 (nF_d2f (bD_n (hV.b m))) ?_
  refine xx_putM S G (mm := m) (ref := "TwinPanel$Keeper") (by omega) hN (hC.k _) 12 (by rw [hk]; decide) (by rw [hk]; exact hts _ q302) (by rw [hk]; exact fun x h => h) (by rw [hk]; rfl) (by rw [hk]; rfl) (by rw [hk]; rfl) (xs_stateF (by simp [hk]) (by omega)) dX5_begin_18 (fun H locs G => ?_)
  exact xx_vret S hr hlk G rfl dX5_begin_21
theorem xt_X5_begin_13 (l : Launch) (D : va_G) (dA : Nat → ClassId) (C : tp_C) (d : md_T) (j : xj_T) (m : Nat) (hC : mOK C) (hm : m < cN C) (hk : cK C m = 13) (hV : vOK C) : xC l D dA yX5_begin cX5_begin 1 none 1 [.ref (jA j (xr m 0))] C d j none C (uAF (uAD (uAD (uAI d 24 m (-1)) 25 m FP.dconst0) 17 m (cB C m)) 18 m (FP.d2f (cB C m))) j := by
  refine xx_start (own := RX5) (by decide) rfl (Nat.le_of_ble_eq_true rfl) ?_
  intro p0 e0 s0 mid bl0 me0 co0 ls S hr hlk G hl
  have hx := S.1; have hb := S.2.1; have hml := S.2.2.1; have hown := S.2.2.2.1; have hts := S.2.2.2.2; have hN := hC.n
  have hl : lv_has ls 1 [(0, .ref (jA j (xr m 0)))] := hl
  refine lv_aload_n hx hb dX5_begin_0 rfl (lv_at hl 0 rfl) ?_
  refine xx_callSU (mm := m) (As := []) (rest := []) S G (by omega) hN (hC.k _) (xt_X2_begin l D dA C d j m hC (by omega)) q699 q691 q700 q690 q58 q716 hsu_X2_begin ⟨Nat.le_of_ble_eq_true rfl, Nat.le_of_ble_eq_true rfl⟩ rfl hl.1 rfl (Nat.le_of_ble_eq_true rfl) dX5_begin_1 ⟨Nat.zero_le _, Nat.zero_le _⟩ (fun H locs G => ?_)
  refine W.eq (g2 := F0 mid 4 ls []) rfl ?_
  refine lv_aload_n hx hb dX5_begin_4 rfl (lv_at hl 0 rfl) ?_
  refine lv_aload_n hx hb dX5_begin_5 rfl (lv_at hl 0 rfl) ?_
  refine xx_getM S G (mm := m) (ref := "TwinPanel$Keeper") (by omega) hN (hC.k _) 2 (by rw [hk]; decide) (by rw [hk]; exact hts _ q216) (by rw [hk]; exact fun x h => u_same (hts _ q217) x h) (v := .double (cB C m)) rfl dX5_begin_6 ?_
  refine xx_putM S G (mm := m) (ref := "TwinPanel$Keeper") (by omega) hN (hC.k _) 11 (by rw [hk]; decide) (by rw [hk]; exact hts _ q291) (by rw [hk]; exact fun x h => h) (by rw [hk]; rfl) (by rw [hk]; rfl) (by rw [hk]; rfl) (xs_state (by simp [hk]) (by omega)) dX5_begin_9 (fun H locs G => ?_)
  refine lv_aload_n hx hb dX5_begin_12 rfl (lv_at hl 0 rfl) ?_
  refine lv_aload_n hx hb dX5_begin_13 rfl (lv_at hl 0 rfl) ?_
  refine xx_getM S G (mm := m) (ref := "TwinPanel$Keeper") (by omega) hN (hC.k _) 2 (by rw [hk]; decide) (by rw [hk]; exact hts _ q216) (by rw [hk]; exact fun x h => u_same (hts _ q217) x h) (v := .double (cB C m)) rfl dX5_begin_14 ?_
  refine lv_d2f hx hb dX5_begin_17 (nF_d2f (bD_n (hV.b m))) ?_
  refine xx_putM S G (mm := m) (ref := "TwinPanel$Keeper") (by omega) hN (hC.k _) 12 (by rw [hk]; decide) (by rw [hk]; exact hts _ q302) (by rw [hk]; exact fun x h => h) (by rw [hk]; rfl) (by rw [hk]; rfl) (by rw [hk]; rfl) (xs_stateF (by simp [hk]) (by omega)) dX5_begin_18 (fun H locs G => ?_)
  exact xx_vret S hr hlk G rfl dX5_begin_21
theorem xt_X5_begin_11 (l : Launch) (D : va_G) (dA : Nat → ClassId) (C : tp_C) (d : md_T) (j : xj_T) (m : Nat) (hC : mOK C) (hm : m < cN C) (hk : cK C m = 11) (hV : vOK C) : xC l D dA yX5_begin cX5_begin 1 none 1 [.ref (jA j (xr m 0))] C d j none C (uAD (uAI d 24 m (-1)) 25 m FP.dconst0) (sNf (sWf j m (cB C m)) m (FP.d2f (cB C m))) := by
  refine xx_start (own := RX5) (by decide) rfl (Nat.le_of_ble_eq_true rfl) ?_
  intro p0 e0 s0 mid bl0 me0 co0 ls S hr hlk G hl
  have hx := S.1; have hb := S.2.1; have hml := S.2.2.1; have hown := S.2.2.2.1; have hts := S.2.2.2.2; have hN := hC.n
  have hl : lv_has ls 1 [(0, .ref (jA j (xr m 0)))] := hl
  refine lv_aload_n hx hb dX5_begin_0 rfl (lv_at hl 0 rfl) ?_
  refine xx_callSU (mm := m) (As := []) (rest := []) S G (by omega) hN (hC.k _) (xt_X2_begin l D dA C d j m hC (by omega)) q699 q691 q700 q690 q58 q716 hsu_X2_begin ⟨Nat.le_of_ble_eq_true rfl, Nat.le_of_ble_eq_true rfl⟩ rfl hl.1 rfl (Nat.le_of_ble_eq_true rfl) dX5_begin_1 ⟨Nat.zero_le _, Nat.zero_le _⟩ (fun H locs G => ?_)
  refine W.eq (g2 := F0 mid 4 ls []) rfl ?_
  refine lv_aload_n hx hb dX5_begin_4 rfl (lv_at hl 0 rfl) ?_
  refine lv_aload_n hx hb dX5_begin_5 rfl (lv_at hl 0 rfl) ?_
  refine xx_getM S G (mm := m) (ref := "TwinPanel$Keeper") (by omega) hN (hC.k _) 2 (by rw [hk]; decide) (by rw [hk]; exact hts _ q216) (by rw [hk]; exact fun x h => u_same (hts _ q217) x h) (v := .double (cB C m)) rfl dX5_begin_6 ?_
  refine xx_putM S G (mm := m) (ref := "TwinPanel$Keeper") (by omega) hN (hC.k _) 11 (by rw [hk]; decide) (by rw [hk]; exact hts _ q291) (by rw [hk]; exact fun x h => h) (by rw [hk]; rfl) (by rw [hk]; rfl) (by rw [hk]; rfl) (xs_Wf11 hk (by omega)) dX5_begin_9 (fun H locs G => ?_)
  refine lv_aload_n hx hb dX5_begin_12 rfl (lv_at hl 0 rfl) ?_
  refine lv_aload_n hx hb dX5_begin_13 rfl (lv_at hl 0 rfl) ?_
  refine xx_getM S G (mm := m) (ref := "TwinPanel$Keeper") (by omega) hN (hC.k _) 2 (by rw [hk]; decide) (by rw [hk]; exact hts _ q216) (by rw [hk]; exact fun x h => u_same (hts _ q217) x h) (v := .double (cB C m)) rfl dX5_begin_14 ?_
  refine lv_d2f hx hb dX5_begin_17 (nF_d2f (bD_n (hV.b m))) ?_
  refine xx_putM S G (mm := m) (ref := "TwinPanel$Keeper") (by omega) hN (hC.k _) 12 (by rw [hk]; decide) (by rw [hk]; exact hts _ q302) (by rw [hk]; exact fun x h => h) (by rw [hk]; rfl) (by rw [hk]; rfl) (by rw [hk]; rfl) (xs_Nf11 hk (by omega)) dX5_begin_18 (fun H locs G => ?_)
  exact xx_vret S hr hlk G rfl dX5_begin_21
theorem xt_X17_begin (l : Launch) (D : va_G) (dA : Nat → ClassId) (C : tp_C) (d : md_T) (j : xj_T) (m : Nat) (hC : mOK C) (hm : m < cN C) (hk : cK C m = 13) (hV : vOK C) : xC l D dA yX17_begin cX17_begin 1 none 2 [.ref (jA j (xr m 0))] C d j none C (uAI (uAF (uAD (uAD (uAI d 24 m (-1)) 25 m FP.dconst0) 17 m (cB C m)) 18 m (FP.d2f (cB C m))) 23 m (FP.d2i (cS C m))) j := by
  refine xx_start (own := RX17) (by decide) rfl (Nat.le_of_ble_eq_true rfl) ?_
  intro p0 e0 s0 mid bl0 me0 co0 ls S hr hlk G hl
  have hx := S.1; have hb := S.2.1; have hml := S.2.2.1; have hown := S.2.2.2.1; have hts := S.2.2.2.2; have hN := hC.n
  have hl : lv_has ls 1 [(0, .ref (jA j (xr m 0)))] := hl
  refine lv_aload_n hx hb dX17_begin_0 rfl (lv_at hl 0 rfl) ?_
  refine xx_callSU (mm := m) (As := []) (rest := []) S G (by omega) hN (hC.k _) (xt_X5_begin_13 l D dA C d j m hC (by omega) hk hV) q706 q1749 q570 q697 q61 q698 hsu_X5_begin ⟨Nat.le_of_ble_eq_true rfl, Nat.le_of_ble_eq_true rfl⟩ rfl hl.1 rfl (Nat.le_of_ble_eq_true rfl) dX17_begin_1 ⟨Nat.zero_le _, Nat.zero_le _⟩ (fun H locs G => ?_)
  refine W.eq (g2 := F0 mid 4 ls []) rfl ?_
  refine lv_aload_n hx hb dX17_begin_4 rfl (lv_at hl 0 rfl) ?_
  refine lv_aload_n hx hb dX17_begin_5 rfl (lv_at hl 0 rfl) ?_
  refine xx_getM S G (mm := m) (ref := "TwinPanel$Noise") (by omega) hN (hC.k _) 1 (by rw [hk]; decide) (by rw [hk]; exact hts _ q211) (by rw [hk]; exact fun x h => u_same (hts _ q212) x h) (v := .double (cS C m)) rfl dX17_begin_6 ?_
  refine lv_d2i hx hb dX17_begin_9 ?_
  refine xx_putM S G (mm := m) (ref := "TwinPanel$Noise") (by omega) hN (hC.k _) 13 (by rw [hk]; decide) (by rw [hk]; exact hts _ q554) (by rw [hk]; exact fun x h => h) (by rw [hk]; rfl) (by rw [hk]; rfl) (by rw [hk]; rfl) (xs_seed hk (by omega)) dX17_begin_10 (fun H locs G => ?_)
  exact xx_vret S hr hlk G rfl dX17_begin_13
theorem xt_X15_become (l : Launch) (D : va_G) (dA : Nat → ClassId) (C : tp_C) (d : md_T) (j : xj_T) (m : Nat) {n : Nat} (hC : mOK C) (hm : m < cN C) (hk : cK C m = 11) (hd : jDn j m = some n) (hn1 : 1 ≤ n) (hn16 : n ≤ 16) (hDn : dnOK j) : xC l D dA yX15_become cX15_become 2 none 1 [.ref (jA j (xr m 0))] C d j none C (uAF (uAD (rwI d m (n - 1)) 21 (16 * m + (n - 1)) (jWn j m)) 22 (16 * m + (n - 1)) (jNn j m)) (sNf (sWf j m (dAD (uAF (uAD (rwI d m (n - 1)) 21 (16 * m + (n - 1)) (jWn j m)) 22 (16 * m + (n - 1)) (jNn j m)) 21 (16 * m))) m (dAF (uAF (uAD (rwI d m (n - 1)) 21 (16 * m + (n - 1)) (jWn j m)) 22 (16 * m + (n - 1)) (jNn j m)) 22 (16 * m))) := by
  refine xx_start (own := RX15) (by decide) rfl (Nat.le_of_ble_eq_true rfl) ?_
  intro p0 e0 s0 mid bl0 me0 co0 ls S hr hlk G hl
  have hx := S.1; have hb := S.2.1; have hml := S.2.2.1; have hown := S.2.2.2.1; have hts := S.2.2.2.2; have hN := hC.n
  have hl : lv_has ls 2 [(0, .ref (jA j (xr m 0)))] := hl
  refine lv_aload_n hx hb dX15_become_0 rfl (lv_at hl 0 rfl) ?_
  refine xx_getM S G (mm := m) (ref := "TwinPanel$Delay") (by omega) hN (hC.k _) 13 (by rw [hk]; decide) (by rw [hk]; exact hts _ q504) (by rw [hk]; exact fun x h => h) (v := .ref (jA j (xr m 4))) (xV_11_13 hk hd) dX15_become_1 ?_
  refine xx_alen S G (r := xr m 4) (xr_lt (by decide) (Nat.lt_of_lt_of_le (by omega) hN)) (xW_m (by decide) (by omega) (xME_11_4 hk hd)) 2 rfl (n := n) rfl dX15_become_4 ?_
  refine lv_istore_n (lv' := [(1, .int (nI n)), (0, .ref (jA j (xr m 0)))]) hx hb dX15_become_5 rfl hl (by decide) rfl (fun ls hl => ?_)
  refine lv_aload_n hx hb dX15_become_6 rfl (lv_at hl 1 rfl) ?_
  refine xx_getM S G (mm := m) (ref := "TwinPanel$Delay") (by omega) hN (hC.k _) 13 (by rw [hk]; decide) (by rw [hk]; exact hts _ q504) (by rw [hk]; exact fun x h => h) (v := .ref (jA j (xr m 4))) (xV_11_13 hk hd) dX15_become_7 ?_
  refine lv_iconst (v := nI 1) hx hb dX15_become_10 (by decide) ?_
  refine lv_aload_n hx hb dX15_become_11 rfl (lv_at hl 1 rfl) ?_
  refine xx_getM S G (mm := m) (ref := "TwinPanel$Delay") (by omega) hN (hC.k _) 13 (by rw [hk]; decide) (by rw [hk]; exact hts _ q504) (by rw [hk]; exact fun x h => h) (v := .ref (jA j (xr m 4))) (xV_11_13 hk hd) dX15_become_12 ?_
  refine lv_iconst (v := nI 0) hx hb dX15_become_15 (by decide) ?_
  refine lv_iload_n hx hb dX15_become_16 rfl (lv_at hl 0 rfl) ?_
  refine lv_iconst (v := nI 1) hx hb dX15_become_17 (by decide) ?_
  refine nn_sub hx hb (by omega) dX15_become_18 ?_
  refine xx_copyd (rest := []) (sp := 1) (dp := 0) (k := n - 1) S G (r := xr m 4) (xr_lt (by decide) (Nat.lt_of_lt_of_le (by omega) hN)) (xW_m (by decide) (by omega) (xME_11_4 hk hd)) q1116 q1118 q1117 q77 (by omega) (by omega) (by omega) (xs_dw (f := shf (dAD d 21) m (n - 1)) hk hd hDn hm (cpy_in _ _ _ _) (cpy_z _ _ _ _) (shf_out _ hn16)) hl.1 (Nat.le_of_ble_eq_true rfl) (Nat.le_of_ble_eq_true rfl) dX15_become_19 (fun H locs G => ?_)
  refine lv_aload_n hx hb dX15_become_22 rfl (lv_at hl 1 rfl) ?_
  refine xx_getM S G (mm := m) (ref := "TwinPanel$Delay") (by omega) hN (hC.k _) 14 (by rw [hk]; decide) (by rw [hk]; exact hts _ q505) (by rw [hk]; exact fun x h => h) (v := .ref (jA j (xr m 5))) (xV_11_14 hk hd) dX15_become_23 ?_
  refine lv_iconst (v := nI 1) hx hb dX15_become_26 (by decide) ?_
  refine lv_aload_n hx hb dX15_become_27 rfl (lv_at hl 1 rfl) ?_
  refine xx_getM S G (mm := m) (ref := "TwinPanel$Delay") (by omega) hN (hC.k _) 14 (by rw [hk]; decide) (by rw [hk]; exact hts _ q505) (by rw [hk]; exact fun x h => h) (v := .ref (jA j (xr m 5))) (xV_11_14 hk hd) dX15_become_28 ?_
  refine lv_iconst (v := nI 0) hx hb dX15_become_31 (by decide) ?_
  refine lv_iload_n hx hb dX15_become_32 rfl (lv_at hl 0 rfl) ?_
  refine lv_iconst (v := nI 1) hx hb dX15_become_33 (by decide) ?_
  refine nn_sub hx hb (by omega) dX15_become_34 ?_
  refine xx_copyf (rest := []) (sp := 1) (dp := 0) (k := n - 1) S G (r := xr m 5) (xr_lt (by decide) (Nat.lt_of_lt_of_le (by omega) hN)) (xW_m (by decide) (by omega) (xME_11_5 hk hd)) q1116 q1118 q1117 q77 (by omega) (by omega) (by omega) (xs_dn (f := shf (dAF d 22) m (n - 1)) hk hd hDn hm (cpy_in _ _ _ _) (cpy_z _ _ _ _) (shf_out _ hn16)) hl.1 (Nat.le_of_ble_eq_true rfl) (Nat.le_of_ble_eq_true rfl) dX15_become_35 (fun H locs G => ?_)
  refine lv_aload_n hx hb dX15_become_38 rfl (lv_at hl 1 rfl) ?_
  refine xx_getM S G (mm := m) (ref := "TwinPanel$Delay") (by omega) hN (hC.k _) 13 (by rw [hk]; decide) (by rw [hk]; exact hts _ q504) (by rw [hk]; exact fun x h => h) (v := .ref (jA j (xr m 4))) (xV_11_13 hk hd) dX15_become_39 ?_
  refine lv_iload_n hx hb dX15_become_42 rfl (lv_at hl 0 rfl) ?_
  refine lv_iconst (v := nI 1) hx hb dX15_become_43 (by decide) ?_
  refine nn_sub hx hb (by omega) dX15_become_44 ?_
  refine lv_aload_n hx hb dX15_become_45 rfl (lv_at hl 1 rfl) ?_
  refine xx_getM S G (mm := m) (ref := "TwinPanel$Delay") (by omega) hN (hC.k _) 15 (by rw [hk]; decide) (by rw [hk]; exact hts _ q506) (by rw [hk]; exact fun x h => h) (v := .double (jWn j m)) (xV_11_15 hk) dX15_become_46 ?_
  refine xx_dast S G (r := xr m 4) (xr_lt (by decide) (Nat.lt_of_lt_of_le (by omega) hN)) (xW_m (by decide) (by omega) (xME_11_4 hk hd)) 2 rfl (i := n - 1) (by omega) (by omega) (xs_dw hk hd hDn hm (vf_in _ _ _ (by omega)) (vf_z _ _ _ (by omega)) (vf_out _ _ (by omega))) dX15_become_49 (fun H locs G => ?_)
  refine lv_aload_n hx hb dX15_become_50 rfl (lv_at hl 1 rfl) ?_
  refine xx_getM S G (mm := m) (ref := "TwinPanel$Delay") (by omega) hN (hC.k _) 14 (by rw [hk]; decide) (by rw [hk]; exact hts _ q505) (by rw [hk]; exact fun x h => h) (v := .ref (jA j (xr m 5))) (xV_11_14 hk hd) dX15_become_51 ?_
  refine lv_iload_n hx hb dX15_become_54 rfl (lv_at hl 0 rfl) ?_
  refine lv_iconst (v := nI 1) hx hb dX15_become_55 (by decide) ?_
  refine nn_sub hx hb (by omega) dX15_become_56 ?_
  refine lv_aload_n hx hb dX15_become_57 rfl (lv_at hl 1 rfl) ?_
  refine xx_getM S G (mm := m) (ref := "TwinPanel$Delay") (by omega) hN (hC.k _) 16 (by rw [hk]; decide) (by rw [hk]; exact hts _ q507) (by rw [hk]; exact fun x h => h) (v := .float (jNn j m)) (xV_11_16 hk) dX15_become_58 ?_
  refine xx_fast S G (r := xr m 5) (xr_lt (by decide) (Nat.lt_of_lt_of_le (by omega) hN)) (xW_m (by decide) (by omega) (xME_11_5 hk hd)) 3 rfl (i := n - 1) (by omega) (by omega) (xs_dn hk hd hDn hm (vf_in _ _ _ (by omega)) (vf_z _ _ _ (by omega)) (vf_out _ _ (by omega))) dX15_become_61 (fun H locs G => ?_)
  refine lv_aload_n hx hb dX15_become_62 rfl (lv_at hl 1 rfl) ?_
  refine lv_aload_n hx hb dX15_become_63 rfl (lv_at hl 1 rfl) ?_
  refine xx_getM S G (mm := m) (ref := "TwinPanel$Delay") (by omega) hN (hC.k _) 13 (by rw [hk]; decide) (by rw [hk]; exact hts _ q504) (by rw [hk]; exact fun x h => h) (v := .ref (jA j (xr m 4))) (xV_11_13 hk hd) dX15_become_64 ?_
  refine lv_iconst (v := nI 0) hx hb dX15_become_67 (by decide) ?_
  refine xx_dald S G (r := xr m 4) (xr_lt (by decide) (Nat.lt_of_lt_of_le (by omega) hN)) (xW_m (by decide) (by omega) (xME_11_4 hk hd)) 2 rfl (i := 0) (by omega) (by omega) (v := dAD (uAF (uAD (rwI d m (n - 1)) 21 (16 * m + (n - 1)) (jWn j m)) 22 (16 * m + (n - 1)) (jNn j m)) 21 (16 * m)) (if_pos (by omega)) dX15_become_68 ?_
  refine xx_putM S G (mm := m) (ref := "TwinPanel$Delay") (by omega) hN (hC.k _) 11 (by rw [hk]; decide) (by rw [hk]; exact hts _ q296) (by rw [hk]; exact fun x h => u_same (hts _ q297) x h) (by rw [hk]; rfl) (by rw [hk]; rfl) (by rw [hk]; rfl) (xs_Wf11 hk (by omega)) dX15_become_69 (fun H locs G => ?_)
  refine lv_aload_n hx hb dX15_become_72 rfl (lv_at hl 1 rfl) ?_
  refine lv_aload_n hx hb dX15_become_73 rfl (lv_at hl 1 rfl) ?_
  refine xx_getM S G (mm := m) (ref := "TwinPanel$Delay") (by omega) hN (hC.k _) 14 (by rw [hk]; decide) (by rw [hk]; exact hts _ q505) (by rw [hk]; exact fun x h => h) (v := .ref (jA j (xr m 5))) (xV_11_14 hk hd) dX15_become_74 ?_
  refine lv_iconst (v := nI 0) hx hb dX15_become_77 (by decide) ?_
  refine xx_fald S G (r := xr m 5) (xr_lt (by decide) (Nat.lt_of_lt_of_le (by omega) hN)) (xW_m (by decide) (by omega) (xME_11_5 hk hd)) 3 rfl (i := 0) (by omega) (by omega) (v := dAF (uAF (uAD (rwI d m (n - 1)) 21 (16 * m + (n - 1)) (jWn j m)) 22 (16 * m + (n - 1)) (jNn j m)) 22 (16 * m)) (if_pos (by omega)) dX15_become_78 ?_
  refine xx_putM S G (mm := m) (ref := "TwinPanel$Delay") (by omega) hN (hC.k _) 12 (by rw [hk]; decide) (by rw [hk]; exact hts _ q305) (by rw [hk]; exact fun x h => u_same (hts _ q306) x h) (by rw [hk]; rfl) (by rw [hk]; rfl) (by rw [hk]; rfl) (xs_Nf11 hk (by omega)) dX15_become_79 (fun H locs G => ?_)
  exact xx_vret S hr hlk G rfl dX15_become_82
