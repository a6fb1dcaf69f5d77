set_option maxRecDepth 100000
set_option maxHeartbeats 4000000
theorem dX0_cord_0 : decode cX0_cord 0 = .ok (.aload_n 0, 1) := by decide +kernel
theorem dX0_cord_1 : decode cX0_cord 1 = .ok (.iload_n 1, 1) := by decide +kernel
theorem dX0_cord_2 : decode cX0_cord 2 = .ok (.invokevirtual 138, 3) := by decide +kernel
theorem dX0_cord_5 : decode cX0_cord 5 = .ok (.ifCond .eq 16, 3) := by decide +kernel
theorem dX0_cord_8 : decode cX0_cord 8 = .ok (.iload_n 3, 1) := by decide +kernel
theorem dX0_cord_9 : decode cX0_cord 9 = .ok (.iconst (-1), 1) := by decide +kernel
theorem dX0_cord_10 : decode cX0_cord 10 = .ok (.if_icmp .eq 14, 3) := by decide +kernel
theorem dX0_cord_13 : decode cX0_cord 13 = .ok (.aload_n 0, 1) := by decide +kernel
theorem dX0_cord_14 : decode cX0_cord 14 = .ok (.iload_n 3, 1) := by decide +kernel
theorem dX0_cord_15 : decode cX0_cord 15 = .ok (.invokevirtual 138, 3) := by decide +kernel
theorem dX0_cord_18 : decode cX0_cord 18 = .ok (.ifCond .ne 6, 3) := by decide +kernel
theorem dX0_cord_21 : decode cX0_cord 21 = .ok (.bipush (-101), 2) := by decide +kernel
theorem dX0_cord_23 : decode cX0_cord 23 = .ok (.ireturn, 1) := by decide +kernel
theorem dX0_cord_24 : decode cX0_cord 24 = .ok (.iload_n 2, 1) := by decide +kernel
theorem dX0_cord_25 : decode cX0_cord 25 = .ok (.iconst 0, 1) := by decide +kernel
theorem dX0_cord_26 : decode cX0_cord 26 = .ok (.iconst 5, 1) := by decide +kernel
theorem dX0_cord_27 : decode cX0_cord 27 = .ok (.invokestatic 94, 3) := by decide +kernel
theorem dX0_cord_30 : decode cX0_cord 30 = .ok (.ifCond .ne 6, 3) := by decide +kernel
theorem dX0_cord_33 : decode cX0_cord 33 = .ok (.bipush (-102), 2) := by decide +kernel
theorem dX0_cord_35 : decode cX0_cord 35 = .ok (.ireturn, 1) := by decide +kernel
theorem dX0_cord_36 : decode cX0_cord 36 = .ok (.aload_n 0, 1) := by decide +kernel
theorem dX0_cord_37 : decode cX0_cord 37 = .ok (.getfield 88, 3) := by decide +kernel
theorem dX0_cord_40 : decode cX0_cord 40 = .ok (.ifCond .eq 6, 3) := by decide +kernel
theorem dX0_cord_43 : decode cX0_cord 43 = .ok (.bipush (-103), 2) := by decide +kernel
theorem dX0_cord_45 : decode cX0_cord 45 = .ok (.ireturn, 1) := by decide +kernel
theorem dX0_cord_46 : decode cX0_cord 46 = .ok (.aload_n 0, 1) := by decide +kernel
theorem dX0_cord_47 : decode cX0_cord 47 = .ok (.getfield 55, 3) := by decide +kernel
theorem dX0_cord_50 : decode cX0_cord 50 = .ok (.iload_n 1, 1) := by decide +kernel
theorem dX0_cord_51 : decode cX0_cord 51 = .ok (.aaload, 1) := by decide +kernel
theorem dX0_cord_52 : decode cX0_cord 52 = .ok (.astore 5, 2) := by decide +kernel
theorem dX0_cord_54 : decode cX0_cord 54 = .ok (.aload 5, 2) := by decide +kernel
theorem dX0_cord_56 : decode cX0_cord 56 = .ok (.getfield 142, 3) := by decide +kernel
theorem dX0_cord_59 : decode cX0_cord 59 = .ok (.iload_n 2, 1) := by decide +kernel
theorem dX0_cord_60 : decode cX0_cord 60 = .ok (.iload_n 3, 1) := by decide +kernel
theorem dX0_cord_61 : decode cX0_cord 61 = .ok (.iconst (-1), 1) := by decide +kernel
theorem dX0_cord_62 : decode cX0_cord 62 = .ok (.if_icmp .ne 7, 3) := by decide +kernel
theorem dX0_cord_65 : decode cX0_cord 65 = .ok (.aconst_null, 1) := by decide +kernel
theorem dX0_cord_66 : decode cX0_cord 66 = .ok (.goto 9, 3) := by decide +kernel
theorem dX0_cord_69 : decode cX0_cord 69 = .ok (.aload_n 0, 1) := by decide +kernel
theorem dX0_cord_70 : decode cX0_cord 70 = .ok (.getfield 55, 3) := by decide +kernel
theorem dX0_cord_73 : decode cX0_cord 73 = .ok (.iload_n 3, 1) := by decide +kernel
theorem dX0_cord_74 : decode cX0_cord 74 = .ok (.aaload, 1) := by decide +kernel
theorem dX0_cord_75 : decode cX0_cord 75 = .ok (.aastore, 1) := by decide +kernel
theorem dX0_cord_76 : decode cX0_cord 76 = .ok (.aload 5, 2) := by decide +kernel
theorem dX0_cord_78 : decode cX0_cord 78 = .ok (.getfield 145, 3) := by decide +kernel
theorem dX0_cord_81 : decode cX0_cord 81 = .ok (.iload_n 2, 1) := by decide +kernel
theorem dX0_cord_82 : decode cX0_cord 82 = .ok (.iload_n 3, 1) := by decide +kernel
theorem dX0_cord_83 : decode cX0_cord 83 = .ok (.iastore, 1) := by decide +kernel
theorem dX0_cord_84 : decode cX0_cord 84 = .ok (.aload 5, 2) := by decide +kernel
theorem dX0_cord_86 : decode cX0_cord 86 = .ok (.getfield 148, 3) := by decide +kernel
theorem dX0_cord_89 : decode cX0_cord 89 = .ok (.iload_n 2, 1) := by decide +kernel
theorem dX0_cord_90 : decode cX0_cord 90 = .ok (.iload_n 3, 1) := by decide +kernel
theorem dX0_cord_91 : decode cX0_cord 91 = .ok (.iconst (-1), 1) := by decide +kernel
theorem dX0_cord_92 : decode cX0_cord 92 = .ok (.if_icmp .eq 12, 3) := by decide +kernel
theorem dX0_cord_95 : decode cX0_cord 95 = .ok (.iload 4, 2) := by decide +kernel
theorem dX0_cord_97 : decode cX0_cord 97 = .ok (.ifCond .eq 7, 3) := by decide +kernel
theorem dX0_cord_100 : decode cX0_cord 100 = .ok (.iconst 1, 1) := by decide +kernel
theorem dX0_cord_101 : decode cX0_cord 101 = .ok (.goto 4, 3) := by decide +kernel
theorem dX0_cord_104 : decode cX0_cord 104 = .ok (.iconst 0, 1) := by decide +kernel
theorem dX0_cord_105 : decode cX0_cord 105 = .ok (.bastore, 1) := by decide +kernel
theorem dX0_cord_106 : decode cX0_cord 106 = .ok (.iconst 1, 1) := by decide +kernel
theorem dX0_cord_107 : decode cX0_cord 107 = .ok (.ireturn, 1) := by decide +kernel
theorem xt_X0_cord (l : Launch) (D : va_G) (dA : Nat → ClassId) (C : tp_C) (d : md_T) (j : xj_T) (m : Int32) (i : Int32) (o : Int32) (t : Bool) (hC : mOK C) : xC l D dA yX0_cord cX0_cord 6 (some .int) 2 [.ref (jA j 0), .int m, .int i, .int o, .int (bI t)] C d j (some (.int (cdR C m i o))) (cdC C m i o t) d j := by
  refine xx_start (own := RX0) (by decide) rfl (Nat.le_of_ble_eq_true rfl) ?_
  intro p0 e0 s0 mid bl0 me0 co0 ls S hr hlk G hl
  have hx := S.1; have hb := S.2.1; have hml := S.2.2.1; have hown := S.2.2.2.1; have hts := S.2.2.2.2; have hN := hC.n
  have hl : lv_has ls 6 [(0, .ref (jA j 0)), (1, .int m), (2, .int i), (3, .int o), (4, .int (bI t))] := hl
  have hMo := hC.mo
  have hZ := hC.z
  refine lv_aload_n hx hb dX0_cord_0 rfl (lv_at hl 0 rfl) ?_
  refine lv_iload_n hx hb dX0_cord_1 rfl (lv_at hl 1 rfl) ?_
  refine xx_callP (As := [.int m]) (rest := []) S G (xt_X0_isModule l D dA C d j m hC) q575 q577 qs0 q578 hd_X0_isModule ⟨Nat.le_of_ble_eq_true rfl, Nat.le_of_ble_eq_true rfl⟩ rfl hl.1 rfl (Nat.le_of_ble_eq_true rfl) dX0_cord_2 ⟨Nat.zero_le _, Nat.zero_le _⟩ (fun H locs G => ?_)
  refine W.eq (g2 := F0 mid 5 ls [.int (bI (inB m (nI 0) (nI (cN C) - nI 1)))]) rfl ?_
  refine bb_eq (tgt := 21) hx hb dX0_cord_5 (by decide) (fun c_5 => ?_) (fun c_5 => ?_)
  · refine lv_bipush (v := (-101)) hx hb dX0_cord_21 (by decide) ?_
    exact xx_iret S hr hlk G (by simp [cdR, cdC, cdB, imB, oN, c_5] <;> rfl) (xL_e (by simp [cdR, cdC, cdB, imB, oN, c_5] <;> rfl) rfl rfl) dX0_cord_23
  · obtain ⟨u, hu, rfl⟩ := im_nat c_5 hN
    have ij_u : ixN (nI u) = u := ixN_nI (by omega)
    refine lv_iload_n hx hb dX0_cord_8 rfl (lv_at hl 3 rfl) ?_
    refine lv_iconst (v := (-1)) hx hb dX0_cord_9 (by decide) ?_
    refine lv_icmp_eq (tgt := 24) hx hb dX0_cord_10 (by decide) (fun c_10 => ?_) (fun c_10 => ?_)
    · subst c_10
      refine lv_iload_n hx hb dX0_cord_24 rfl (lv_at hl 2 rfl) ?_
      refine lv_iconst (v := nI 0) hx hb dX0_cord_25 (by decide) ?_
      refine lv_iconst (v := nI 5) hx hb dX0_cord_26 (by decide) ?_
      refine sC_call (As := [.int i, .int (nI 0), .int (nI 5)]) (rest := []) S (st_X0_isIn l i (nI 0) (nI 5)) q149 q150 q52 q151 hd_X0_isIn ⟨Nat.le_of_ble_eq_true rfl, Nat.le_of_ble_eq_true rfl⟩ rfl hl.1 rfl (Nat.le_of_ble_eq_true rfl) dX0_cord_27 ⟨Nat.zero_le _, Nat.zero_le _⟩ ?_
      refine W.eq (g2 := F0 mid 30 ls [.int (bI (inB i (nI 0) (nI 5)))]) rfl ?_
      refine bb_ne (tgt := 36) hx hb dX0_cord_30 (by decide) (fun c_30 => ?_) (fun c_30 => ?_)
      · obtain ⟨i1, -, hi1, rfl⟩ := in_nat c_30 (by decide) (by decide)
        have ij_i1 : ixN (nI i1) = i1 := ixN_nI (by omega)
        refine lv_aload_n hx hb dX0_cord_36 rfl (lv_at hl 0 rfl) ?_
        refine xx_getP S G 2 (by decide) q91 rfl (v := .int (nI (cM C))) rfl dX0_cord_37 ?_
        refine nz_eq (tgt := 46) hx hb (by omega) dX0_cord_40 (by decide) (fun c_40 => ?_) (fun c_40 => ?_)
        · refine lv_aload_n hx hb dX0_cord_46 rfl (lv_at hl 0 rfl) ?_
          refine xx_getP S G 0 (by decide) q89 rfl (v := .ref (jA j 1)) rfl dX0_cord_47 ?_
          refine lv_iload_n hx hb dX0_cord_50 rfl (lv_at hl 1 rfl) ?_
          refine xx_aald S G (r := 1) (by decide) (xW_p (by decide) rfl) (i := u) (by omega) (by decide) (o := some (jA j (xr u 0))) (if_pos (by omega)) dX0_cord_51 ?_
          refine W.eq (g2 := F0 mid 52 ls [.ref (jA j (xr u 0))]) rfl ?_
          refine lv_astore (lv' := [(5, .ref (jA j (xr u 0))), (0, .ref (jA j 0)), (1, .int (nI u)), (2, .int (nI i1)), (3, .int (-1)), (4, .int (bI t))]) hx hb dX0_cord_52 hl (by decide) rfl (fun ls hl => ?_)
          refine lv_aload hx hb dX0_cord_54 (lv_at hl 0 rfl) ?_
          refine xx_get11 S G (mm := u) (by omega) hN (hC.k _) 3 (by decide) q220 rfl (v := .ref (jA j (xr u 1))) rfl dX0_cord_56 ?_
          refine lv_iload_n hx hb dX0_cord_59 rfl (lv_at hl 3 rfl) ?_
          refine lv_iload_n hx hb dX0_cord_60 rfl (lv_at hl 4 rfl) ?_
          refine lv_iconst (v := (-1)) hx hb dX0_cord_61 (by decide) ?_
          refine lv_icmp_ne (tgt := 69) hx hb dX0_cord_62 (by decide) (fun c_62 => by exfalso; exact c_62 rfl) (fun c_62 => ?_)
          refine lv_null hx hb dX0_cord_65 ?_
          refine lv_goto (tgt := 75) hx hb dX0_cord_66 (by decide) ?_
          refine ww_aastN S (xG_w G) (r := xr u 1) (xr_lt (by decide) (Nat.lt_of_lt_of_le hu hN)) (xW_m (by decide) hu rfl) (i := i1) (by omega) (by decide) dX0_cord_75 (fun H locs G => ?_)
          refine lv_aload hx hb dX0_cord_76 (lv_at hl 0 rfl) ?_
          refine ww_get S G (r := xr u 0) (xr_lt (by decide) (Nat.lt_of_lt_of_le hu hN)) (by rw [wr_s_ne (xr_ne (by decide))]; exact xW_m (by decide) hu rfl) (hC.k u) 4 (by decide) q222 rfl (v := .ref (jA j (xr u 2))) (xFs_at (Nat.lt_of_lt_of_le (by decide) (k_11 _)) rfl) dX0_cord_78 ?_
          refine lv_iload_n hx hb dX0_cord_81 rfl (lv_at hl 3 rfl) ?_
          refine lv_iload_n hx hb dX0_cord_82 rfl (lv_at hl 4 rfl) ?_
          refine ww_iast S G (r := xr u 2) (xr_lt (by decide) (Nat.lt_of_lt_of_le hu hN)) (by rw [wr_s_ne (xr_ne (by decide))]; exact xW_m (by decide) hu rfl) 0 rfl (i := i1) (by omega) (by decide) dX0_cord_83 (fun H locs G => ?_)
          have G : xG D dA (xA dA C d j) (wF C (up2 (cF C) u i1 none)) d j s0 H locs := wG_x (xs_cord (o := none) hu) G
          refine lv_aload hx hb dX0_cord_84 (lv_at hl 0 rfl) ?_
          refine xx_get11 S G (mm := u) hu hN (hC.k _) 5 (by decide) q224 rfl (v := .ref (jA j (xr u 3))) rfl dX0_cord_86 ?_
          refine lv_iload_n hx hb dX0_cord_89 rfl (lv_at hl 3 rfl) ?_
          refine lv_iload_n hx hb dX0_cord_90 rfl (lv_at hl 4 rfl) ?_
          refine lv_iconst (v := (-1)) hx hb dX0_cord_91 (by decide) ?_
          refine lv_icmp_eq (tgt := 104) hx hb dX0_cord_92 (by decide) (fun c_92 => ?_) (fun c_92 => by exfalso; exact c_92 rfl)
          refine lv_iconst (v := nI 0) hx hb dX0_cord_104 (by decide) ?_
          refine xx_zast S G (r := xr u 3) (xr_lt (by decide) (Nat.lt_of_lt_of_le hu hN)) (xW_m (by decide) hu rfl) 1 rfl (i := i1) (by omega) (by decide) (by first | rfl | exact bb_vp _) (xs_tu (v := false) hu) dX0_cord_105 (fun H locs G => ?_)
          refine lv_iconst (v := nI 1) hx hb dX0_cord_106 (by decide) ?_
          exact xx_iret S hr hlk G (by simp [cdR, cdC, cdB, imB, oN, c_5, ij_u, c_30, ij_i1, c_40, c_62, c_92] <;> rfl) (xL_e (by simp [cdR, cdC, cdB, imB, oN, c_5, ij_u, c_30, ij_i1, c_40, c_62, c_92] <;> rfl) rfl rfl) dX0_cord_107
        · refine lv_bipush (v := (-103)) hx hb dX0_cord_43 (by decide) ?_
          exact xx_iret S hr hlk G (by simp [cdR, cdC, cdB, imB, oN, c_5, ij_u, c_30, ij_i1, c_40] <;> rfl) (xL_e (by simp [cdR, cdC, cdB, imB, oN, c_5, ij_u, c_30, ij_i1, c_40] <;> rfl) rfl rfl) dX0_cord_45
      · refine lv_bipush (v := (-102)) hx hb dX0_cord_33 (by decide) ?_
        exact xx_iret S hr hlk G (by simp [cdR, cdC, cdB, imB, oN, c_5, ij_u, c_30] <;> rfl) (xL_e (by simp [cdR, cdC, cdB, imB, oN, c_5, ij_u, c_30] <;> rfl) rfl rfl) dX0_cord_35
    · refine lv_aload_n hx hb dX0_cord_13 rfl (lv_at hl 0 rfl) ?_
      refine lv_iload_n hx hb dX0_cord_14 rfl (lv_at hl 3 rfl) ?_
      refine xx_callP (As := [.int o]) (rest := []) S G (xt_X0_isModule l D dA C d j o hC) q575 q577 qs0 q578 hd_X0_isModule ⟨Nat.le_of_ble_eq_true rfl, Nat.le_of_ble_eq_true rfl⟩ rfl hl.1 rfl (Nat.le_of_ble_eq_true rfl) dX0_cord_15 ⟨Nat.zero_le _, Nat.zero_le _⟩ (fun H locs G => ?_)
      refine W.eq (g2 := F0 mid 18 ls [.int (bI (inB o (nI 0) (nI (cN C) - nI 1)))]) rfl ?_
      refine bb_ne (tgt := 24) hx hb dX0_cord_18 (by decide) (fun c_18 => ?_) (fun c_18 => ?_)
      · obtain ⟨q, hq, rfl⟩ := im_nat c_18 hN
        have ij_q : ixN (nI q) = q := ixN_nI (by omega)
        refine lv_iload_n hx hb dX0_cord_24 rfl (lv_at hl 2 rfl) ?_
        refine lv_iconst (v := nI 0) hx hb dX0_cord_25 (by decide) ?_
        refine lv_iconst (v := nI 5) hx hb dX0_cord_26 (by decide) ?_
        refine sC_call (As := [.int i, .int (nI 0), .int (nI 5)]) (rest := []) S (st_X0_isIn l i (nI 0) (nI 5)) q149 q150 q52 q151 hd_X0_isIn ⟨Nat.le_of_ble_eq_true rfl, Nat.le_of_ble_eq_true rfl⟩ rfl hl.1 rfl (Nat.le_of_ble_eq_true rfl) dX0_cord_27 ⟨Nat.zero_le _, Nat.zero_le _⟩ ?_
        refine W.eq (g2 := F0 mid 30 ls [.int (bI (inB i (nI 0) (nI 5)))]) rfl ?_
        refine bb_ne (tgt := 36) hx hb dX0_cord_30 (by decide) (fun c_30 => ?_) (fun c_30 => ?_)
        · obtain ⟨i1, -, hi1, rfl⟩ := in_nat c_30 (by decide) (by decide)
          have ij_i1 : ixN (nI i1) = i1 := ixN_nI (by omega)
          refine lv_aload_n hx hb dX0_cord_36 rfl (lv_at hl 0 rfl) ?_
          refine xx_getP S G 2 (by decide) q91 rfl (v := .int (nI (cM C))) rfl dX0_cord_37 ?_
          refine nz_eq (tgt := 46) hx hb (by omega) dX0_cord_40 (by decide) (fun c_40 => ?_) (fun c_40 => ?_)
          · refine lv_aload_n hx hb dX0_cord_46 rfl (lv_at hl 0 rfl) ?_
            refine xx_getP S G 0 (by decide) q89 rfl (v := .ref (jA j 1)) rfl dX0_cord_47 ?_
            refine lv_iload_n hx hb dX0_cord_50 rfl (lv_at hl 1 rfl) ?_
            refine xx_aald S G (r := 1) (by decide) (xW_p (by decide) rfl) (i := u) (by omega) (by decide) (o := some (jA j (xr u 0))) (if_pos (by omega)) dX0_cord_51 ?_
            refine W.eq (g2 := F0 mid 52 ls [.ref (jA j (xr u 0))]) rfl ?_
            refine lv_astore (lv' := [(5, .ref (jA j (xr u 0))), (0, .ref (jA j 0)), (1, .int (nI u)), (2, .int (nI i1)), (3, .int (nI q)), (4, .int (bI t))]) hx hb dX0_cord_52 hl (by decide) rfl (fun ls hl => ?_)
            refine lv_aload hx hb dX0_cord_54 (lv_at hl 0 rfl) ?_
            refine xx_get11 S G (mm := u) (by omega) hN (hC.k _) 3 (by decide) q220 rfl (v := .ref (jA j (xr u 1))) rfl dX0_cord_56 ?_
            refine lv_iload_n hx hb dX0_cord_59 rfl (lv_at hl 3 rfl) ?_
            refine lv_iload_n hx hb dX0_cord_60 rfl (lv_at hl 4 rfl) ?_
            refine lv_iconst (v := (-1)) hx hb dX0_cord_61 (by decide) ?_
            refine lv_icmp_ne (tgt := 69) hx hb dX0_cord_62 (by decide) (fun c_62 => ?_) (fun c_62 => by exfalso; exact nI_nm1 (by omega) c_62)
            refine lv_aload_n hx hb dX0_cord_69 rfl (lv_at hl 1 rfl) ?_
            refine xx_getP S G 0 (by decide) q89 rfl (v := .ref (jA j 1)) rfl dX0_cord_70 ?_
            refine lv_iload_n hx hb dX0_cord_73 rfl (lv_at hl 4 rfl) ?_
            refine xx_aald S G (r := 1) (by decide) (xW_p (by decide) rfl) (i := q) (by omega) (by decide) (o := some (jA j (xr q 0))) (if_pos (by omega)) dX0_cord_74 ?_
            refine W.eq (g2 := F0 mid 75 ls [.ref (jA j (xr q 0)), .int (nI i1), .ref (jA j (xr u 1))]) rfl ?_
            refine ww_aast S (xG_w G) (r := xr u 1) (xr_lt (by decide) (Nat.lt_of_lt_of_le hu hN)) (xW_m (by decide) hu rfl) (rv := xr q 0) (xr_lt (by decide) (Nat.lt_of_lt_of_le hq hN)) (xW_m (by decide) hq rfl) (hC.k q) (i := i1) (by omega) (by decide) dX0_cord_75 (fun H locs G => ?_)
            refine lv_aload hx hb dX0_cord_76 (lv_at hl 0 rfl) ?_
            refine ww_get S G (r := xr u 0) (xr_lt (by decide) (Nat.lt_of_lt_of_le hu hN)) (by rw [wr_s_ne (xr_ne (by decide))]; exact xW_m (by decide) hu rfl) (hC.k u) 4 (by decide) q222 rfl (v := .ref (jA j (xr u 2))) (xFs_at (Nat.lt_of_lt_of_le (by decide) (k_11 _)) rfl) dX0_cord_78 ?_
            refine lv_iload_n hx hb dX0_cord_81 rfl (lv_at hl 3 rfl) ?_
            refine lv_iload_n hx hb dX0_cord_82 rfl (lv_at hl 4 rfl) ?_
            refine ww_iast S G (r := xr u 2) (xr_lt (by decide) (Nat.lt_of_lt_of_le hu hN)) (by rw [wr_s_ne (xr_ne (by decide))]; exact xW_m (by decide) hu rfl) 0 rfl (i := i1) (by omega) (by decide) dX0_cord_83 (fun H locs G => ?_)
            have G : xG D dA (xA dA C d j) (wF C (up2 (cF C) u i1 (some q))) d j s0 H locs := wG_x (xs_cord (o := (some q)) hu) G
            refine lv_aload hx hb dX0_cord_84 (lv_at hl 0 rfl) ?_
            refine xx_get11 S G (mm := u) hu hN (hC.k _) 5 (by decide) q224 rfl (v := .ref (jA j (xr u 3))) rfl dX0_cord_86 ?_
            refine lv_iload_n hx hb dX0_cord_89 rfl (lv_at hl 3 rfl) ?_
            refine lv_iload_n hx hb dX0_cord_90 rfl (lv_at hl 4 rfl) ?_
            refine lv_iconst (v := (-1)) hx hb dX0_cord_91 (by decide) ?_
            refine lv_icmp_eq (tgt := 104) hx hb dX0_cord_92 (by decide) (fun c_92 => by exfalso; exact nI_nm1 (by omega) c_92) (fun c_92 => ?_)
            refine lv_iload hx hb dX0_cord_95 (lv_at hl 5 rfl) ?_
            refine bb_eq (tgt := 104) hx hb dX0_cord_97 (by decide) (fun c_97 => ?_) (fun c_97 => ?_)
            · refine lv_iconst (v := nI 0) hx hb dX0_cord_104 (by decide) ?_
              refine xx_zast S G (r := xr u 3) (xr_lt (by decide) (Nat.lt_of_lt_of_le hu hN)) (xW_m (by decide) hu rfl) 1 rfl (i := i1) (by omega) (by decide) (by first | rfl | exact bb_vp _) (xs_tu (v := false) hu) dX0_cord_105 (fun H locs G => ?_)
              refine lv_iconst (v := nI 1) hx hb dX0_cord_106 (by decide) ?_
              exact xx_iret S hr hlk G (by simp [cdR, cdC, cdB, imB, oN, c_5, ij_u, c_10, c_18, ij_q, c_30, ij_i1, c_40, c_62, c_92, c_97] <;> rfl) (xL_e (by simp [cdR, cdC, cdB, imB, oN, c_5, ij_u, c_10, c_18, ij_q, c_30, ij_i1, c_40, c_62, c_92, c_97] <;> rfl) rfl rfl) dX0_cord_107
            · refine lv_iconst (v := nI 1) hx hb dX0_cord_100 (by decide) ?_
              refine lv_goto (tgt := 105) hx hb dX0_cord_101 (by decide) ?_
              refine xx_zast S G (r := xr u 3) (xr_lt (by decide) (Nat.lt_of_lt_of_le hu hN)) (xW_m (by decide) hu rfl) 1 rfl (i := i1) (by omega) (by decide) (by first | rfl | exact bb_vp _) (xs_tu (v := true) hu) dX0_cord_105 (fun H locs G => ?_)
              refine lv_iconst (v := nI 1) hx hb dX0_cord_106 (by decide) ?_
              exact xx_iret S hr hlk G (by simp [cdR, cdC, cdB, imB, oN, c_5, ij_u, c_10, c_18, ij_q, c_30, ij_i1, c_40, c_62, c_92, c_97] <;> rfl) (xL_e (by simp [cdR, cdC, cdB, imB, oN, c_5, ij_u, c_10, c_18, ij_q, c_30, ij_i1, c_40, c_62, c_92, c_97] <;> rfl) rfl rfl) dX0_cord_107
          · refine lv_bipush (v := (-103)) hx hb dX0_cord_43 (by decide) ?_
            exact xx_iret S hr hlk G (by simp [cdR, cdC, cdB, imB, oN, c_5, ij_u, c_10, c_18, ij_q, c_30, ij_i1, c_40] <;> rfl) (xL_e (by simp [cdR, cdC, cdB, imB, oN, c_5, ij_u, c_10, c_18, ij_q, c_30, ij_i1, c_40] <;> rfl) rfl rfl) dX0_cord_45
        · refine lv_bipush (v := (-102)) hx hb dX0_cord_33 (by decide) ?_
          exact xx_iret S hr hlk G (by simp [cdR, cdC, cdB, imB, oN, c_5, ij_u, c_10, c_18, ij_q, c_30] <;> rfl) (xL_e (by simp [cdR, cdC, cdB, imB, oN, c_5, ij_u, c_10, c_18, ij_q, c_30] <;> rfl) rfl rfl) dX0_cord_35
      · refine lv_bipush (v := (-101)) hx hb dX0_cord_21 (by decide) ?_
        exact xx_iret S hr hlk G (by simp [cdR, cdC, cdB, imB, oN, c_5, ij_u, c_10, c_18] <;> rfl) (xL_e (by simp [cdR, cdC, cdB, imB, oN, c_5, ij_u, c_10, c_18] <;> rfl) rfl rfl) dX0_cord_23
